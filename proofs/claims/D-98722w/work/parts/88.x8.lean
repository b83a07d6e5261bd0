/-! THE COMPONENT: new songs. Written by mod/m88.py -/
set_option maxRecDepth 100000
/-- what new songs write -/
def xns_ (X : Nat) (b : Nat) (_ : Int) : Prop := b = X + 4 ∨ b = X + 5
section
variable {G : JG} {X : Nat} {σ : JH} {T : XT} {r s : Int → Int}
theorem Fr_.nx {σ σ' : JH} (h : Fr_ (xns_ X) σ σ') : Fr_ (xs_ X) σ σ' := h.mono (fun b k q => by unfold xns_ at q; unfold xs_; omega)
theorem Fr_.n5 {σ σ' : JH} (h : Fr_ (fun b _ => b = X + 5) σ σ') : Fr_ (xns_ X) σ σ' := h.mono (fun b k q => Or.inr q)
theorem Fr_.x5 {σ σ' : JH} (h : Fr_ (fun b _ => b = X + 5) σ σ') : Fr_ (xs_ X) σ σ' := h.n5.nx
/-- the songs taken stand in a row -/
def GR_ (X : Nat) (σ : JH) (l : List Int) : Prop := ∀ P : Int → Prop, (∀ j, 0 ≤ j → j < (l.length : Int) → P (iv_ σ (X + 4) j)) ↔ ∀ u, u ∈ l → P u
theorem GR_.fr {S : Nat → Int → Prop} {σ' : JH} {l : List Int} (h : GR_ X σ l) (f : Fr_ S σ σ') (hn : ∀ k, ¬ S (X + 4) k) : GR_ X σ' l := fun P => by
  rw [← h P]
  constructor
  · intro q j j0 j1; rw [← f.2.2.2.2 _ _ (hn j)]; exact q j j0 j1
  · intro q j j0 j1; rw [f.2.2.2.2 _ _ (hn j)]; exact q j j0 j1
theorem GR_.mem {l : List Int} (h : GR_ X σ l) {j : Int} (j0 : 0 ≤ j) (j1 : j < (l.length : Int)) : iv_ σ (X + 4) j ∈ l := (h (fun u => u ∈ l)).mpr (fun _ q => q) j j0 j1
theorem GR_.app {l : List Int} (h : GR_ X σ l) (v : Int) : GR_ X (pi_ σ (X + 4) l.length v) (l ++ [v]) := fun P => by
  have hl : ((l ++ [v]).length : Int) = l.length + 1 := by rw [List.length_append]; simp
  constructor
  · intro q u hu
    rcases List.mem_append.mp hu with hu | hu
    · refine (h P).mp (fun j j0 j1 => ?_) u hu
      have := q j j0 (by omega)
      rw [iv_pi, if_neg (by omega)] at this
      exact this
    · rw [List.mem_singleton.mp hu]
      have := q l.length (by omega) (by omega)
      rw [iv_pi, if_pos ⟨rfl, rfl⟩] at this
      exact this
  · intro q j j0 j1
    rw [iv_pi]
    by_cases e : j = (l.length : Int)
    · rw [if_pos ⟨rfl, e⟩]; exact q v (List.mem_append.mpr (Or.inr (List.mem_singleton.mpr rfl)))
    · rw [if_neg (fun w => e w.2)]; exact (h P).mpr (fun u hu => q u (List.mem_append.mpr (Or.inl hu))) j j0 (by omega)
theorem xo_power  {L : Int} {Q : Int → JH → Prop} (hX : XD_ G X σ T r s) (hW : RW_ r) (hD : DW_ r s) (hL : 0 ≤ L ∧ L ≤ 5)
    (hQ : Q (pw_ (r 0) L) σ) : CallI_ G 2 yX1_power cX1_power 4 (some .int) [A_ (some X), I_ L] σ Q := by
  refine call_go [some (A_ (some X)), some (I_ L), none, none] (by decide) (Nat.le_of_ble_eq_true rfl) rfl ?_
  have hR := hX.R
  have hn := hW.n
  have L4 : ∀ (fu : Nat) (n1 : Int) (k : Int), L - k < (fu : Int) → (0 ≤ k) → (k ≤ L) → (n1 = pw_ (r 0) k) → GoM_ G 2 yX1_power cX1_power 4 (some .int) σ (fun v σ' => ∃ x : Int, v = some (I_ x) ∧ Q x σ') 4 [some (A_ (some X)), some (I_ L), some (I_ n1), some (I_ k)] [] σ := by
    intro fu
    induction fu with
    | zero => intro n1 k hn h0 h1 hc; exact absurd hn (by omega)
    | succ fu ih =>
      intro n1 k hn h0 h1 hc
      refine g_il3 dX1_power_4 ?_
      refine g_il1 dX1_power_5 ?_
      refine g_icmp_ge (tgt := 25) dX1_power_6 (by decide) (by omega) (fun h6 => ?_) (fun h6 => ?_)
      · refine g_il2 dX1_power_25 ?_
        exact g_iret rfl dX1_power_26 ⟨_, rfl, by rw [show L = k by omega, ← hc] at hQ; exact hQ⟩
      refine g_il2 dX1_power_9 ?_
      refine g_al0 dX1_power_10 ?_
      refine f_getA 5 fk_X1_104 rfl hR.sh (fun _ _ => rfl) hX.f5 dX1_power_11 ?_
      refine f_getv 0 fk_X1_259 rfl hX.P.sh (fun _ _ => rfl) hX.P.n0 dX1_power_14 ?_
      refine g_imul dX1_power_17 ?_
      refine g_is2 dX1_power_18 (by decide) rfl ?_
      refine g_inc3 dX1_power_19 (by decide) rfl ?_
      refine g_goto (tgt := 4) dX1_power_22 (by decide) ?_
      exact ih _ _ (by omega) (by omega) (by omega) (by rw [pw_s _ h0, ← hc])
  refine g_iconst dX1_power_0 ?_
  refine g_is2 dX1_power_1 (by decide) rfl ?_
  refine g_iconst dX1_power_2 ?_
  refine g_is3 dX1_power_3 (by decide) rfl ?_
  exact L4 6 _ _ (by omega) (by omega) (by omega) rfl
theorem xo_rows  {cd L : Int} {Q : JH → Prop} (hX : XD_ G X σ T r s) (hW : RW_ r) (hD : DW_ r s) (hlt : ∀ a s, sh_ σ a = some s → a < sz_ σ) (hL : 0 ≤ L ∧ L ≤ 5) (hcd : 0 ≤ cd ∧ cd ≤ 100000)
    (hQ : ∀ σ', Fr_ (fun b _ => b = X + 5) σ σ' → (∀ j, 0 ≤ j → j < L → iv_ σ' (X + 5) j = rw_ (r 0) L.toNat cd j) → Q σ') : CallV_ G 2 yX1_rows cX1_rows 5 none [A_ (some X), I_ cd, I_ L] σ Q := by
  refine call_go [some (A_ (some X)), some (I_ cd), some (I_ L), none, none] (by decide) (Nat.le_of_ble_eq_true rfl) rfl ?_
  have hR := hX.R
  have hn := hW.n
  have L7 : ∀ (fu : Nat) (σ' : JH) (v : Int) (k : Int), k + 1 < (fu : Int) → (Fr_ (fun b _ => b = X + 5) σ σ') → (-1 ≤ k) → (k < L) → (0 ≤ v ∧ v ≤ 100000) → (∀ j, k < j → j < L → iv_ σ' (X + 5) j = rw_ (r 0) L.toNat cd j) → (∀ j, 0 ≤ j → j ≤ k → rw_ (r 0) L.toNat cd j = rw_ (r 0) (k + 1).toNat v j) → GoM_ G 2 yX1_rows cX1_rows 5 none σ (fun v σ' => v = none ∧ Q σ') 7 [some (A_ (some X)), some (I_ cd), some (I_ L), some (I_ v), some (I_ k)] [] σ' := by
    intro fu
    induction fu with
    | zero => intro σ' v k hn hF h0 h1 hv hr1 hr2; exact absurd hn (by omega)
    | succ fu ih =>
      intro σ' v k hn hF h0 h1 hv hr1 hr2
      have hX := hX.xs hF.x5 hlt
      have hR := hX.R
      have hlt := lt_fr hlt hF
      refine g_il4 dX1_rows_7 ?_
      refine g_if_lt (tgt := 44) dX1_rows_9 (by decide) (by omega) (fun h9 => ?_) (fun h9 => ?_)
      · exact g_vret rfl dX1_rows_44 ⟨rfl, hQ _ hF (fun j j0 j1 => hr1 j (by omega) j1)⟩
      refine g_al0 dX1_rows_12 ?_
      refine f_getA 10 fk_X1_31 rfl hR.sh (fun _ _ => rfl) hR.f10 dX1_rows_13 ?_
      refine g_il4 dX1_rows_16 ?_
      refine g_il3 dX1_rows_18 ?_
      refine g_al0 dX1_rows_19 ?_
      refine f_getA 5 fk_X1_104 rfl hR.sh (fun _ _ => rfl) hX.f5 dX1_rows_20 ?_
      refine f_getv 0 fk_X1_259 rfl hX.P.sh (fun _ _ => rfl) hX.P.n0 dX1_rows_23 ?_
      refine g_irem dX1_rows_26 (by omega) ?_
      have hdm := dm_ (a := v) (b := r 0) (by omega) (by omega)
      refine g_iast hR.a10 hR.g10 (by omega) dX1_rows_27 ?_
      have hX := hX.xs ((Fr_.rf (S := fun b _ => b = X + 5) (σ := σ')).pi (a := X + 5) (k := k) (x := v % r 0) rfl).x5 hlt
      refine g_il3 dX1_rows_28 ?_
      refine g_al0 dX1_rows_29 ?_
      refine f_getA 5 fk_X1_104 rfl hR.sh (fun _ _ => rfl) hX.f5 dX1_rows_30 ?_
      refine f_getv 0 fk_X1_259 rfl hX.P.sh (fun _ _ => rfl) hX.P.n0 dX1_rows_33 ?_
      refine g_idiv dX1_rows_36 (by omega) ?_
      refine g_is3 dX1_rows_37 (by decide) rfl ?_
      refine g_inc4 dX1_rows_38 (by decide) rfl ?_
      refine g_goto (tgt := 7) dX1_rows_41 (by decide) ?_
      have es : ∀ j, rw_ (r 0) (k + 1).toNat v j = if j = k then v % r 0 else rw_ (r 0) k.toNat (v / r 0) j := fun j => by rw [show (k + 1).toNat = k.toNat + 1 by omega]; simp only [rw_]; rw [show ((k.toNat : Nat) : Int) = k by omega]
      rw [show k + -1 = k - 1 by omega]
      refine ih _ _ _ (by omega) (hF.pi rfl) (by omega) (by omega) (by omega) (fun j g0 g1 => ?_) (fun j g0 g1 => ?_)
      · rw [iv_pi]
        by_cases hj : j = k
        · subst hj; rw [if_pos ⟨rfl, rfl⟩, hr2 j (by omega) (by omega), es, if_pos rfl]
        · rw [if_neg (by omega)]; exact hr1 j (by omega) g1
      · rw [hr2 j g0 (by omega), es, if_neg (by omega), show k - 1 + 1 = k by omega]
  refine g_il1 dX1_rows_0 ?_
  refine g_is3 dX1_rows_1 (by decide) rfl ?_
  refine g_il2 dX1_rows_2 ?_
  refine g_iconst dX1_rows_3 ?_
  refine g_isub dX1_rows_4 ?_
  refine g_is4 dX1_rows_5 (by decide) rfl ?_
  exact L7 6 _ _ _ (by omega) Fr_.rf (by omega) (by omega) hcd (fun j g0 g1 => by omega) (fun j g0 g1 => by rw [show L - 1 + 1 = L by omega])
theorem xo_unlike {L : Int} {a b : Int} {Q : Int → JH → Prop} (hX : XD_ G X σ T r s) (hW : RW_ r) (hD : DW_ r s) (hL : 0 ≤ L ∧ L ≤ 5) (ha : 0 ≤ a ∧ a < pw_ (r 0) L) (hb : 0 ≤ b ∧ b < pw_ (r 0) L)
    (hQ : Q (da_ (r 0) L.toNat a b) σ) : CallI_ G 2 yX1_unlike cX1_unlike 6 (some .int) [A_ (some X), I_ a, I_ b] σ Q := by
  refine call_go [some (A_ (some X)), some (I_ a), some (I_ b), none, none, none] (by decide) (Nat.le_of_ble_eq_true rfl) rfl ?_
  have hR := hX.R
  have hn := hW.n
  have L8 : ∀ (fu : Nat) (c : Int) (x : Int) (y : Int) (m : Nat), (m : Int) < (fu : Int) → (0 ≤ x ∧ x < pw_ (r 0) m) → (0 ≤ y ∧ y < pw_ (r 0) m) → ((m : Int) ≤ L) → (0 ≤ c ∧ c + m ≤ L) → (c + da_ (r 0) m x y = da_ (r 0) L.toNat a b) → GoM_ G 2 yX1_unlike cX1_unlike 6 (some .int) σ (fun v σ' => ∃ x : Int, v = some (I_ x) ∧ Q x σ') 8 [some (A_ (some X)), some (I_ a), some (I_ b), some (I_ c), some (I_ x), some (I_ y)] [] σ := by
    intro fu
    induction fu with
    | zero => intro c x y m hn hx hy hm hc hv; exact absurd hn (by omega)
    | succ fu ih =>
      intro c x y m hn hx hy hm hc hv
      have hpw := pw_in (n := r 0) (k := (m : Int)) (by omega) (by omega)
      refine g_il4 dX1_unlike_8 ?_
      refine g_il5 dX1_unlike_10 ?_
      refine g_icmp_eq (tgt := 73) dX1_unlike_12 (by decide) (by omega) (fun h12 => ?_) (fun h12 => ?_)
      · refine g_il3 dX1_unlike_73 ?_
        exact g_iret rfl dX1_unlike_74 ⟨_, rfl, by rw [show x = y by omega, da_self] at hv; rw [← hv, show c + 0 = c by omega] at hQ; exact hQ⟩
      refine g_il3 dX1_unlike_15 ?_
      refine g_il4 dX1_unlike_16 ?_
      refine g_al0 dX1_unlike_18 ?_
      refine f_getA 5 fk_X1_104 rfl hR.sh (fun _ _ => rfl) hX.f5 dX1_unlike_19 ?_
      refine f_getv 0 fk_X1_259 rfl hX.P.sh (fun _ _ => rfl) hX.P.n0 dX1_unlike_22 ?_
      refine g_irem dX1_unlike_25 (by omega) ?_
      have hdm := dm_ (a := x) (b := r 0) (by omega) (by omega)
      refine g_il5 dX1_unlike_26 ?_
      refine g_al0 dX1_unlike_28 ?_
      refine f_getA 5 fk_X1_104 rfl hR.sh (fun _ _ => rfl) hX.f5 dX1_unlike_29 ?_
      refine f_getv 0 fk_X1_259 rfl hX.P.sh (fun _ _ => rfl) hX.P.n0 dX1_unlike_32 ?_
      refine g_irem dX1_unlike_35 (by omega) ?_
      have hdn := dm_ (a := y) (b := r 0) (by omega) (by omega)
      refine g_icmp_eq (tgt := 43) dX1_unlike_36 (by decide) (by omega) (fun h36 => ?_) (fun h36 => ?_)
      · refine g_iconst dX1_unlike_43 ?_
        refine g_iadd dX1_unlike_44 ?_
        refine g_is3 dX1_unlike_45 (by decide) rfl ?_
        refine g_il4 dX1_unlike_46 ?_
        refine g_al0 dX1_unlike_48 ?_
        refine f_getA 5 fk_X1_104 rfl hR.sh (fun _ _ => rfl) hX.f5 dX1_unlike_49 ?_
        refine f_getv 0 fk_X1_259 rfl hX.P.sh (fun _ _ => rfl) hX.P.n0 dX1_unlike_52 ?_
        refine g_idiv dX1_unlike_55 (by omega) ?_
        refine g_is4 dX1_unlike_56 (by decide) rfl ?_
        refine g_il5 dX1_unlike_58 ?_
        refine g_al0 dX1_unlike_60 ?_
        refine f_getA 5 fk_X1_104 rfl hR.sh (fun _ _ => rfl) hX.f5 dX1_unlike_61 ?_
        refine f_getv 0 fk_X1_259 rfl hX.P.sh (fun _ _ => rfl) hX.P.n0 dX1_unlike_64 ?_
        refine g_idiv dX1_unlike_67 (by omega) ?_
        refine g_is5 dX1_unlike_68 (by decide) rfl ?_
        refine g_goto (tgt := 8) dX1_unlike_70 (by decide) ?_
        obtain ⟨m1, rfl⟩ : ∃ m1, m = m1 + 1 := by
          cases m with
          | zero => exfalso; have e : pw_ (r 0) ((0 : Nat) : Int) = 1 := rfl; omega
          | succ m1 => exact ⟨m1, rfl⟩
        have hx2 := pw_div (n := r 0) (x := x) (L := m1) (by omega) hx.1 hx.2
        have hy2 := pw_div (n := r 0) (x := y) (L := m1) (by omega) hy.1 hy.2
        simp only [da_] at hv
        rw [if_pos (by omega)] at hv
        exact ih _ _ _ m1 (by omega) hx2 hy2 (by omega) (by omega) (by omega)
      refine g_iconst dX1_unlike_39 ?_
      refine g_goto (tgt := 44) dX1_unlike_40 (by decide) ?_
      refine g_iadd dX1_unlike_44 ?_
      refine g_is3 dX1_unlike_45 (by decide) rfl ?_
      refine g_il4 dX1_unlike_46 ?_
      refine g_al0 dX1_unlike_48 ?_
      refine f_getA 5 fk_X1_104 rfl hR.sh (fun _ _ => rfl) hX.f5 dX1_unlike_49 ?_
      refine f_getv 0 fk_X1_259 rfl hX.P.sh (fun _ _ => rfl) hX.P.n0 dX1_unlike_52 ?_
      refine g_idiv dX1_unlike_55 (by omega) ?_
      refine g_is4 dX1_unlike_56 (by decide) rfl ?_
      refine g_il5 dX1_unlike_58 ?_
      refine g_al0 dX1_unlike_60 ?_
      refine f_getA 5 fk_X1_104 rfl hR.sh (fun _ _ => rfl) hX.f5 dX1_unlike_61 ?_
      refine f_getv 0 fk_X1_259 rfl hX.P.sh (fun _ _ => rfl) hX.P.n0 dX1_unlike_64 ?_
      refine g_idiv dX1_unlike_67 (by omega) ?_
      refine g_is5 dX1_unlike_68 (by decide) rfl ?_
      refine g_goto (tgt := 8) dX1_unlike_70 (by decide) ?_
      obtain ⟨m1, rfl⟩ : ∃ m1, m = m1 + 1 := by
        cases m with
        | zero => exfalso; have e : pw_ (r 0) ((0 : Nat) : Int) = 1 := rfl; omega
        | succ m1 => exact ⟨m1, rfl⟩
      have hx2 := pw_div (n := r 0) (x := x) (L := m1) (by omega) hx.1 hx.2
      have hy2 := pw_div (n := r 0) (x := y) (L := m1) (by omega) hy.1 hy.2
      simp only [da_] at hv
      rw [if_neg (by omega)] at hv
      exact ih _ _ _ m1 (by omega) hx2 hy2 (by omega) (by omega) (by omega)
  refine g_iconst dX1_unlike_0 ?_
  refine g_is3 dX1_unlike_1 (by decide) rfl ?_
  refine g_il1 dX1_unlike_2 ?_
  refine g_is4 dX1_unlike_3 (by decide) rfl ?_
  refine g_il2 dX1_unlike_5 ?_
  refine g_is5 dX1_unlike_6 (by decide) rfl ?_
  exact L8 6 _ _ _ L.toNat (by omega) (by rw [show ((L.toNat : Nat) : Int) = L by omega]; exact ha) (by rw [show ((L.toNat : Nat) : Int) = L by omega]; exact hb) (by omega) (by omega) (by omega)
theorem xo_isNew  {cd L a : Int} {Q : Int → JH → Prop} (hX : XD_ G X σ T r s) (hW : RW_ r) (hD : DW_ r s) (hlt : ∀ a s, sh_ σ a = some s → a < sz_ σ) (hL : 2 ≤ L ∧ L ≤ 5) (hcd : 0 ≤ cd ∧ cd ≤ 100000) (ha : 1 ≤ a ∧ a ≤ 5)
    (hQ : ∀ (z : Int) σ', Fr_ (fun b _ => b = X + 5) σ σ' → (z = 1 ∧ nw1_ r (s 0) L a cd = true) ∨ (z = 0 ∧ nw1_ r (s 0) L a cd = false) → Q z σ') : CallI_ G 7 yX1_isNew cX1_isNew 5 (some .boolean) [A_ (some X), I_ cd, I_ L, I_ a] σ Q := by
  refine call_go [some (A_ (some X)), some (I_ cd), some (I_ L), some (I_ a), none] (by decide) (Nat.le_of_ble_eq_true rfl) rfl ?_
  have hR := hX.R
  have hn := hW.n
  refine g_al0 dX1_isNew_0 ?_
  refine g_il1 dX1_isNew_1 ?_
  refine g_il2 dX1_isNew_2 ?_
  refine g_callV2V (d' := 2) lk_X1_262 hR.sh rfl (rm_lt (by decide) (by decide)) (Nat.le_of_ble_eq_true rfl) dX1_isNew_3 ?_
  refine xo_rows hX hW hD hlt (by omega) hcd (fun σ1 hF hrw => ?_)
  have hX := hX.xs hF.x5 hlt
  have hR := hX.R
  have hd0 := hD.n
  have L9 : ∀ (fu : Nat) (i : Int), r 4 - i < (fu : Int) → (0 ≤ i) → (i ≤ r 4) → (∀ j, 0 ≤ j → j < i → r (10 + 7 * j) = L → a ≤ da_ (r 0) L.toNat cd (cd_ r j (s 0) L)) → GoM_ G 7 yX1_isNew cX1_isNew 5 (some .boolean) σ (fun v σ' => ∃ x : Int, v = some (I_ x) ∧ Q x σ') 9 [some (A_ (some X)), some (I_ cd), some (I_ L), some (I_ a), some (I_ i)] [] σ1 := by
    intro fu
    induction fu with
    | zero => intro i hn h0 h1 hv; exact absurd hn (by omega)
    | succ fu ih =>
      intro i hn h0 h1 hv
      refine g_il4 dX1_isNew_9 ?_
      refine g_al0 dX1_isNew_11 ?_
      refine f_getA 5 fk_X1_104 rfl hR.sh (fun _ _ => rfl) hX.f5 dX1_isNew_12 ?_
      refine f_getA 4 fk_X1_122 rfl hX.P.sh (fun _ _ => rfl) hX.P.f4 dX1_isNew_15 ?_
      refine g_callV0I (d' := 2) lk_X1_127 hX.P.l0.1 rfl (rm_lt (by decide) (by decide)) (Nat.le_of_ble_eq_true rfl) dX1_isNew_18 ?_
      refine js_size hX.P.l0 ?_
      refine g_icmp_ge (tgt := 70) dX1_isNew_21 (by decide) (by omega) (fun h21 => ?_) (fun h21 => ?_)
      · refine g_iconst dX1_isNew_70 ?_
        exact g_zret rfl (by omega) dX1_isNew_71 ⟨_, rfl, hQ _ _ hF (Or.inl ⟨rfl, (al_iff (by omega)).mpr fun k k0 k1 => decide_eq_true (hv k k0 (by omega))⟩)⟩
      refine g_al0 dX1_isNew_24 ?_
      refine f_getA 5 fk_X1_104 rfl hR.sh (fun _ _ => rfl) hX.f5 dX1_isNew_25 ?_
      refine g_il4 dX1_isNew_28 ?_
      refine g_callV1I (d' := 5) lk_X1_196 hX.P.sh rfl (rm_lt (by decide) (by decide)) (Nat.le_of_ble_eq_true rfl) dX1_isNew_30 ?_
      refine xp_length hX.P hW (by omega) ?_
      have hl := hW.len (i := i) (by omega) (by omega)
      refine g_il2 dX1_isNew_33 ?_
      refine g_icmp_ne (tgt := 64) dX1_isNew_34 (by decide) (by omega) (fun h34 => ?_) (fun h34 => ?_)
      · refine g_inc4 dX1_isNew_64 (by decide) rfl ?_
        refine g_goto (tgt := 9) dX1_isNew_67 (by decide) ?_
        refine ih _ (by omega) (by omega) (by omega) (fun j j0 j1 => ?_)
        by_cases hj : j = i
        · subst hj; intro q; omega
        · exact hv j j0 (by omega)
      refine g_al0 dX1_isNew_37 ?_
      refine f_getA 5 fk_X1_104 rfl hR.sh (fun _ _ => rfl) hX.f5 dX1_isNew_38 ?_
      refine g_al0 dX1_isNew_41 ?_
      refine f_getA 10 fk_X1_31 rfl hR.sh (fun _ _ => rfl) hR.f10 dX1_isNew_42 ?_
      refine g_iconst dX1_isNew_45 ?_
      refine g_il4 dX1_isNew_46 ?_
      refine g_al0 dX1_isNew_48 ?_
      refine f_getA 6 fk_X1_111 rfl hR.sh (fun _ _ => rfl) hX.f6 dX1_isNew_49 ?_
      refine f_getv 5 fk_X1_199 rfl hX.K.sh (fun _ _ => rfl) hX.K.y dX1_isNew_52 ?_
      refine g_callV4I (d' := 6) lk_X1_266 hX.P.sh rfl (rm_lt (by decide) (by decide)) (Nat.le_of_ble_eq_true rfl) dX1_isNew_55 ?_
      have eL : r (10 + 7 * i) = L := by omega
      refine xp_unlike hX.P hW (by omega) (by omega) hR.a10 (ρ := rw_ (r 0) L.toNat cd) (fun k k0 k1 => ?_) (by omega) ?_
      · have := rw_in (n := r 0) (by omega) L.toNat cd k
        rw [show (0 : Int) + k = k by omega]
        exact ⟨hrw k k0 (by omega), by omega, by omega⟩
      rw [eL]
      have eu := ul_rw (y := s 0) (i := i) hW L.toNat cd
      rw [show ((L.toNat : Nat) : Int) = L by omega] at eu
      rw [eu]
      have hdai := da_in (r 0) L.toNat cd (cd_ r i (s 0) L)
      refine g_il3 dX1_isNew_58 ?_
      refine g_icmp_ge (tgt := 64) dX1_isNew_59 (by decide) (by omega) (fun h59 => ?_) (fun h59 => ?_)
      · refine g_inc4 dX1_isNew_64 (by decide) rfl ?_
        refine g_goto (tgt := 9) dX1_isNew_67 (by decide) ?_
        refine ih _ (by omega) (by omega) (by omega) (fun j j0 j1 => ?_)
        by_cases hj : j = i
        · subst hj; intro q; omega
        · exact hv j j0 (by omega)
      refine g_iconst dX1_isNew_62 ?_
      exact g_zret rfl (by omega) dX1_isNew_63 ⟨_, rfl, hQ _ _ hF (Or.inr ⟨rfl, Bool.eq_false_iff.mpr fun w => by have := of_decide_eq_true ((al_iff (by omega)).mp w i h0 (by omega)) eL; omega⟩)⟩
  refine g_iconst dX1_isNew_6 ?_
  refine g_is4 dX1_isNew_7 (by decide) rfl ?_
  exact L9 ((r 4).toNat + 1) _ (by omega) (by omega) (by omega) (fun j j0 j1 => by omega)
theorem xo_refusesSongs {p : Int} {l a : Int} {Q : Int → JH → Prop} (hX0 : XQ_ G X σ p T r s) (hl : -2147483648 ≤ l ∧ l < 2147483648) (ha : -2147483648 ≤ a ∧ a < 2147483648)
    (hQ : ∀ z : Int, (p = 1 ∧ ((2 ≤ l ∧ l ≤ 5) ∧ (1 ≤ a ∧ a ≤ 5)) ∧ z = 0) ∨ (p = 1 ∧ ¬ ((2 ≤ l ∧ l ≤ 5) ∧ (1 ≤ a ∧ a ≤ 5)) ∧ z = 2) ∨ (p = 0 ∧ z = 1) → Q z σ) : CallI_ G 3 yX1_refusesSongs cX1_refusesSongs 3 (some .int) [A_ (some X), I_ l, I_ a] σ Q := by
  refine call_go [some (A_ (some X)), some (I_ l), some (I_ a)] (by decide) (Nat.le_of_ble_eq_true rfl) rfl ?_
  have hR := hX0.1
  rcases hX0.2 with q | q
  · have hp0 := q.1
    refine g_al0 dX1_refusesSongs_0 ?_
    refine f_getA 5 fk_X1_104 rfl hR.sh (fun _ _ => rfl) q.2 dX1_refusesSongs_1 ?_
    refine g_ifnonnull (tgt := 11) dX1_refusesSongs_4 (by decide) (fun _ h4 => ?_) (fun h4 => ?_)
    · cases h4
    refine g_iconst dX1_refusesSongs_7 ?_
    refine g_goto (tgt := 34) dX1_refusesSongs_8 (by decide) ?_
    exact g_iret rfl dX1_refusesSongs_34 ⟨_, rfl, hQ _ (by omega)⟩
  · have hX := q.2
    have hp1 := q.1
    refine g_al0 dX1_refusesSongs_0 ?_
    refine f_getA 5 fk_X1_104 rfl hR.sh (fun _ _ => rfl) hX.f5 dX1_refusesSongs_1 ?_
    refine g_ifnonnull (tgt := 11) dX1_refusesSongs_4 (by decide) (fun _ h4 => ?_) (fun h4 => ?_)
    · refine g_il1 dX1_refusesSongs_11 ?_
      refine g_iconst dX1_refusesSongs_12 ?_
      refine g_iconst dX1_refusesSongs_13 ?_
      refine g_callS3I (d' := 2) lk_X1_79 (rm_lt (by decide) (by decide)) (Nat.le_of_ble_eq_true rfl) dX1_refusesSongs_14 ?_
      refine xo_in (by omega) (by omega) (by omega) (fun x14 hx14 => ?_)
      refine g_if_eq (tgt := 33) dX1_refusesSongs_17 (by decide) (by omega) (fun h17 => ?_) (fun h17 => ?_)
      · refine g_iconst dX1_refusesSongs_33 ?_
        exact g_iret rfl dX1_refusesSongs_34 ⟨_, rfl, hQ _ (by omega)⟩
      refine g_il2 dX1_refusesSongs_20 ?_
      refine g_iconst dX1_refusesSongs_21 ?_
      refine g_iconst dX1_refusesSongs_22 ?_
      refine g_callS3I (d' := 2) lk_X1_79 (rm_lt (by decide) (by decide)) (Nat.le_of_ble_eq_true rfl) dX1_refusesSongs_23 ?_
      refine xo_in (by omega) (by omega) (by omega) (fun x23 hx23 => ?_)
      refine g_if_eq (tgt := 33) dX1_refusesSongs_26 (by decide) (by omega) (fun h26 => ?_) (fun h26 => ?_)
      · refine g_iconst dX1_refusesSongs_33 ?_
        exact g_iret rfl dX1_refusesSongs_34 ⟨_, rfl, hQ _ (by omega)⟩
      refine g_iconst dX1_refusesSongs_29 ?_
      refine g_goto (tgt := 34) dX1_refusesSongs_30 (by decide) ?_
      exact g_iret rfl dX1_refusesSongs_34 ⟨_, rfl, hQ _ (by omega)⟩
    cases h4
theorem xo_fresh {p : Int} {l a : Int} {Q : Int → JH → Prop} (hX0 : XQ_ G X σ p T r s) (hP : MP_ p r s) (hl : -2147483648 ≤ l ∧ l < 2147483648) (ha : -2147483648 ≤ a ∧ a < 2147483648)
    (hQ : ∀ (x t : Int) (σ' : JH), qFresh_ p r s l a = (x, t) → XQ_ G X σ' p T r s → XE_ X σ σ' t → Q x σ') : CallI_ G 8 yX1_fresh cX1_fresh 5 (some .int) [A_ (some X), I_ l, I_ a] σ Q := by
  refine call_go [some (A_ (some X)), some (I_ l), some (I_ a), none, none] (by decide) (Nat.le_of_ble_eq_true rfl) rfl ?_
  refine g_lt (fun hlt hgz => ?_)
  have hR := hX0.1
  have hp01 := hP.b
  refine g_al0 dX1_fresh_0 ?_
  refine g_il1 dX1_fresh_1 ?_
  refine g_il2 dX1_fresh_2 ?_
  refine g_callV2I (d' := 3) lk_X1_269 hR.sh rfl (rm_lt (by decide) (by decide)) (Nat.le_of_ble_eq_true rfl) dX1_fresh_3 ?_
  refine xo_refusesSongs hX0 (by omega) (by omega) (fun wy hwy => ?_)
  refine g_is3 dX1_fresh_6 (by decide) rfl ?_
  refine g_il3 dX1_fresh_7 ?_
  refine g_if_le (tgt := 17) dX1_fresh_8 (by decide) (by omega) (fun h8 => ?_) (fun h8 => ?_)
  · obtain ⟨hW, hD⟩ := hP.get (by omega)
    have hX := hX0.get (by omega)
    have hn := hW.n
    have hp5 := pw_in (n := r 0) (k := l) (by omega) (by omega)
    have L20 : ∀ (fu : Nat) (σ' : JH) (v : Int), pw_ (r 0) l - v < (fu : Int) → (Fr_ (xns_ X) σ σ') → (0 ≤ v) → (v ≤ pw_ (r 0) l) → (∀ j, 0 ≤ j → j < v → nw1_ r (s 0) l a j = false) → GoM_ G 8 yX1_fresh cX1_fresh 5 (some .int) σ (fun v σ' => ∃ x : Int, v = some (I_ x) ∧ Q x σ') 20 [some (A_ (some X)), some (I_ l), some (I_ a), some (I_ wy), some (I_ v)] [] σ' := by
      intro fu
      induction fu with
      | zero => intro σ' v hn hF h0 h1 hv; exact absurd hn (by omega)
      | succ fu ih =>
        intro σ' v hn hF h0 h1 hv
        have hX := hX.xs hF.nx hlt
        have hR := hX.R
        have hlt0 := hlt
        have hlt := lt_fr hlt hF
        refine g_il4 dX1_fresh_20 ?_
        refine g_al0 dX1_fresh_22 ?_
        refine g_il1 dX1_fresh_23 ?_
        refine g_callV1I (d' := 2) lk_X1_272 hR.sh rfl (rm_lt (by decide) (by decide)) (Nat.le_of_ble_eq_true rfl) dX1_fresh_24 ?_
        refine xo_power hX hW hD (by omega) ?_
        refine g_icmp_ge (tgt := 54) dX1_fresh_27 (by decide) (by omega) (fun h27 => ?_) (fun h27 => ?_)
        · refine g_al0 dX1_fresh_54 ?_
          refine g_bipush dX1_fresh_55 (by decide) (by decide) ?_
          refine g_callV1I (d' := 2) lk_X1_69 hR.sh rfl (rm_lt (by decide) (by decide)) (Nat.le_of_ble_eq_true rfl) dX1_fresh_57 ?_
          refine xo_well hR ?_
          exact g_iret rfl dX1_fresh_60 ⟨_, rfl, hQ _ _ _ (by unfold qFresh_; rw [if_pos (by omega), if_pos (by omega), show fI_ (nw1_ r (s 0) l a) (pw_ (r 0) l) = -1 from fI_none (fun j j0 j1 => hv j j0 (by omega)), if_pos (by omega)]) (hX0.e (XE_.fr hF.nx) hlt0) (XE_.fr hF.nx)⟩
        refine g_al0 dX1_fresh_30 ?_
        refine g_il4 dX1_fresh_31 ?_
        refine g_il1 dX1_fresh_33 ?_
        refine g_il2 dX1_fresh_34 ?_
        refine g_callV3I (d' := 7) lk_X1_275 hR.sh rfl (rm_lt (by decide) (by decide)) (Nat.le_of_ble_eq_true rfl) dX1_fresh_35 ?_
        refine xo_isNew hX hW hD hlt (by omega) (by omega) (by omega) (fun z1 σ1 hF1 hz1 => ?_)
        have hF1 := hF1.n5
        have hX := hX.xs hF1.nx hlt
        have hR := hX.R
        have hlt := lt_fr hlt hF1
        have hF := hF.tr hF1
        refine g_if_eq (tgt := 48) dX1_fresh_38 (by decide) (by omega) (fun h38 => ?_) (fun h38 => ?_)
        · refine g_inc4 dX1_fresh_48 (by decide) rfl ?_
          refine g_goto (tgt := 20) dX1_fresh_51 (by decide) ?_
          refine ih _ _ (by omega) hF (by omega) (by omega) (fun j j0 j1 => ?_)
          by_cases hj : j = v
          · subst hj; exact hz1.elim (fun q => by omega) (fun q => q.2)
          · exact hv j j0 (by omega)
        refine g_al0 dX1_fresh_41 ?_
        refine g_il4 dX1_fresh_42 ?_
        refine g_callV1I (d' := 2) lk_X1_69 hR.sh rfl (rm_lt (by decide) (by decide)) (Nat.le_of_ble_eq_true rfl) dX1_fresh_44 ?_
        refine xo_well hR ?_
        exact g_iret rfl dX1_fresh_47 ⟨_, rfl, hQ _ _ _ (by unfold qFresh_; rw [if_pos (by omega), if_pos (by omega), show fI_ (nw1_ r (s 0) l a) (pw_ (r 0) l) = v from fI_hit h0 (by omega) (hz1.elim (fun q => q.2) (fun q => by omega)) hv, if_neg (by omega)]) (hX0.e (XE_.fr hF.nx) hlt0) (XE_.fr hF.nx)⟩
    refine g_iconst dX1_fresh_17 ?_
    refine g_is4 dX1_fresh_18 (by decide) rfl ?_
    exact L20 ((pw_ (r 0) l).toNat + 1) _ _ (by omega) Fr_.rf (by omega) (by omega) (fun j j0 j1 => by omega)
  refine g_al0 dX1_fresh_11 ?_
  refine g_il3 dX1_fresh_12 ?_
  refine g_callV1I (d' := 2) lk_X1_65 hR.sh rfl (rm_lt (by decide) (by decide)) (Nat.le_of_ble_eq_true rfl) dX1_fresh_13 ?_
  refine xo_refused hR ?_
  exact g_iret rfl dX1_fresh_16 ⟨_, rfl, hQ _ _ _ (by unfold qFresh_; by_cases c1 : p = 1; (rw [if_pos c1, if_neg (by omega), show wy = 2 by omega]); (rw [if_neg c1, show wy = 1 by omega])) (hX0.e XE_.rf hlt) XE_.rf⟩
theorem xo_byTurns {p : Int} {l a : Int} {Q : Int → JH → Prop} (hX0 : XQ_ G X σ p T r s) (hP : MP_ p r s) (hl : -2147483648 ≤ l ∧ l < 2147483648) (ha : -2147483648 ≤ a ∧ a < 2147483648)
    (hQ : ∀ (x t : Int) (σ' : JH), qByTurns_ p r s l a = (x, t) → XQ_ G X σ' p T r s → XE_ X σ σ' t → Q x σ') : CallI_ G 8 yX1_byTurns cX1_byTurns 8 (some .int) [A_ (some X), I_ l, I_ a] σ Q := by
  refine call_go [some (A_ (some X)), some (I_ l), some (I_ a), none, none, none, none, none] (by decide) (Nat.le_of_ble_eq_true rfl) rfl ?_
  refine g_lt (fun hlt hgz => ?_)
  have hR := hX0.1
  have hp01 := hP.b
  refine g_al0 dX1_byTurns_0 ?_
  refine g_il1 dX1_byTurns_1 ?_
  refine g_il2 dX1_byTurns_2 ?_
  refine g_callV2I (d' := 3) lk_X1_269 hR.sh rfl (rm_lt (by decide) (by decide)) (Nat.le_of_ble_eq_true rfl) dX1_byTurns_3 ?_
  refine xo_refusesSongs hX0 (by omega) (by omega) (fun wy hwy => ?_)
  refine g_is3 dX1_byTurns_6 (by decide) rfl ?_
  refine g_il3 dX1_byTurns_7 ?_
  refine g_if_le (tgt := 17) dX1_byTurns_8 (by decide) (by omega) (fun h8 => ?_) (fun h8 => ?_)
  · obtain ⟨hW, hD⟩ := hP.get (by omega)
    have hX := hX0.get (by omega)
    have hn := hW.n
    have hp5 := pw_in (n := r 0) (k := l) (by omega) (by omega)
    have L23 : ∀ (fu : Nat) (σ' : JH) (t : Int) (v : Int) (v6 : Option AV) (v7 : Option AV), pw_ (r 0) l - v < (fu : Int) → (Fr_ (xns_ X) σ σ') → (0 ≤ v) → (v ≤ pw_ (r 0) l) → (t = ((gt_ (nw1_ r (s 0) l a) (da_ (r 0) l.toNat) a v.toNat).length : Int)) → (GR_ X σ' (gt_ (nw1_ r (s 0) l a) (da_ (r 0) l.toNat) a v.toNat)) → GoM_ G 8 yX1_byTurns cX1_byTurns 8 (some .int) σ (fun v σ' => ∃ x : Int, v = some (I_ x) ∧ Q x σ') 23 [some (A_ (some X)), some (I_ l), some (I_ a), some (I_ wy), some (I_ t), some (I_ v), v6, v7] [] σ' := by
      intro fu
      induction fu with
      | zero => intro σ' t v v6 v7 hn hF h0 h1 ht hG; exact absurd hn (by omega)
      | succ fu ih =>
        intro σ' t v v6 v7 hn hF h0 h1 ht hG
        have hX := hX.xs hF.nx hlt
        have hR := hX.R
        have hlt0 := hlt
        have hlt := lt_fr hlt hF
        have hle := gt_len (P := nw1_ r (s 0) l a) (d := da_ (r 0) l.toNat) (a := a) v.toNat
        refine g_il5 dX1_byTurns_23 ?_
        refine g_al0 dX1_byTurns_25 ?_
        refine g_il1 dX1_byTurns_26 ?_
        refine g_callV1I (d' := 2) lk_X1_272 hR.sh rfl (rm_lt (by decide) (by decide)) (Nat.le_of_ble_eq_true rfl) dX1_byTurns_27 ?_
        refine xo_power hX hW hD (by omega) ?_
        refine g_icmp_ge (tgt := 114) dX1_byTurns_30 (by decide) (by omega) (fun h30 => ?_) (fun h30 => ?_)
        · refine g_al0 dX1_byTurns_114 ?_
          refine g_il4 dX1_byTurns_115 ?_
          refine g_callV1I (d' := 2) lk_X1_69 hR.sh rfl (rm_lt (by decide) (by decide)) (Nat.le_of_ble_eq_true rfl) dX1_byTurns_117 ?_
          refine xo_well hR ?_
          exact g_iret rfl dX1_byTurns_120 ⟨_, rfl, hQ _ _ _ (by unfold qByTurns_; rw [if_pos (by omega), if_pos (by omega), ht, show v = pw_ (r 0) l by omega]) (hX0.e (XE_.fr hF.nx) hlt0) (XE_.fr hF.nx)⟩
        refine g_al0 dX1_byTurns_33 ?_
        refine g_il5 dX1_byTurns_34 ?_
        refine g_il1 dX1_byTurns_36 ?_
        refine g_il2 dX1_byTurns_37 ?_
        refine g_callV3I (d' := 7) lk_X1_275 hR.sh rfl (rm_lt (by decide) (by decide)) (Nat.le_of_ble_eq_true rfl) dX1_byTurns_38 ?_
        refine xo_isNew hX hW hD hlt (by omega) (by omega) (by omega) (fun z1 σ1 hF1 hz1 => ?_)
        have hF1a := hF1
        have hF1 := hF1.n5
        have hX := hX.xs hF1.nx hlt
        have hR := hX.R
        have hlt := lt_fr hlt hF1
        have hF := hF.tr hF1
        have hG := hG.fr hF1a (fun k q => by omega)
        refine g_is6 dX1_byTurns_41 (by decide) rfl ?_
        have J88 : ∀ (is1 k : Int), (is1 = 1 ∧ nw1_ r (s 0) l a v = true ∧ ∀ j, 0 ≤ j → j < t → a ≤ da_ (r 0) l.toNat (iv_ σ1 (X + 4) j) v) ∨ (is1 = 0 ∧ (nw1_ r (s 0) l a v = false ∨ ∃ j, 0 ≤ j ∧ j < t ∧ ¬ a ≤ da_ (r 0) l.toNat (iv_ σ1 (X + 4) j) v)) → GoM_ G 8 yX1_byTurns cX1_byTurns 8 (some .int) σ (fun v σ' => ∃ x : Int, v = some (I_ x) ∧ Q x σ') 88 [some (A_ (some X)), some (I_ l), some (I_ a), some (I_ wy), some (I_ t), some (I_ v), some (I_ is1), some (I_ k)] [] σ1 := by
          intro is1 k hi
          have hS := gt_s (P := nw1_ r (s 0) l a) (d := da_ (r 0) l.toNat) (a := a) h0
          refine g_il6 dX1_byTurns_88 ?_
          refine g_if_ne (tgt := 96) dX1_byTurns_90 (by decide) (by omega) (fun h90 => ?_) (fun h90 => ?_)
          · refine g_al0 dX1_byTurns_96 ?_
            refine f_getA 9 fk_X1_27 rfl hR.sh (fun _ _ => rfl) hR.f9 dX1_byTurns_97 ?_
            refine g_il4 dX1_byTurns_100 ?_
            refine g_il5 dX1_byTurns_102 ?_
            refine g_iast hR.a9 hR.g9 (by omega) dX1_byTurns_104 ?_
            refine g_inc4 dX1_byTurns_105 (by decide) rfl ?_
            refine g_inc5 dX1_byTurns_108 (by decide) rfl ?_
            refine g_goto (tgt := 23) dX1_byTurns_111 (by decide) ?_
            have hA : (nw1_ r (s 0) l a v && (gt_ (nw1_ r (s 0) l a) (da_ (r 0) l.toNat) a v.toNat).all (fun u => decide (a ≤ da_ (r 0) l.toNat u v))) = true := by
              rcases hi with q | q
              · rw [Bool.and_eq_true, List.all_eq_true]
                exact ⟨q.2.1, fun u hu => decide_eq_true ((hG (fun u => a ≤ da_ (r 0) l.toNat u v)).mp (fun j j0 j1 => q.2.2 j j0 (by omega)) u hu)⟩
              · exact absurd q.1 (by omega)
            rw [if_pos hA] at hS
            exact ih _ _ _ _ _ (by omega) (hF.pi (Or.inl rfl)) (by omega) (by omega) (by rw [hS, List.length_append]; simp; omega) (by rw [hS]; subst ht; exact hG.app v)
          refine g_goto (tgt := 108) dX1_byTurns_93 (by decide) ?_
          refine g_inc5 dX1_byTurns_108 (by decide) rfl ?_
          refine g_goto (tgt := 23) dX1_byTurns_111 (by decide) ?_
          have hA : ¬ (nw1_ r (s 0) l a v && (gt_ (nw1_ r (s 0) l a) (da_ (r 0) l.toNat) a v.toNat).all (fun u => decide (a ≤ da_ (r 0) l.toNat u v))) = true := fun z => by
            rw [Bool.and_eq_true, List.all_eq_true] at z
            rcases hi with q | q
            · exact absurd q.1 (by omega)
            · rcases q.2 with q2 | ⟨j, j0, j1, j2⟩
              · rw [q2] at z; exact absurd z.1 (by decide)
              · exact j2 ((hG (fun u => a ≤ da_ (r 0) l.toNat u v)).mpr (fun u hu => of_decide_eq_true (z.2 u hu)) j j0 (by omega))
          rw [if_neg hA] at hS
          exact ih _ _ _ _ _ (by omega) hF (by omega) (by omega) (by rw [hS]; exact ht) (by rw [hS]; exact hG)
        have L46 : ∀ (fu2 : Nat) (is1 : Int) (k : Int), t - k < (fu2 : Int) → (0 ≤ k) → (k ≤ t) → ((is1 = 1 ∧ nw1_ r (s 0) l a v = true ∧ ∀ j, 0 ≤ j → j < k → a ≤ da_ (r 0) l.toNat (iv_ σ1 (X + 4) j) v) ∨ (is1 = 0 ∧ (nw1_ r (s 0) l a v = false ∨ ∃ j, 0 ≤ j ∧ j < t ∧ ¬ a ≤ da_ (r 0) l.toNat (iv_ σ1 (X + 4) j) v))) → GoM_ G 8 yX1_byTurns cX1_byTurns 8 (some .int) σ (fun v σ' => ∃ x : Int, v = some (I_ x) ∧ Q x σ') 46 [some (A_ (some X)), some (I_ l), some (I_ a), some (I_ wy), some (I_ t), some (I_ v), some (I_ is1), some (I_ k)] [] σ1 := by
          intro fu2
          induction fu2 with
          | zero => intro is1 k hn g0 g1 gi; exact absurd hn (by omega)
          | succ fu2 ih2 =>
            intro is1 k hn g0 g1 gi
            refine g_il7 dX1_byTurns_46 ?_
            refine g_il4 dX1_byTurns_48 ?_
            refine g_icmp_ge (tgt := 88) dX1_byTurns_50 (by decide) (by omega) (fun h50 => ?_) (fun h50 => ?_)
            · refine J88 _ _ (gi.elim (fun q => Or.inl ⟨q.1, q.2.1, fun j g2 g3 => q.2.2 j g2 (by omega)⟩) Or.inr)
            refine g_il6 dX1_byTurns_53 ?_
            refine g_if_eq (tgt := 88) dX1_byTurns_55 (by decide) (by omega) (fun h55 => ?_) (fun h55 => ?_)
            · refine J88 _ _ (gi.elim (fun q => by omega) Or.inr)
            refine g_al0 dX1_byTurns_58 ?_
            refine g_al0 dX1_byTurns_59 ?_
            refine f_getA 9 fk_X1_27 rfl hR.sh (fun _ _ => rfl) hR.f9 dX1_byTurns_60 ?_
            refine g_il7 dX1_byTurns_63 ?_
            refine g_iald hR.a9 (by omega) dX1_byTurns_65 ?_
            have hme := gt_lt _ _ (hG.mem (j := k) g0 (by omega))
            refine g_il5 dX1_byTurns_66 ?_
            refine g_callV2I (d' := 2) lk_X1_278 hR.sh rfl (rm_lt (by decide) (by decide)) (Nat.le_of_ble_eq_true rfl) dX1_byTurns_68 ?_
            refine xo_unlike (L := l) hX hW hD (by omega) (by omega) (by omega) ?_
            have hdk := da_in (r 0) l.toNat (iv_ σ1 (X + 4) k) v
            refine g_il2 dX1_byTurns_71 ?_
            refine g_icmp_lt (tgt := 79) dX1_byTurns_72 (by decide) (by omega) (fun h72 => ?_) (fun h72 => ?_)
            · refine g_iconst dX1_byTurns_79 ?_
              refine g_is6 dX1_byTurns_80 (by decide) rfl ?_
              refine g_inc7 dX1_byTurns_82 (by decide) rfl ?_
              refine g_goto (tgt := 46) dX1_byTurns_85 (by decide) ?_
              refine ih2 _ _ (by omega) (by omega) (by omega) ?_
              refine Or.inr ⟨rfl, Or.inr ⟨k, by omega, by omega, by omega⟩⟩
            refine g_iconst dX1_byTurns_75 ?_
            refine g_goto (tgt := 80) dX1_byTurns_76 (by decide) ?_
            refine g_is6 dX1_byTurns_80 (by decide) rfl ?_
            refine g_inc7 dX1_byTurns_82 (by decide) rfl ?_
            refine g_goto (tgt := 46) dX1_byTurns_85 (by decide) ?_
            refine ih2 _ _ (by omega) (by omega) (by omega) ?_
            rcases gi with q | q
            · refine Or.inl ⟨rfl, q.2.1, fun j g2 g3 => ?_⟩
              by_cases hj : j = k
              · rw [hj]; omega
              · exact q.2.2 j g2 (by omega)
            · exact absurd q.1 (by omega)
        refine g_iconst dX1_byTurns_43 ?_
        refine g_is7 dX1_byTurns_44 (by decide) rfl ?_
        exact L46 (t.toNat + 1) _ _ (by omega) (by omega) (by omega) (hz1.elim (fun q => Or.inl ⟨q.1, q.2, fun j g2 g3 => by omega⟩) (fun q => Or.inr ⟨q.1, Or.inl q.2⟩))
    refine g_iconst dX1_byTurns_17 ?_
    refine g_is4 dX1_byTurns_18 (by decide) rfl ?_
    refine g_iconst dX1_byTurns_20 ?_
    refine g_is5 dX1_byTurns_21 (by decide) rfl ?_
    exact L23 ((pw_ (r 0) l).toNat + 1) _ _ _ _ _ (by omega) Fr_.rf (by omega) (by omega) rfl (fun P => ⟨fun _ u hu => by simp [gt_] at hu, fun _ j j0 j1 => by simp [gt_] at j1; omega⟩)
  refine g_al0 dX1_byTurns_11 ?_
  refine g_il3 dX1_byTurns_12 ?_
  refine g_callV1I (d' := 2) lk_X1_65 hR.sh rfl (rm_lt (by decide) (by decide)) (Nat.le_of_ble_eq_true rfl) dX1_byTurns_13 ?_
  refine xo_refused hR ?_
  exact g_iret rfl dX1_byTurns_16 ⟨_, rfl, hQ _ _ _ (by unfold qByTurns_; by_cases c1 : p = 1; (rw [if_pos c1, if_neg (by omega), show wy = 2 by omega]); (rw [if_neg c1, show wy = 1 by omega])) (hX0.e XE_.rf hlt) XE_.rf⟩
end
