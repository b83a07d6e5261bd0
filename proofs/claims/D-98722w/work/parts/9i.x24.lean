/-! THE COMPONENT: the reader's steps; names in a post. Written by mod/m9i.py -/
set_option maxRecDepth 100000
section
variable {G : JG} {m X ρ o : Nat} {σ σ' γ : JH} {T : XT} {c d : Int}
theorem xr_eats  {Q : Int → JH → Prop} (hR : RR_ G m X ρ σ γ o T c d) (hcd : 0 ≤ c ∧ 0 ≤ d)
    (hQ : ∀ (z : Int) σ' γ' o', ((z = 1 ∧ iv_ γ m 13 = 0 ∧ iv_ γ m 6 = 59 ∧ γ' = nxt_ m γ ∧ RR_ G m X ρ σ' γ' o' T (c + 3) (d + 23)) ∨ (z = 0 ∧ ¬ (iv_ γ m 13 = 0 ∧ iv_ γ m 6 = 59) ∧ γ' = γ ∧ RR_ G m X ρ σ' γ' o' T c d)) → GX_ ρ σ σ' → Q z σ') : CallI_ G 12 yX3_eatsSemicolon cX3_eatsSemicolon 1 (some .boolean) [A_ (some ρ)] σ Q := by
  refine call_go [some (A_ (some ρ))] (by decide) (Nat.le_of_ble_eq_true rfl) rfl ?_
  refine g_al0 dX3_eatsSemicolon_0 ?_
  refine g_callV0I (d' := 2) lk_X3_36 hR.h3 rfl (rm_lt (by decide) (by decide)) (Nat.le_of_ble_eq_true rfl) dX3_eatsSemicolon_1 ?_
  refine xr_isOver hR (fun x1 hx1 => ?_)
  refine g_if_ne (tgt := 18) dX3_eatsSemicolon_4 (by decide) (by omega) (fun h4 => ?_) (fun h4 => ?_)
  · refine g_iconst dX3_eatsSemicolon_18 ?_
    exact g_zret rfl (by omega) dX3_eatsSemicolon_19 ⟨_, rfl, hQ _ _ _ _ (Or.inr ⟨rfl, fun q => by omega, rfl, hR⟩) GX_.rf⟩
  obtain ⟨so, pl, nu, wd, wv, n, w, hK, hTM0⟩ := hR.2.2.2.1
  have hKb := hK.2.2.2.2.2.2.2.2.2.1
  refine g_al0 dX3_eatsSemicolon_7 ?_
  refine f_getA 2 fk_X3_28 rfl hR.h3 (fun _ _ => rfl) hR.1.2.2.2.2.2.1 dX3_eatsSemicolon_8 ?_
  refine f_getv 0 fk_X3_46 rfl hK.1 (fun _ _ => rfl) hK.2.2.1 dX3_eatsSemicolon_11 ?_
  refine g_iconst dX3_eatsSemicolon_14 ?_
  refine g_icmp_eq (tgt := 20) dX3_eatsSemicolon_15 (by decide) (by omega) (fun h15 => ?_) (fun h15 => ?_)
  · refine g_al0 dX3_eatsSemicolon_20 ?_
    refine g_callV0V (d' := 11) lk_X3_49 hR.h3 rfl (rm_lt (by decide) (by decide)) (Nat.le_of_ble_eq_true rfl) dX3_eatsSemicolon_21 ?_
    refine xr_on hR hcd (fun σ1 o1 hR1 hg1 => ?_)
    refine g_iconst dX3_eatsSemicolon_24 ?_
    exact g_zret rfl (by omega) dX3_eatsSemicolon_25 ⟨_, rfl, by
      have h6 := (hR.sort (by omega) (hTM0 (by omega))).2.2.2.mp (by omega)
      have e : onn_ m γ = nxt_ m γ := if_pos (by omega)
      rw [e] at hR1
      exact hQ _ _ _ _ (Or.inl ⟨rfl, by omega, h6, rfl, hR1 _ _ (Or.inr ⟨by omega, by omega, Int.le_refl _, Int.le_refl _⟩)⟩) hg1⟩
  refine g_iconst dX3_eatsSemicolon_18 ?_
  exact g_zret rfl (by omega) dX3_eatsSemicolon_19 ⟨_, rfl, hQ _ _ _ _ (Or.inr ⟨rfl, fun q => by have := (hR.sort (by omega) (hTM0 (by omega))).2.2.2; omega, rfl, hR⟩) GX_.rf⟩
theorem xr_needs {a v n' : Nat} {c' : Int → Int} {Q : JH → Prop} (hR : RR_ G m X ρ σ γ o T c d) (hcd : 0 ≤ c ∧ 0 ≤ d) (hS : Str_ σ a v n' c')
    (hQ : ∀ σ' o', RR_ G m X ρ σ' (mus_ m γ n' c') o' T c d → GX_ ρ σ σ' → Q σ') : CallV_ G 12 yX3_needs cX3_needs 2 none [A_ (some ρ), A_ (some a)] σ Q := by
  refine call_go [some (A_ (some ρ)), some (A_ (some a))] (by decide) (Nat.le_of_ble_eq_true rfl) rfl ?_
  have J16 : ∀ σ1 γ1, RR_ G m X ρ σ1 γ1 o T c d → GX_ ρ σ σ1 → onn_ m γ1 = mus_ m γ n' c' → GoM_ G 12 yX3_needs cX3_needs 2 none σ (fun v σ' => v = none ∧ Q σ') 16 [some (A_ (some ρ)), some (A_ (some a))] [] σ1 := by
    intro σ1 γ1 hR hg hon
    refine g_al0 dX3_needs_16 ?_
    refine g_callV0V (d' := 11) lk_X3_49 hR.h3 rfl (rm_lt (by decide) (by decide)) (Nat.le_of_ble_eq_true rfl) dX3_needs_17 ?_
    refine xr_on hR hcd (fun σ2 o2 hR2 hg2 => ?_)
    exact g_vret rfl dX3_needs_20 ⟨rfl, hQ _ _ (by rw [← hon]; exact hR2 _ _ (Or.inl ⟨Int.le_refl _, Int.le_refl _⟩)) (hg.tr hg2)⟩
  refine g_al0 dX3_needs_0 ?_
  obtain ⟨so, pl, nu, wd, wv, n, w, hK, hTM0⟩ := hR.2.2.2.1
  have hKb := hK.2.2.2.2.2.2.2.2.2.1
  refine f_getA 2 fk_X3_28 rfl hR.h3 (fun _ _ => rfl) hR.1.2.2.2.2.2.1 dX3_needs_1 ?_
  refine g_al1 dX3_needs_4 ?_
  refine g_callV1I (d' := 4) lk_X3_52 hK.1 rfl (rm_lt (by decide) (by decide)) (Nat.le_of_ble_eq_true rfl) dX3_needs_5 ?_
  refine xt_is hK hS (fun z hz => ?_)
  refine g_if_ne (tgt := 16) dX3_needs_8 (by decide) (by omega) (fun h8 => ?_) (fun h8 => ?_)
  · refine J16 σ γ hR GX_.rf ?_
    unfold onn_ mus_
    by_cases h0 : iv_ γ m 13 = 0
    · rw [if_pos h0, if_pos h0, if_pos (((hTM0 h0).iwg h0).mpr (by rcases hz with q | q; (exact q.2); (omega)))]
    · rw [if_neg h0, if_neg h0]
  refine g_al0 dX3_needs_11 ?_
  refine g_iconst dX3_needs_12 ?_
  refine g_callV1V (d' := 3) lk_X3_56 hR.h3 rfl (rm_lt (by decide) (by decide)) (Nat.le_of_ble_eq_true rfl) dX3_needs_13 ?_
  refine xr_wrong hR (by omega) (fun σ1 hR1 hg1 => ?_)
  refine J16 σ1 _ hR1 hg1 ?_
  have h13 := hR.b13
  unfold mus_
  by_cases h0 : iv_ γ m 13 = 0
  · rw [if_pos h0, if_neg (fun q => by rcases hz with z | z; (omega); (exact z.2 (((hTM0 h0).iwg h0).mp q)))]
    exact if_neg (by rw [wr_13 h13]; decide)
  · rw [if_neg h0, wr_id h0]
    exact if_neg h0
theorem xr_whole  {lo hi : Int} {Q : Int → JH → Prop} (hR : RR_ G m X ρ σ γ o T c d) (hcd : 0 ≤ c ∧ 0 ≤ d) (hlo : 0 ≤ lo ∧ lo ≤ 10000) (hhi : 0 ≤ hi ∧ hi ≤ 10000)
    (hQ : ∀ (x : Int) σ' o', RR_ G m X ρ σ' (num_ m γ lo hi) o' T c d → GX_ ρ σ σ' → (iv_ (num_ m γ lo hi) m 13 = 0 → x = nuv_ m γ lo hi) → (0 ≤ x ∧ x ≤ 9999) → Q x σ') : CallI_ G 12 yX3_whole cX3_whole 4 (some .int) [A_ (some ρ), I_ lo, I_ hi] σ Q := by
  refine call_go [some (A_ (some ρ)), some (I_ lo), some (I_ hi), none] (by decide) (Nat.le_of_ble_eq_true rfl) rfl ?_
  obtain ⟨so, pl, nu, wd, wv, n, w, hK, hTM0⟩ := hR.2.2.2.1
  have hKb := hK.2.2.2.2.2.2.2.2.2.1
  refine g_lt (fun hlt hgz => ?_)
  have hol := hlt _ _ hK.1
  have hno : o ≠ ρ ∧ o ≠ ρ + 1 := ⟨fun q => (by have := hK.1; rw [q, hR.h3] at this; cases this), fun q => (by have := hK.1; rw [q, hR.h4] at this; cases this)⟩
  have J38 : ∀ σ1 γ1, RR_ G m X ρ σ1 γ1 o T c d → GX_ ρ σ σ1 → onn_ m γ1 = num_ m γ lo hi → GoM_ G 12 yX3_whole cX3_whole 4 (some .int) σ (fun v σ' => ∃ x : Int, v = some (I_ x) ∧ Q x σ') 38 [some (A_ (some ρ)), some (I_ lo), some (I_ hi), some (A_ (some o))] [] σ1 := by
    intro σ1 γ1 hR9 hg hon
    refine g_al0 dX3_whole_38 ?_
    refine g_callV0V (d' := 11) lk_X3_49 hR9.h3 rfl (rm_lt (by decide) (by decide)) (Nat.le_of_ble_eq_true rfl) dX3_whole_39 ?_
    refine xr_on hR9 hcd (fun σ2 o2 hR2 hg2 => ?_)
    have e2 : iv_ σ2 o 2 = nu := ((hg.tr hg2).2.1 o 2 hol hno.1 hno.2 (fun q => by rw [hK.1] at q; cases q.2.1)).2.trans hK.2.2.2.2.1
    refine g_al3 dX3_whole_42 ?_
    refine f_getv 2 fk_X3_60 rfl (((hg.tr hg2).1 o hol).trans hK.1) (fun _ _ => rfl) e2 dX3_whole_43 ?_
    exact g_iret rfl dX3_whole_46 ⟨_, rfl, hQ _ _ _ (by rw [← hon]; exact hR2 _ _ (Or.inl ⟨Int.le_refl _, Int.le_refl _⟩)) (hg.tr hg2) (fun q => by
        have h13 := hR.b13
        by_cases h0 : iv_ γ m 13 = 0
        · have hs := (hR.sort h0 (hTM0 h0)).2.2.1
          have hn : iv_ γ m 6 = 3 → nu = iv_ γ m 7 := fun w => by rcases (hTM0 h0).2 with z | z | z | z | z <;> omega
          unfold nuv_
          by_cases h6 : iv_ γ m 6 = 3
          · by_cases hb : lo ≤ iv_ γ m 7 ∧ iv_ γ m 7 ≤ hi
            · rw [if_pos ⟨h0, h6, hb.1, hb.2⟩]; exact hn h6
            · exfalso
              unfold num_ at q
              rw [if_pos h0, if_pos h6, if_neg hb, wr_13 h13] at q
              omega
          · exfalso
            unfold num_ at q
            rw [if_pos h0, if_neg h6, wr_13 h13] at q
            omega
        · exfalso
          unfold num_ at q
          rw [if_neg h0] at q
          exact h0 q) hKb.2.2⟩
  refine g_al0 dX3_whole_0 ?_
  refine f_getA 2 fk_X3_28 rfl hR.h3 (fun _ _ => rfl) hR.1.2.2.2.2.2.1 dX3_whole_1 ?_
  refine g_as3 dX3_whole_4 (by decide) rfl ?_
  refine g_al3 dX3_whole_5 ?_
  refine f_getv 0 fk_X3_46 rfl hK.1 (fun _ _ => rfl) hK.2.2.1 dX3_whole_6 ?_
  refine g_iconst dX3_whole_9 ?_
  refine g_icmp_eq (tgt := 21) dX3_whole_10 (by decide) (by omega) (fun h10 => ?_) (fun h10 => ?_)
  · refine g_al3 dX3_whole_21 ?_
    refine f_getv 2 fk_X3_60 rfl hK.1 (fun _ _ => rfl) hK.2.2.2.2.1 dX3_whole_22 ?_
    refine g_il1 dX3_whole_25 ?_
    refine g_il2 dX3_whole_26 ?_
    refine g_callSN3I (d' := 2) lk_X3_63 (rm_lt (by decide) (by decide)) (Nat.le_of_ble_eq_true rfl) dX3_whole_27 ?_
    refine xo_in (by omega) (by omega) (by omega) (fun x27 hx27 => ?_)
    refine g_if_ne (tgt := 38) dX3_whole_30 (by decide) (by omega) (fun h30 => ?_) (fun h30 => ?_)
    · refine J38 σ γ hR GX_.rf ?_
      have h13 := hR.b13
      unfold num_
      by_cases h0 : iv_ γ m 13 = 0
      · have hs := (hR.sort h0 (hTM0 h0)).2.2.1
        have hn : iv_ γ m 6 = 3 → nu = iv_ γ m 7 := fun w => by rcases (hTM0 h0).2 with z | z | z | z | z <;> omega
        rw [if_pos h0, if_pos (by omega), if_pos (by have := hn (by omega); omega)]
        exact if_pos h0
      · rw [if_neg h0]
        exact if_neg h0
    refine g_al0 dX3_whole_33 ?_
    refine g_iconst dX3_whole_34 ?_
    refine g_callV1V (d' := 3) lk_X3_56 hR.h3 rfl (rm_lt (by decide) (by decide)) (Nat.le_of_ble_eq_true rfl) dX3_whole_35 ?_
    refine xr_wrong hR (by omega) (fun σ1 hR1 hg1 => ?_)
    refine J38 σ1 _ hR1 hg1 ?_
    have h13 := hR.b13
    unfold num_
    by_cases h0 : iv_ γ m 13 = 0
    · have hs := (hR.sort h0 (hTM0 h0)).2.2.1
      have hn : iv_ γ m 6 = 3 → nu = iv_ γ m 7 := fun w => by rcases (hTM0 h0).2 with z | z | z | z | z <;> omega
      rw [if_pos h0, if_pos (by omega), if_neg (by have := hn (by omega); omega)]
      exact if_neg (by rw [wr_13 h13]; decide)
    · rw [if_neg h0, wr_id h0]
      exact if_neg h0
  refine g_al0 dX3_whole_13 ?_
  refine g_iconst dX3_whole_14 ?_
  refine g_callV1V (d' := 3) lk_X3_56 hR.h3 rfl (rm_lt (by decide) (by decide)) (Nat.le_of_ble_eq_true rfl) dX3_whole_15 ?_
  refine xr_wrong hR (by omega) (fun σ1 hR1 hg1 => ?_)
  refine g_goto (tgt := 38) dX3_whole_18 (by decide) ?_
  refine J38 σ1 _ hR1 hg1 ?_
  have h13 := hR.b13
  unfold num_
  by_cases h0 : iv_ γ m 13 = 0
  · have hs := (hR.sort h0 (hTM0 h0)).2.2.1
    have hn : iv_ γ m 6 = 3 → nu = iv_ γ m 7 := fun w => by rcases (hTM0 h0).2 with z | z | z | z | z <;> omega
    rw [if_pos h0, if_neg (by omega)]
    exact if_neg (by rw [wr_13 h13]; decide)
  · rw [if_neg h0, wr_id h0]
    exact if_neg h0
theorem xr_part {a v n' : Nat} {c' : Int → Int} {lo hi : Int} {Q : Int → JH → Prop} (hR : RR_ G m X ρ σ γ o T c d) (hcd : 0 ≤ c ∧ 0 ≤ d) (hS : Str_ σ a v n' c') (hlo : 0 ≤ lo ∧ lo ≤ 10000) (hhi : 0 ≤ hi ∧ hi ≤ 10000)
    (hQ : ∀ (x : Int) σ' o', RR_ G m X ρ σ' (aft_ m γ n' c' lo hi) o' T c d → GX_ ρ σ σ' → (iv_ (aft_ m γ n' c' lo hi) m 13 = 0 → x = afv_ m γ n' c' lo hi) → (0 ≤ x ∧ x ≤ 9999) → Q x σ') : CallI_ G 13 yX3_part cX3_part 4 (some .int) [A_ (some ρ), A_ (some a), I_ lo, I_ hi] σ Q := by
  refine call_go [some (A_ (some ρ)), some (A_ (some a)), some (I_ lo), some (I_ hi)] (by decide) (Nat.le_of_ble_eq_true rfl) rfl ?_
  refine g_al0 dX3_part_0 ?_
  refine g_al1 dX3_part_1 ?_
  refine g_callV1V (d' := 12) lk_X3_67 hR.h3 rfl (rm_lt (by decide) (by decide)) (Nat.le_of_ble_eq_true rfl) dX3_part_2 ?_
  refine xr_needs hR hcd hS (fun σ1 o1 hR1 hg1 => ?_)
  have hR := hR1
  refine g_al0 dX3_part_5 ?_
  refine g_il2 dX3_part_6 ?_
  refine g_il3 dX3_part_7 ?_
  refine g_callV2I (d' := 12) lk_X3_71 hR.h3 rfl (rm_lt (by decide) (by decide)) (Nat.le_of_ble_eq_true rfl) dX3_part_8 ?_
  refine xr_whole hR1 hcd hlo hhi (fun x σ2 o2 hR2 hg2 hx hb => ?_)
  exact g_iret rfl dX3_part_11 ⟨_, rfl, hQ _ _ _ hR2 (hg1.tr hg2) hx hb⟩
/-- a name was found to be x -/
def kno_ (m : Nat) (γ : JH) (x : Int) : JH := if iv_ γ m 13 = 0 then (if isn_ m γ then (if x = -1 then wr_ m γ 2 (iv_ γ m 4) else γ) else wr_ m γ 1 (iv_ γ m 4)) else γ
theorem kno_no {x : Int} (h : x = -1) (h13 : iv_ γ m 13 = 0 ∨ iv_ γ m 13 = 1) : iv_ (kno_ m γ x) m 13 = 1 := by
  unfold kno_
  split
  · split
    · first | rw [wr_13 h13] | rw [if_pos h, wr_13 h13]
    · rw [wr_13 h13]
  · omega
theorem xr_known  {x : Int} {Q : Int → JH → Prop} (hR : RR_ G m X ρ σ γ o T c d) (hcd : 0 ≤ c ∧ 0 ≤ d) (hx : -1 ≤ x ∧ x ≤ 100)
    (hQ : ∀ (z : Int) σ', RR_ G m X ρ σ' (kno_ m γ x) o T c d → GX_ ρ σ σ' → (iv_ (kno_ m γ x) m 13 = 0 → z = x) → (z = 0 ∨ (z = x ∧ x ≠ -1)) → Q z σ') : CallI_ G 7 yX3_known cX3_known 2 (some .int) [A_ (some ρ), I_ x] σ Q := by
  refine call_go [some (A_ (some ρ)), some (I_ x)] (by decide) (Nat.le_of_ble_eq_true rfl) rfl ?_
  have hR0 := hR
  have J25 : ∀ σ1, RR_ G m X ρ σ1 (kno_ m γ x) o T c d → GX_ ρ σ σ1 → GoM_ G 7 yX3_known cX3_known 2 (some .int) σ (fun v σ' => ∃ x : Int, v = some (I_ x) ∧ Q x σ') 25 [some (A_ (some ρ)), some (I_ x)] [] σ1 := by
    intro σ1 hR hg
    refine g_al0 dX3_known_25 ?_
    refine g_callV0I (d' := 2) lk_X3_36 hR.h3 rfl (rm_lt (by decide) (by decide)) (Nat.le_of_ble_eq_true rfl) dX3_known_26 ?_
    refine xr_isOver hR (fun x26 hx26 => ?_)
    refine g_if_eq (tgt := 36) dX3_known_29 (by decide) (by omega) (fun h29 => ?_) (fun h29 => ?_)
    · refine g_il1 dX3_known_36 ?_
      exact g_iret rfl dX3_known_37 ⟨_, rfl, hQ _ _ hR hg (fun _ => rfl) (Or.inr ⟨rfl, fun q => by have := kno_no (m := m) (γ := γ) q hR0.b13; omega⟩)⟩
    refine g_iconst dX3_known_32 ?_
    refine g_goto (tgt := 37) dX3_known_33 (by decide) ?_
    exact g_iret rfl dX3_known_37 ⟨_, rfl, hQ _ _ hR hg (fun q => by omega) (Or.inl rfl)⟩
  have J15 : ∀ σ1 γ1, RR_ G m X ρ σ1 γ1 o T c d → GX_ ρ σ σ1 → ((γ1 = γ ∧ (iv_ γ m 13 = 0 → isn_ m γ)) ∨ (γ1 = wr_ m γ 1 (iv_ γ m 4) ∧ (iv_ γ m 13 = 0 → ¬ isn_ m γ))) → GoM_ G 7 yX3_known cX3_known 2 (some .int) σ (fun v σ' => ∃ x : Int, v = some (I_ x) ∧ Q x σ') 15 [some (A_ (some ρ)), some (I_ x)] [] σ1 := by
    intro σ1 γ1 hR1 hg hγ
    have h13 := hR.b13
    refine g_il1 dX3_known_15 ?_
    refine g_iconst dX3_known_16 ?_
    refine g_icmp_ne (tgt := 25) dX3_known_17 (by decide) (by omega) (fun h17 => ?_) (fun h17 => ?_)
    · have e : γ1 = kno_ m γ x := by
        unfold kno_
        rcases hγ with ⟨e, q⟩ | ⟨e, q⟩
        · by_cases h0 : iv_ γ m 13 = 0
          · rw [if_pos h0, if_pos (q h0), if_neg (by omega)]; exact e
          · rw [if_neg h0]; exact e
        · by_cases h0 : iv_ γ m 13 = 0
          · rw [if_pos h0, if_neg (q h0)]; exact e
          · rw [if_neg h0, e, wr_id h0]
      rw [e] at hR1
      exact J25 σ1 hR1 hg
    refine g_al0 dX3_known_20 ?_
    refine g_iconst dX3_known_21 ?_
    refine g_callV1V (d' := 3) lk_X3_56 hR1.h3 rfl (rm_lt (by decide) (by decide)) (Nat.le_of_ble_eq_true rfl) dX3_known_22 ?_
    refine xr_wrong hR1 (by omega) (fun σ2 hR2 hg2 => ?_)
    have e : wr_ m γ1 2 (iv_ γ1 m 4) = kno_ m γ x := by
      unfold kno_
      rcases hγ with ⟨e, q⟩ | ⟨e, q⟩
      · rw [e]
        by_cases h0 : iv_ γ m 13 = 0
        · rw [if_pos h0, if_pos (q h0), if_pos (by omega)]
        · rw [if_neg h0, wr_id h0]
      · rw [e]
        by_cases h0 : iv_ γ m 13 = 0
        · rw [if_pos h0, if_neg (q h0)]
          exact wr_id (by rw [wr_13 h13]; decide)
        · rw [if_neg h0, wr_id h0, wr_id h0]
    rw [e] at hR2
    exact J25 σ2 hR2 (hg.tr hg2)
  refine g_al0 dX3_known_0 ?_
  obtain ⟨so, pl, nu, wd, wv, n, w, hK, hTM0⟩ := hR.2.2.2.1
  have hKb := hK.2.2.2.2.2.2.2.2.2.1
  refine f_getA 2 fk_X3_28 rfl hR.h3 (fun _ _ => rfl) hR.1.2.2.2.2.2.1 dX3_known_1 ?_
  refine g_lt (fun hlt hgz => ?_)
  refine g_callV0I (d' := 6) lk_X3_75 hK.1 rfl (rm_lt (by decide) (by decide)) (Nat.le_of_ble_eq_true rfl) dX3_known_4 ?_
  refine xt_isName hK hR.2.2.2.2.2.2.1 (by have := hR.ge; omega) (fun z4 σ4 hF4 hn4 hH4 hz4 => ?_)
  obtain ⟨hR, hg4, hK⟩ := hR.hsh hK hTM0 hF4 hn4 hH4 hlt
  refine g_if_ne (tgt := 15) dX3_known_7 (by decide) (by omega) (fun h7 => ?_) (fun h7 => ?_)
  · refine J15 σ4 γ hR hg4 (Or.inl ⟨rfl, fun h0 => ((hTM0 h0).isn h0).mpr (by rcases hz4 with q | q; (exact q.2); (omega))⟩)
  refine g_al0 dX3_known_10 ?_
  refine g_iconst dX3_known_11 ?_
  refine g_callV1V (d' := 3) lk_X3_56 hR.h3 rfl (rm_lt (by decide) (by decide)) (Nat.le_of_ble_eq_true rfl) dX3_known_12 ?_
  refine xr_wrong hR (by omega) (fun σ1 hR1 hg1 => ?_)
  refine J15 σ1 _ hR1 (hg4.tr hg1) (Or.inr ⟨rfl, fun h0 q => by rcases hz4 with z | z; (omega); (exact z.2 (((hTM0 h0).isn h0).mp q))⟩)
theorem xr_begins {can : Int} {x y : Int} {Q : JH → Prop} (hR : RR_ G m X ρ σ γ o T c d) (hcd : 0 ≤ c ∧ 0 ≤ d) (h0 : iv_ γ m 13 = 0) (hN : iv_ γ (m + 4) 9 = 0 ↔ iv_ γ (m + 4) 0 = 0) (hx : 0 ≤ x ∧ x ≤ 100) (hy : 0 ≤ y ∧ y ≤ 100) (hcan : (x = y → can = 0) ∧ (x ≠ y → can = 1))
    (hQ : ∀ σ' o', RR_ G m X ρ σ' (bgs_ m γ can) o' T c d → GX_ ρ σ σ' → Q σ') : CallV_ G 12 yX3_begins cX3_begins 3 none [A_ (some ρ), I_ x, I_ y] σ Q := by
  refine call_go [some (A_ (some ρ)), some (I_ x), some (I_ y)] (by decide) (Nat.le_of_ble_eq_true rfl) rfl ?_
  have J10 : ∀ σ1 γ1, RR_ G m X ρ σ1 γ1 o T c d → GX_ ρ σ σ1 → ((γ1 = γ ∧ can = 1) ∨ (γ1 = wr_ m γ 5 (iv_ γ m 4) ∧ can = 0)) → GoM_ G 12 yX3_begins cX3_begins 3 none σ (fun v σ' => v = none ∧ Q σ') 10 [some (A_ (some ρ)), some (I_ x), some (I_ y)] [] σ1 := by
    intro σ1 γ1 hR hg hγ
    obtain ⟨f, hP, hPf⟩ := hR.2.2.2.2.1
    have hP1 : rv_ σ1 ρ 1 = some (xP_ T) := by rw [hR.1.2.2.2.2.2.2]; exact hR.1.2.2.2.2.1
    have hfb := hP.2.1 0 (by decide) (by decide)
    refine g_al0 dX3_begins_10 ?_
    refine f_getA 1 fk_X3_12 rfl hR.h3 (fun _ _ => rfl) hP1 dX3_begins_11 ?_
    refine f_getv 0 fk_X3_101 rfl hP.1.sh (fun _ _ => rfl) hP.1.n0 dX3_begins_14 ?_
    refine g_if_ne (tgt := 26) dX3_begins_17 (by decide) (by omega) (fun h17 => ?_) (fun h17 => ?_)
    · refine g_al0 dX3_begins_26 ?_
      refine g_callV0V (d' := 11) lk_X3_49 hR.h3 rfl (rm_lt (by decide) (by decide)) (Nat.le_of_ble_eq_true rfl) dX3_begins_27 ?_
      refine xr_on hR hcd (fun σ3 o3 hR3 hg3 => ?_)
      exact g_vret rfl dX3_begins_30 ⟨rfl, hQ _ _ (by rw [show bgs_ m γ can = onn_ m γ1 from (by
          unfold bgs_ onn_
          rcases hγ with ⟨e, q⟩ | ⟨e, q⟩
          · rw [e] at hPf ⊢
            rw [hPf h0] at h17
            rw [if_neg (by omega), if_neg (fun w => h17 (hN.mp w)), if_pos h0]
          · rw [e, if_pos q, if_neg (by rw [wr_13 (Or.inl h0)]; decide)])]; exact hR3 _ _ (Or.inl ⟨Int.le_refl _, Int.le_refl _⟩)) (hg.tr hg3)⟩
    refine g_al0 dX3_begins_20 ?_
    refine g_bipush dX3_begins_21 (by decide) (by decide) ?_
    refine g_callV1V (d' := 3) lk_X3_56 hR.h3 rfl (rm_lt (by decide) (by decide)) (Nat.le_of_ble_eq_true rfl) dX3_begins_23 ?_
    refine xr_wrong hR (by omega) (fun σ2 hR2 hg2 => ?_)
    have hR := hR2
    refine g_al0 dX3_begins_26 ?_
    refine g_callV0V (d' := 11) lk_X3_49 hR.h3 rfl (rm_lt (by decide) (by decide)) (Nat.le_of_ble_eq_true rfl) dX3_begins_27 ?_
    refine xr_on hR2 hcd (fun σ3 o3 hR3 hg3 => ?_)
    exact g_vret rfl dX3_begins_30 ⟨rfl, hQ _ _ (by rw [show bgs_ m γ can = onn_ m (wr_ m γ1 6 (iv_ γ1 m 4)) from (by
        unfold bgs_ onn_
        rcases hγ with ⟨e, q⟩ | ⟨e, q⟩
        · rw [e] at hPf ⊢
          rw [hPf h0] at h17
          rw [if_neg (by omega), if_pos (hN.mpr h17), if_neg (by rw [wr_13 (Or.inl h0)]; decide)]
        · have h13 : iv_ (wr_ m γ 5 (iv_ γ m 4)) m 13 ≠ 0 := by rw [wr_13 (Or.inl h0)]; decide
          rw [e, if_pos q, wr_id h13, if_neg h13])]; exact hR3 _ _ (Or.inl ⟨Int.le_refl _, Int.le_refl _⟩)) ((hg.tr hg2).tr hg3)⟩
  refine g_il1 dX3_begins_0 ?_
  refine g_il2 dX3_begins_1 ?_
  refine g_icmp_ne (tgt := 10) dX3_begins_2 (by decide) (by omega) (fun h2 => ?_) (fun h2 => ?_)
  · exact J10 σ γ hR GX_.rf (Or.inl ⟨rfl, hcan.2 (by omega)⟩)
  refine g_al0 dX3_begins_5 ?_
  refine g_iconst dX3_begins_6 ?_
  refine g_callV1V (d' := 3) lk_X3_56 hR.h3 rfl (rm_lt (by decide) (by decide)) (Nat.le_of_ble_eq_true rfl) dX3_begins_7 ?_
  refine xr_wrong hR (by omega) (fun σ1 hR1 hg1 => ?_)
  exact J10 σ1 _ hR1 hg1 (Or.inr ⟨rfl, hcan.1 (by omega)⟩)
end
