/-! THE COMPONENT: whales on their ways. Written by mod/m83.py -/
set_option maxRecDepth 100000
section
variable {G : JG} {X : Nat} {σ : JH} {T : XT} {r s : Int → Int}
theorem stp_no {kd : Int} {Xf Tc : Int → Int} {a b k i : Int} (h : i = b → ¬ (Xf a < 1000000 ∧ db_ r kd k (Xf a) < Tc i)) : stp_ r kd Xf Tc a b k i = Tc i := if_neg (fun w => h w.1 w.2)
theorem stp_yes {kd : Int} {Xf Tc : Int → Int} {a b k : Int} (h1 : Xf a < 1000000) (h2 : db_ r kd k (Xf a) < Tc b) : stp_ r kd Xf Tc a b k b = db_ r kd k (Xf a) := if_pos ⟨rfl, h1, h2⟩
theorem xo_goesBy {o κ : Nat} {k : Int} {Xf Tf : Int → Int} {Q : Int → JH → Prop} (hX : XD_ G X σ T r s) (hW : RW_ r) (hD : DW_ r s) (hlt : ∀ a s, sh_ σ a = some s → a < sz_ σ) (hκ : κ < 4) (hso : sh_ σ o = some (.inl (11 + κ))) (hk : 0 ≤ k ∧ k < r 5) (hop : ¬ hb_ (s 1) k) (hdays : ∀ i, 0 ≤ i → i < 7 → iv_ σ (X + 6) i = nv_ (Xf i)) (hthen : ∀ i, 0 ≤ i → i < 7 → iv_ σ (X + 7) i = nv_ (Tf i)) (hXf : ∀ i, 0 ≤ i → i < 7 → (0 ≤ Xf i ∧ Xf i ≤ 240000) ∨ Xf i = 1000000) (hTf : ∀ i, OK_ (Tf i))
    (hQ : ∀ (z : Int) (σ' : JH), (z = 0 ∨ z = 1) → Fr_ (fun b _ => b = X + 7) σ σ' → (∀ i, 0 ≤ i → i < 7 → iv_ σ' (X + 7) i = nv_ (es_ r s κ Xf i k (Tf i))) → (z = 0 → ∀ i, 0 ≤ i → i < 7 → es_ r s κ Xf i k (Tf i) = Tf i) → Q z σ') : CallI_ G 5 yX1_goesBy cX1_goesBy 7 (some .boolean) [A_ (some X), A_ (some o), A_ (some (xg_ T 1 k))] σ Q := by
  refine call_go [some (A_ (some X)), some (A_ (some o)), some (A_ (some (xg_ T 1 k))), none, none, none, none] (by decide) (Nat.le_of_ble_eq_true rfl) rfl ?_
  have hR := hX.R
  have hn := hW.n
  have hY := hX.P.way (k := k) hk.1 hk.2
  have hyw := hW.way (k := k) hk.1 hk.2
  have J2 : ∀ (z : Int) (σ1 : JH) (v5 v6 : Option AV), (z = 0 ∨ z = 1) → Fr_ (fun b _ => b = X + 7) σ σ1 → (∀ i, 0 ≤ i → i < 7 → iv_ σ1 (X + 7) i = nv_ ((stp_ r κ Xf (stp_ r κ Xf Tf (r (59 + 4 * k)) (r (60 + 4 * k)) k) (r (60 + 4 * k)) (r (59 + 4 * k)) k) i)) → (z = 0 → ∀ i, 0 ≤ i → i < 7 → (stp_ r κ Xf (stp_ r κ Xf Tf (r (59 + 4 * k)) (r (60 + 4 * k)) k) (r (60 + 4 * k)) (r (59 + 4 * k)) k) i = Tf i) → GoM_ G 5 yX1_goesBy cX1_goesBy 7 (some .boolean) σ (fun v σ' => ∃ x : Int, v = some (I_ x) ∧ Q x σ') 5 [some (A_ (some X)), some (A_ (some o)), some (A_ (some (xg_ T 1 k))), some (I_ z), some (I_ 2), v5, v6] [] σ1 := by
    intro z σ1 v5 v6 h01 hF hv hz
    have hX := hX.xs (hF.mono (fun b k q => by unfold xs_; omega)) hlt
    have hR := hX.R
    have hY := hX.P.way (k := k) hk.1 hk.2
    have hso : sh_ σ1 o = some (.inl (11 + κ)) := (hF.1 o).trans hso
    refine g_il4 dX1_goesBy_5 ?_
    refine g_iconst dX1_goesBy_7 ?_
    refine g_icmp_ge (tgt := 108) dX1_goesBy_8 (by decide) (by omega) (fun h8 => ?_) (fun h8 => ?_)
    · refine g_il3 dX1_goesBy_108 ?_
      exact g_zret rfl (by omega) dX1_goesBy_109 ⟨_, rfl, hQ z σ1 h01 hF (fun i i0 i1 => by rw [hv i i0 i1, es_stp hW hk.1 hk.2 hop]) (fun w i i0 i1 => by rw [es_stp hW hk.1 hk.2 hop]; exact hz w i i0 i1)⟩
    exact absurd h8 (by decide)
  have J1 : ∀ (z : Int) (σ1 : JH) (v5 v6 : Option AV), (z = 0 ∨ z = 1) → Fr_ (fun b _ => b = X + 7) σ σ1 → (∀ i, 0 ≤ i → i < 7 → iv_ σ1 (X + 7) i = nv_ ((stp_ r κ Xf Tf (r (59 + 4 * k)) (r (60 + 4 * k)) k) i)) → (z = 0 → ∀ i, 0 ≤ i → i < 7 → (stp_ r κ Xf Tf (r (59 + 4 * k)) (r (60 + 4 * k)) k) i = Tf i) → GoM_ G 5 yX1_goesBy cX1_goesBy 7 (some .boolean) σ (fun v σ' => ∃ x : Int, v = some (I_ x) ∧ Q x σ') 5 [some (A_ (some X)), some (A_ (some o)), some (A_ (some (xg_ T 1 k))), some (I_ z), some (I_ 1), v5, v6] [] σ1 := by
    intro z σ1 v5 v6 h01 hF hv hz
    have hX := hX.xs (hF.mono (fun b k q => by unfold xs_; omega)) hlt
    have hR := hX.R
    have hY := hX.P.way (k := k) hk.1 hk.2
    have hso : sh_ σ1 o = some (.inl (11 + κ)) := (hF.1 o).trans hso
    have hTo : ∀ i, OK_ ((stp_ r κ Xf Tf (r (59 + 4 * k)) (r (60 + 4 * k)) k) i) := stp_OK hW hk.1 hk.2 (by have := hXf (r (59 + 4 * k)) (by omega) (by omega); unfold OK_; omega) (by have := hXf (r (59 + 4 * k)) (by omega) (by omega); omega) hTf
    refine g_il4 dX1_goesBy_5 ?_
    refine g_iconst dX1_goesBy_7 ?_
    refine g_icmp_ge (tgt := 108) dX1_goesBy_8 (by decide) (by omega) (fun h8 => ?_) (fun h8 => ?_)
    · exact absurd h8 (by decide)
    refine g_il4 dX1_goesBy_11 ?_
    refine g_if_ne (tgt := 23) dX1_goesBy_13 (by decide) (by omega) (fun h13 => ?_) (fun h13 => ?_)
    · refine g_al2 dX1_goesBy_23 ?_
      refine f_getv 1 fk_X1_307 rfl hY.1 (fun _ _ => rfl) hY.2.2.2.1 dX1_goesBy_24 ?_
      refine g_is5 dX1_goesBy_27 (by decide) rfl ?_
      refine g_al0 dX1_goesBy_29 ?_
      refine f_getA 11 fk_X1_34 rfl hR.sh (fun _ _ => rfl) hR.f11 dX1_goesBy_30 ?_
      refine g_il5 dX1_goesBy_33 ?_
      have hax := hXf (r (60 + 4 * k)) (by omega) (by omega)
      have hdx : iv_ σ1 (X + 6) (r (60 + 4 * k)) = nv_ (Xf (r (60 + 4 * k))) := (hF.2.2.2.2 _ _ (by omega)).trans (hdays _ (by omega) (by omega))
      refine g_ialv hR.a11 (by omega) hdx dX1_goesBy_35 ?_
      refine g_ldcw (x := 9999999) q1343 dX1_goesBy_36 (by decide) ?_
      have hnv : nv_ (Xf (r (60 + 4 * k))) = 9999999 ∧ Xf (r (60 + 4 * k)) = 1000000 ∨ nv_ (Xf (r (60 + 4 * k))) = Xf (r (60 + 4 * k)) ∧ Xf (r (60 + 4 * k)) ≠ 1000000 ∧ 0 ≤ Xf (r (60 + 4 * k)) ∧ Xf (r (60 + 4 * k)) ≤ 240000 := by unfold nv_; split <;> omega
      refine g_icmp_ne (tgt := 45) dX1_goesBy_39 (by decide) (by omega) (fun h39 => ?_) (fun h39 => ?_)
      · refine g_al1 dX1_goesBy_45 ?_
        refine g_al2 dX1_goesBy_46 ?_
        refine g_al0 dX1_goesBy_47 ?_
        refine f_getA 11 fk_X1_34 rfl hR.sh (fun _ _ => rfl) hR.f11 dX1_goesBy_48 ?_
        refine g_il5 dX1_goesBy_51 ?_
        refine g_ialv hR.a11 (by omega) (show iv_ σ1 (X + 6) (r (60 + 4 * k)) = Xf (r (60 + 4 * k)) by rw [hdx]; omega) dX1_goesBy_53 ?_
        refine gv_X1_243 hY.1 hY.2.2.2.2.2 (by omega) (by omega) rfl hκ hso (by decide) (Nat.le_of_ble_eq_true rfl) dX1_goesBy_54 ?_
        
        refine g_al1 dX1_goesBy_57 ?_
        refine g_al2 dX1_goesBy_58 ?_
        refine f_getv 2 fk_X1_237 rfl hY.1 (fun _ _ => rfl) hY.2.2.2.2.1 dX1_goesBy_59 ?_
        refine gv_X1_310 rfl hκ hso (by decide) (Nat.le_of_ble_eq_true rfl) dX1_goesBy_62 ?_
        
        refine g_iadd dX1_goesBy_65 ?_
        refine g_top (show (if (κ : Int) = 3 then Xf (r (60 + 4 * k)) else sd_ (r (62 + 4 * k)) (Xf (r (60 + 4 * k)))) + (if (κ : Int) = 2 then 2 else 1) * r (61 + 4 * k) = db_ r κ k (Xf (r (60 + 4 * k))) from rfl) ?_
        have hdb := db_in hW (κ : Int) (k := k) (d := Xf (r (60 + 4 * k))) hk.1 hk.2 (by omega)
        refine g_is6 dX1_goesBy_66 (by decide) rfl ?_
        refine g_il6 dX1_goesBy_68 ?_
        refine g_al0 dX1_goesBy_70 ?_
        refine f_getA 12 fk_X1_37 rfl hR.sh (fun _ _ => rfl) hR.f12 dX1_goesBy_71 ?_
        refine g_al2 dX1_goesBy_74 ?_
        refine g_il5 dX1_goesBy_75 ?_
        refine g_callV1I (d' := 2) lk_X1_313 hY.1 rfl (rm_lt (by decide) (by decide)) (Nat.le_of_ble_eq_true rfl) dX1_goesBy_77 ?_
        refine xw_from hY.1 hY.2.2.1 hY.2.2.2.1 (by omega) (by omega) (by omega) ?_
        refine g_top (show _ = r (59 + 4 * k) by rw [if_neg (by omega), if_pos rfl]) ?_
        have hTb := hTo (r (59 + 4 * k))
        have hTv : nv_ ((stp_ r κ Xf Tf (r (59 + 4 * k)) (r (60 + 4 * k)) k) (r (59 + 4 * k))) = 9999999 ∧ (stp_ r κ Xf Tf (r (59 + 4 * k)) (r (60 + 4 * k)) k) (r (59 + 4 * k)) = 1000000 ∨ nv_ ((stp_ r κ Xf Tf (r (59 + 4 * k)) (r (60 + 4 * k)) k) (r (59 + 4 * k))) = (stp_ r κ Xf Tf (r (59 + 4 * k)) (r (60 + 4 * k)) k) (r (59 + 4 * k)) ∧ (stp_ r κ Xf Tf (r (59 + 4 * k)) (r (60 + 4 * k)) k) (r (59 + 4 * k)) ≠ 1000000 ∧ 0 ≤ (stp_ r κ Xf Tf (r (59 + 4 * k)) (r (60 + 4 * k)) k) (r (59 + 4 * k)) ∧ (stp_ r κ Xf Tf (r (59 + 4 * k)) (r (60 + 4 * k)) k) (r (59 + 4 * k)) ≤ 250000 := by unfold OK_ at hTb; unfold nv_; split <;> omega
        refine g_ialv hR.a12 (by omega) (hv (r (59 + 4 * k)) (by omega) (by omega)) dX1_goesBy_80 ?_
        refine g_icmp_lt (tgt := 87) dX1_goesBy_81 (by decide) (by omega) (fun h81 => ?_) (fun h81 => ?_)
        · refine g_al0 dX1_goesBy_87 ?_
          refine f_getA 12 fk_X1_37 rfl hR.sh (fun _ _ => rfl) hR.f12 dX1_goesBy_88 ?_
          refine g_al2 dX1_goesBy_91 ?_
          refine g_il5 dX1_goesBy_92 ?_
          refine g_callV1I (d' := 2) lk_X1_313 hY.1 rfl (rm_lt (by decide) (by decide)) (Nat.le_of_ble_eq_true rfl) dX1_goesBy_94 ?_
          refine xw_from hY.1 hY.2.2.1 hY.2.2.2.1 (by omega) (by omega) (by omega) ?_
          refine g_top (show _ = r (59 + 4 * k) by rw [if_neg (by omega), if_pos rfl]) ?_
          refine g_il6 dX1_goesBy_97 ?_
          refine g_iast hR.a12 hR.g12 (by omega) dX1_goesBy_99 ?_
          refine g_iconst dX1_goesBy_100 ?_
          refine g_is3 dX1_goesBy_101 (by decide) rfl ?_
          refine g_inc4 dX1_goesBy_102 (by decide) rfl ?_
          refine g_goto (tgt := 5) dX1_goesBy_105 (by decide) ?_
          exact J2 1 _ _ _ (Or.inr rfl) (hF.pi rfl) (fun i i0 i1 => by by_cases q : i = r (59 + 4 * k); (subst q; rw [iv_pi, if_pos ⟨rfl, rfl⟩, stp_yes (by omega) (by omega), nv_1 (by omega)]); (rw [iv_pi, if_neg (fun w => q w.2), stp_no (fun w => absurd w q)]; exact hv i i0 i1)) (fun w => absurd w (by decide))
        refine g_goto (tgt := 102) dX1_goesBy_84 (by decide) ?_
        refine g_inc4 dX1_goesBy_102 (by decide) rfl ?_
        refine g_goto (tgt := 5) dX1_goesBy_105 (by decide) ?_
        exact J2 z _ _ _ h01 hF (fun i i0 i1 => by rw [hv i i0 i1]; congr 1; exact (stp_no (fun w => by subst w; omega)).symm) (fun w i i0 i1 => (stp_no (fun u => by subst u; omega)).trans (hz w i i0 i1))
      refine g_goto (tgt := 102) dX1_goesBy_42 (by decide) ?_
      refine g_inc4 dX1_goesBy_102 (by decide) rfl ?_
      refine g_goto (tgt := 5) dX1_goesBy_105 (by decide) ?_
      exact J2 z _ _ _ h01 hF (fun i i0 i1 => by rw [hv i i0 i1]; congr 1; exact (stp_no (fun w => by subst w; omega)).symm) (fun w i i0 i1 => (stp_no (fun u => by subst u; omega)).trans (hz w i i0 i1))
    exact absurd h13 (by decide)
  refine g_iconst dX1_goesBy_0 ?_
  refine g_is3 dX1_goesBy_1 (by decide) rfl ?_
  refine g_iconst dX1_goesBy_2 ?_
  refine g_is4 dX1_goesBy_3 (by decide) rfl ?_
  have h01 : (0 : Int) = 0 ∨ (0 : Int) = 1 := Or.inl rfl
  have hF : Fr_ (fun b _ => b = X + 7) σ σ := Fr_.rf
  have hv := hthen
  have hz : (0 : Int) = 0 → ∀ i, 0 ≤ i → i < 7 → Tf i = Tf i := fun _ _ _ _ => rfl
  have hTo := hTf
  refine g_il4 dX1_goesBy_5 ?_
  refine g_iconst dX1_goesBy_7 ?_
  refine g_icmp_ge (tgt := 108) dX1_goesBy_8 (by decide) (by omega) (fun h8 => ?_) (fun h8 => ?_)
  · exact absurd h8 (by decide)
  refine g_il4 dX1_goesBy_11 ?_
  refine g_if_ne (tgt := 23) dX1_goesBy_13 (by decide) (by omega) (fun h13 => ?_) (fun h13 => ?_)
  · exact absurd rfl h13
  refine g_al2 dX1_goesBy_16 ?_
  refine f_getv 0 fk_X1_304 rfl hY.1 (fun _ _ => rfl) hY.2.2.1 dX1_goesBy_17 ?_
  refine g_goto (tgt := 27) dX1_goesBy_20 (by decide) ?_
  refine g_is5 dX1_goesBy_27 (by decide) rfl ?_
  refine g_al0 dX1_goesBy_29 ?_
  refine f_getA 11 fk_X1_34 rfl hR.sh (fun _ _ => rfl) hR.f11 dX1_goesBy_30 ?_
  refine g_il5 dX1_goesBy_33 ?_
  have hax := hXf (r (59 + 4 * k)) (by omega) (by omega)
  have hdx : iv_ σ (X + 6) (r (59 + 4 * k)) = nv_ (Xf (r (59 + 4 * k))) := (hF.2.2.2.2 _ _ (by omega)).trans (hdays _ (by omega) (by omega))
  refine g_ialv hR.a11 (by omega) hdx dX1_goesBy_35 ?_
  refine g_ldcw (x := 9999999) q1343 dX1_goesBy_36 (by decide) ?_
  have hnv : nv_ (Xf (r (59 + 4 * k))) = 9999999 ∧ Xf (r (59 + 4 * k)) = 1000000 ∨ nv_ (Xf (r (59 + 4 * k))) = Xf (r (59 + 4 * k)) ∧ Xf (r (59 + 4 * k)) ≠ 1000000 ∧ 0 ≤ Xf (r (59 + 4 * k)) ∧ Xf (r (59 + 4 * k)) ≤ 240000 := by unfold nv_; split <;> omega
  refine g_icmp_ne (tgt := 45) dX1_goesBy_39 (by decide) (by omega) (fun h39 => ?_) (fun h39 => ?_)
  · refine g_al1 dX1_goesBy_45 ?_
    refine g_al2 dX1_goesBy_46 ?_
    refine g_al0 dX1_goesBy_47 ?_
    refine f_getA 11 fk_X1_34 rfl hR.sh (fun _ _ => rfl) hR.f11 dX1_goesBy_48 ?_
    refine g_il5 dX1_goesBy_51 ?_
    refine g_ialv hR.a11 (by omega) (show iv_ σ (X + 6) (r (59 + 4 * k)) = Xf (r (59 + 4 * k)) by rw [hdx]; omega) dX1_goesBy_53 ?_
    refine gv_X1_243 hY.1 hY.2.2.2.2.2 (by omega) (by omega) rfl hκ hso (by decide) (Nat.le_of_ble_eq_true rfl) dX1_goesBy_54 ?_
    
    refine g_al1 dX1_goesBy_57 ?_
    refine g_al2 dX1_goesBy_58 ?_
    refine f_getv 2 fk_X1_237 rfl hY.1 (fun _ _ => rfl) hY.2.2.2.2.1 dX1_goesBy_59 ?_
    refine gv_X1_310 rfl hκ hso (by decide) (Nat.le_of_ble_eq_true rfl) dX1_goesBy_62 ?_
    
    refine g_iadd dX1_goesBy_65 ?_
    refine g_top (show (if (κ : Int) = 3 then Xf (r (59 + 4 * k)) else sd_ (r (62 + 4 * k)) (Xf (r (59 + 4 * k)))) + (if (κ : Int) = 2 then 2 else 1) * r (61 + 4 * k) = db_ r κ k (Xf (r (59 + 4 * k))) from rfl) ?_
    have hdb := db_in hW (κ : Int) (k := k) (d := Xf (r (59 + 4 * k))) hk.1 hk.2 (by omega)
    refine g_is6 dX1_goesBy_66 (by decide) rfl ?_
    refine g_il6 dX1_goesBy_68 ?_
    refine g_al0 dX1_goesBy_70 ?_
    refine f_getA 12 fk_X1_37 rfl hR.sh (fun _ _ => rfl) hR.f12 dX1_goesBy_71 ?_
    refine g_al2 dX1_goesBy_74 ?_
    refine g_il5 dX1_goesBy_75 ?_
    refine g_callV1I (d' := 2) lk_X1_313 hY.1 rfl (rm_lt (by decide) (by decide)) (Nat.le_of_ble_eq_true rfl) dX1_goesBy_77 ?_
    refine xw_from hY.1 hY.2.2.1 hY.2.2.2.1 (by omega) (by omega) (by omega) ?_
    refine g_top (show _ = r (60 + 4 * k) by rw [if_pos rfl]) ?_
    have hTb := hTo (r (60 + 4 * k))
    have hTv : nv_ (Tf (r (60 + 4 * k))) = 9999999 ∧ Tf (r (60 + 4 * k)) = 1000000 ∨ nv_ (Tf (r (60 + 4 * k))) = Tf (r (60 + 4 * k)) ∧ Tf (r (60 + 4 * k)) ≠ 1000000 ∧ 0 ≤ Tf (r (60 + 4 * k)) ∧ Tf (r (60 + 4 * k)) ≤ 250000 := by unfold OK_ at hTb; unfold nv_; split <;> omega
    refine g_ialv hR.a12 (by omega) (hv (r (60 + 4 * k)) (by omega) (by omega)) dX1_goesBy_80 ?_
    refine g_icmp_lt (tgt := 87) dX1_goesBy_81 (by decide) (by omega) (fun h81 => ?_) (fun h81 => ?_)
    · refine g_al0 dX1_goesBy_87 ?_
      refine f_getA 12 fk_X1_37 rfl hR.sh (fun _ _ => rfl) hR.f12 dX1_goesBy_88 ?_
      refine g_al2 dX1_goesBy_91 ?_
      refine g_il5 dX1_goesBy_92 ?_
      refine g_callV1I (d' := 2) lk_X1_313 hY.1 rfl (rm_lt (by decide) (by decide)) (Nat.le_of_ble_eq_true rfl) dX1_goesBy_94 ?_
      refine xw_from hY.1 hY.2.2.1 hY.2.2.2.1 (by omega) (by omega) (by omega) ?_
      refine g_top (show _ = r (60 + 4 * k) by rw [if_pos rfl]) ?_
      refine g_il6 dX1_goesBy_97 ?_
      refine g_iast hR.a12 hR.g12 (by omega) dX1_goesBy_99 ?_
      refine g_iconst dX1_goesBy_100 ?_
      refine g_is3 dX1_goesBy_101 (by decide) rfl ?_
      refine g_inc4 dX1_goesBy_102 (by decide) rfl ?_
      refine g_goto (tgt := 5) dX1_goesBy_105 (by decide) ?_
      exact J1 1 _ _ _ (Or.inr rfl) (hF.pi rfl) (fun i i0 i1 => by by_cases q : i = r (60 + 4 * k); (subst q; rw [iv_pi, if_pos ⟨rfl, rfl⟩, stp_yes (by omega) (by omega), nv_1 (by omega)]); (rw [iv_pi, if_neg (fun w => q w.2), stp_no (fun w => absurd w q)]; exact hv i i0 i1)) (fun w => absurd w (by decide))
    refine g_goto (tgt := 102) dX1_goesBy_84 (by decide) ?_
    refine g_inc4 dX1_goesBy_102 (by decide) rfl ?_
    refine g_goto (tgt := 5) dX1_goesBy_105 (by decide) ?_
    exact J1 0 _ _ _ h01 hF (fun i i0 i1 => by rw [hv i i0 i1]; congr 1; exact (stp_no (fun w => by subst w; omega)).symm) (fun w i i0 i1 => (stp_no (fun u => by subst u; omega)).trans (hz w i i0 i1))
  refine g_goto (tgt := 102) dX1_goesBy_42 (by decide) ?_
  refine g_inc4 dX1_goesBy_102 (by decide) rfl ?_
  refine g_goto (tgt := 5) dX1_goesBy_105 (by decide) ?_
  exact J1 0 _ _ _ h01 hF (fun i i0 i1 => by rw [hv i i0 i1]; congr 1; exact (stp_no (fun w => by subst w; omega)).symm) (fun w i i0 i1 => (stp_no (fun u => by subst u; omega)).trans (hz w i i0 i1))
def Stl_ (z : Int) (n : Nat) (f : Nat → Int → Int) : Prop := z = 0 → ∃ m : Nat, n = m + 1 ∧ ∀ i, 0 ≤ i → i < 7 → f (m + 1) i = f m i
theorem es_cl {kd : Int} {Xf : Int → Int} {i k t : Int} (h : hb_ (s 1) k) : es_ r s kd Xf i k t = t := if_pos h
theorem cast_pb {R : Room} {y : MethodName} {cc : ByteArray} {nL : Nat} {ret : Option FieldType} {σ0 : JH} {Z : List Frame → Array Value → State → State → Prop} {pc a : Nat} {ev : List (Option AV)} {st : List AV} {i x : Int} {f : Int → Int} (h0 : 0 ≤ i) (k : Go_ G R y cc nL ret σ0 Z pc ev st (pb_ σ a 0 (i + 1) f)) (hx : x = f i) : Go_ G R y cc nL ret σ0 Z pc ev st (pi_ (pb_ σ a 0 i f) a i x) := by
  have e := pb_s σ a 0 f h0
  rw [show (0 : Int) + i = i by omega] at e
  rw [hx, e]
  exact k
theorem xo_goes {o κ : Nat} {fr dy : Int} {Q : JH → Prop} (hX : XD_ G X σ T r s) (hW : RW_ r) (hD : DW_ r s) (hlt : ∀ a s, sh_ σ a = some s → a < sz_ σ) (hκ : κ < 4) (hso : sh_ σ o = some (.inl (11 + κ))) (hfr : 0 ≤ fr ∧ fr < 7) (hdyb : 0 ≤ dy ∧ dy ≤ 200000)
    (hQ : ∀ σ', Fr_ (fun b _ => b = X + 6 ∨ b = X + 7) σ σ' → (∀ i, 0 ≤ i → i < 7 → iv_ σ' (X + 6) i = nv_ (er_ r s κ fr dy i)) → Q σ') : CallV_ G 6 yX1_goes cX1_goes 7 none [A_ (some X), A_ (some o), I_ fr, I_ dy] σ Q := by
  refine call_go [some (A_ (some X)), some (A_ (some o)), some (I_ fr), some (I_ dy), none, none, none] (by decide) (Nat.le_of_ble_eq_true rfl) rfl ?_
  have hR := hX.R
  have hn := hW.n
  have L3 : ∀ (fu : Nat) (i : Int), 7 - i < (fu : Int) → (0 ≤ i) → (i ≤ 7) → GoM_ G 6 yX1_goes cX1_goes 7 none σ (fun v σ' => v = none ∧ Q σ') 3 [some (A_ (some X)), some (A_ (some o)), some (I_ fr), some (I_ dy), some (I_ i), none, none] [] (pb_ σ (X + 6) 0 i (fun j => nv_ (ea_ r s κ fr dy 0 j))) := by
    intro fu
    induction fu with
    | zero => intro i hn i0 i1; exact absurd hn (by omega)
    | succ fu ih =>
      intro i hn i0 i1
      refine g_il4 dX1_goes_3 ?_
      refine g_bipush dX1_goes_5 (by decide) (by decide) ?_
      refine g_icmp_ge (tgt := 36) dX1_goes_7 (by decide) (by omega) (fun h7 => ?_) (fun h7 => ?_)
      · have ei : i = 7 := by omega
        subst ei
        have L42 : ∀ (fu : Nat) (n : Nat) (z : Int) (v6 : Option AV) (σ1 : JH), (if (κ : Int) = 0 then 1 else 7 : Int) - (n : Int) < (fu : Int) → ((n : Int) ≤ (if (κ : Int) = 0 then 1 else 7 : Int)) → (z = 0 ∨ z = 1) → (Fr_ (fun b _ => b = X + 6 ∨ b = X + 7) σ σ1) → (∀ i, 0 ≤ i → i < 7 → iv_ σ1 (X + 6) i = nv_ (ea_ r s κ fr dy n i)) → (Stl_ z n (ea_ r s κ fr dy)) → GoM_ G 6 yX1_goes cX1_goes 7 none σ (fun v σ' => v = none ∧ Q σ') 42 [some (A_ (some X)), some (A_ (some o)), some (I_ fr), some (I_ dy), some (I_ z), some (I_ (n : Int)), v6] [] σ1 := by
          intro fu
          induction fu with
          | zero => intro n z v6 σ1 hn hnw z01 hF hdy hst; exact absurd hn (by omega)
          | succ fu ih =>
            intro n z v6 σ1 hn hnw z01 hF hdy hst
            have hX0 := hX
            have hso0 := hso
            have hlt0 := hlt
            have hX := hX.xs (hF.mono (fun b k q => by unfold xs_; omega)) hlt
            have hR := hX.R
            have hso := (hF.1 o).trans hso
            have hlt := lt_fr hlt hF
            have hw17 : (if (κ : Int) = 0 then 1 else 7 : Int) = 1 ∨ (if (κ : Int) = 0 then 1 else 7 : Int) = 7 := by split <;> omega
            have hn7 : n ≤ 7 := by omega
            refine g_il5 dX1_goes_42 ?_
            refine g_al1 dX1_goes_44 ?_
            refine gv_X1_292 rfl hκ hso (by decide) (Nat.le_of_ble_eq_true rfl) dX1_goes_45 ?_
            
            refine g_icmp_ge (tgt := 163) dX1_goes_48 (by decide) (by omega) (fun h48 => ?_) (fun h48 => ?_)
            · exact g_vret rfl dX1_goes_163 ⟨rfl, by
          refine hQ σ1 hF (fun i i0 i1 => ?_)
          rw [hdy i i0 i1]
          congr 1
          unfold er_
          have e7 : (n : Int) = (if (κ : Int) = 0 then 1 else 7 : Int) := by omega
          by_cases q : (κ : Int) = 0
          · rw [if_pos q] at e7 ⊢
            rw [show n = 1 by omega]
          · rw [if_neg q] at e7 ⊢
            rw [show n = 7 by omega]⟩
            refine g_il4 dX1_goes_51 ?_
            refine g_if_eq (tgt := 163) dX1_goes_53 (by decide) (by omega) (fun h53 => ?_) (fun h53 => ?_)
            · exact g_vret rfl dX1_goes_163 ⟨rfl, by
          refine hQ σ1 hF (fun i i0 i1 => ?_)
          rw [hdy i i0 i1]
          congr 1
          unfold er_
          obtain ⟨m, em, hm⟩ := hst (by omega)
          by_cases q : (κ : Int) = 0
          · rw [if_pos q] at hnw ⊢
            rw [show n = 1 by omega]
          · rw [if_neg q] at hnw ⊢
            obtain ⟨j, ej⟩ : ∃ j, 7 = m + j := ⟨7 - m, by omega⟩
            have e1 := ea_st hW (n := m) hm j i i0 i1
            rw [em, hm i i0 i1, ← e1, ← ej]⟩
            refine g_al0 dX1_goes_56 ?_
            refine f_getA 11 fk_X1_34 rfl hR.sh (fun _ _ => rfl) hR.f11 dX1_goes_57 ?_
            refine g_iconst dX1_goes_60 ?_
            refine g_al0 dX1_goes_61 ?_
            refine f_getA 12 fk_X1_37 rfl hR.sh (fun _ _ => rfl) hR.f12 dX1_goes_62 ?_
            refine g_iconst dX1_goes_65 ?_
            refine g_bipush dX1_goes_66 (by decide) (by decide) ?_
            refine g_acp (t := 0) (by decide) q1354 hR.a11 hR.a12 hR.g12 (by omega) (by omega) (fun j _ _ => rfl) (rm_64 (by decide)) (Nat.le_of_ble_eq_true rfl) dX1_goes_68 ?_
            have hn7 : n ≤ 6 := by omega
            refine g_iconst dX1_goes_71 ?_
            refine g_is4 dX1_goes_72 (by decide) rfl ?_
            refine g_iconst dX1_goes_74 ?_
            refine g_is6 dX1_goes_75 (by decide) rfl ?_
            have hX := hX0
            have hso := hso0
            have hlt := hlt0
            have L77 : ∀ (fu2 : Nat) (z : Int) (k : Int) (σ2 : JH), r 5 - k < (fu2 : Int) → (0 ≤ k) → (k ≤ r 5) → (z = 0 ∨ z = 1) → (Fr_ (fun b _ => b = X + 6 ∨ b = X + 7) σ σ2) → (∀ i, 0 ≤ i → i < 7 → iv_ σ2 (X + 6) i = nv_ (ea_ r s κ fr dy n i)) → (∀ i, 0 ≤ i → i < 7 → iv_ σ2 (X + 7) i = nv_ (iI_ (es_ r s κ (ea_ r s κ fr dy n) i) (ea_ r s κ fr dy n i) k)) → (z = 0 → ∀ i, 0 ≤ i → i < 7 → iI_ (es_ r s κ (ea_ r s κ fr dy n) i) (ea_ r s κ fr dy n i) k = ea_ r s κ fr dy n i) → GoM_ G 6 yX1_goes cX1_goes 7 none σ (fun v σ' => v = none ∧ Q σ') 77 [some (A_ (some X)), some (A_ (some o)), some (I_ fr), some (I_ dy), some (I_ z), some (I_ (n : Int)), some (I_ k)] [] σ2 := by
              intro fu2
              induction fu2 with
              | zero => intro z k σ2 hn k0 k1 z01 hF hdy hth hzz; exact absurd hn (by omega)
              | succ fu2 ih2 =>
                intro z k σ2 hn k0 k1 z01 hF hdy hth hzz
                have hX := hX.xs (hF.mono (fun b k q => by unfold xs_; omega)) hlt
                have hR := hX.R
                have hso := (hF.1 o).trans hso
                have hlt := lt_fr hlt hF
                refine g_il6 dX1_goes_77 ?_
                refine g_al0 dX1_goes_79 ?_
                refine f_getA 5 fk_X1_104 rfl hR.sh (fun _ _ => rfl) hX.f5 dX1_goes_80 ?_
                refine f_getA 5 fk_X1_226 rfl hX.P.sh (fun _ _ => rfl) hX.P.f5 dX1_goes_83 ?_
                refine g_callV0I (d' := 2) lk_X1_127 hX.P.l1.1 rfl (rm_lt (by decide) (by decide)) (Nat.le_of_ble_eq_true rfl) dX1_goes_86 ?_
                refine js_size hX.P.l1 ?_
                refine g_icmp_ge (tgt := 142) dX1_goes_89 (by decide) (by omega) (fun h89 => ?_) (fun h89 => ?_)
                · have ek : k = r 5 := by omega
                  subst ek
                  have hstep : ∀ i, iI_ (es_ r s κ (ea_ r s κ fr dy n) i) (ea_ r s κ fr dy n i) (r 5) = ea_ r s κ fr dy (n + 1) i := fun _ => rfl
                  refine g_al0 dX1_goes_142 ?_
                  refine f_getA 12 fk_X1_37 rfl hR.sh (fun _ _ => rfl) hR.f12 dX1_goes_143 ?_
                  refine g_iconst dX1_goes_146 ?_
                  refine g_al0 dX1_goes_147 ?_
                  refine f_getA 11 fk_X1_34 rfl hR.sh (fun _ _ => rfl) hR.f11 dX1_goes_148 ?_
                  refine g_iconst dX1_goes_151 ?_
                  refine g_bipush dX1_goes_152 (by decide) (by decide) ?_
                  refine g_acp (t := 0) (by decide) q1354 hR.a12 hR.a11 hR.g11 (by omega) (by omega) (fun j _ _ => rfl) (rm_64 (by decide)) (Nat.le_of_ble_eq_true rfl) dX1_goes_154 ?_
                  
                  refine g_inc5 dX1_goes_157 (by decide) rfl ?_
                  refine g_goto (tgt := 42) dX1_goes_160 (by decide) ?_
                  rw [show (n : Int) + 1 = ((n + 1 : Nat) : Int) by omega]
                  refine ih (n + 1) z (some (I_ (r 5))) (pb_ σ2 (X + 6) 0 7 (fun j => iv_ σ2 (X + 7) (0 + j))) (by omega) (by omega) z01 ?_ (fun i i0 i1 => ?_) (fun w => ?_)
                  · exact hF.tr ⟨fun _ => rfl, fun _ _ => rfl, rfl, rfl, fun b j q => by rw [iv_pb, if_neg (by omega)]⟩
                  · rw [iv_pb, if_pos ⟨rfl, i0, by omega⟩, show (0 : Int) + (i - 0) = i by omega, hth i i0 i1, hstep]
                  · exact ⟨n, by omega, fun i i0 i1 => by rw [← hstep]; exact hzz w i i0 i1⟩
                refine g_al0 dX1_goes_92 ?_
                refine g_il6 dX1_goes_93 ?_
                refine g_callV1I (d' := 3) lk_X1_234 hR.sh rfl (rm_lt (by decide) (by decide)) (Nat.le_of_ble_eq_true rfl) dX1_goes_95 ?_
                refine xo_isClosed hX hW hD (fun zc hzc => ?_)
                refine g_if_ne (tgt := 136) dX1_goes_98 (by decide) (by omega) (fun h98 => ?_) (fun h98 => ?_)
                · refine g_inc6 dX1_goes_136 (by decide) rfl ?_
                  refine g_goto (tgt := 77) dX1_goes_139 (by decide) ?_
                  exact ih2 z (k + 1) σ2 (by omega) (by omega) (by omega) z01 hF hdy (fun i i0 i1 => by rw [hth i i0 i1, iI_s _ _ k0, es_cl (by omega)]) (fun w i i0 i1 => by rw [iI_s _ _ k0, es_cl (by omega)]; exact hzz w i i0 i1)
                refine g_al0 dX1_goes_101 ?_
                refine g_al1 dX1_goes_102 ?_
                refine g_al0 dX1_goes_103 ?_
                refine f_getA 5 fk_X1_104 rfl hR.sh (fun _ _ => rfl) hX.f5 dX1_goes_104 ?_
                refine f_getA 5 fk_X1_226 rfl hX.P.sh (fun _ _ => rfl) hX.P.f5 dX1_goes_107 ?_
                refine g_il6 dX1_goes_110 ?_
                refine g_callV1A (d' := 4) lk_X1_137 hX.P.l1.1 rfl (rm_lt (by decide) (by decide)) (Nat.le_of_ble_eq_true rfl) dX1_goes_112 ?_
                refine js_get hX.P.l1 (by omega) ?_
                have hY := hX.P.way (k := k) (by omega) (by omega)
                refine g_cast q1215 hY.1 (Or.inl rfl) dX1_goes_115 ?_
                refine g_callV2I (d' := 5) lk_X1_300 hR.sh rfl (rm_lt (by decide) (by decide)) (Nat.le_of_ble_eq_true rfl) dX1_goes_118 ?_
                refine xo_goesBy hX hW hD hlt hκ hso (by omega) (by omega) (Xf := ea_ r s κ fr dy n) (Tf := fun i => iI_ (es_ r s κ (ea_ r s κ fr dy n) i) (ea_ r s κ fr dy n i) k) hdy hth (fun i _ _ => by have := ea_OK (s := s) (kd := κ) hW (fr := fr) hdyb (n := n) (by omega) i; omega) (fun i => em_OK hW hdyb (by omega) i k0 (by omega)) (fun z2 σ3 hz2 hF3 hv3 hzz2 => ?_)
                refine g_if_ne (tgt := 129) dX1_goes_121 (by decide) (by omega) (fun h121 => ?_) (fun h121 => ?_)
                · refine g_iconst dX1_goes_129 ?_
                  refine g_goto (tgt := 134) dX1_goes_130 (by decide) ?_
                  refine g_is4 dX1_goes_134 (by decide) rfl ?_
                  refine g_inc6 dX1_goes_136 (by decide) rfl ?_
                  refine g_goto (tgt := 77) dX1_goes_139 (by decide) ?_
                  exact ih2 1 (k + 1) σ3 (by omega) (by omega) (by omega) (by omega) (hF.tr (hF3.mono (fun b k q => Or.inr q))) (fun i i0 i1 => (hF3.2.2.2.2 _ _ (by omega)).trans (hdy i i0 i1)) (fun i i0 i1 => by rw [hv3 i i0 i1, iI_s _ _ k0]) (fun w => absurd w (by decide))
                refine g_il4 dX1_goes_124 ?_
                refine g_if_eq (tgt := 133) dX1_goes_126 (by decide) (by omega) (fun h126 => ?_) (fun h126 => ?_)
                · refine g_iconst dX1_goes_133 ?_
                  refine g_is4 dX1_goes_134 (by decide) rfl ?_
                  refine g_inc6 dX1_goes_136 (by decide) rfl ?_
                  refine g_goto (tgt := 77) dX1_goes_139 (by decide) ?_
                  exact ih2 0 (k + 1) σ3 (by omega) (by omega) (by omega) (by omega) (hF.tr (hF3.mono (fun b k q => Or.inr q))) (fun i i0 i1 => (hF3.2.2.2.2 _ _ (by omega)).trans (hdy i i0 i1)) (fun i i0 i1 => by rw [hv3 i i0 i1, iI_s _ _ k0]) (fun _ i i0 i1 => by rw [iI_s _ _ k0, hzz2 (by omega) i i0 i1]; exact hzz (by omega) i i0 i1)
                refine g_iconst dX1_goes_129 ?_
                refine g_goto (tgt := 134) dX1_goes_130 (by decide) ?_
                refine g_is4 dX1_goes_134 (by decide) rfl ?_
                refine g_inc6 dX1_goes_136 (by decide) rfl ?_
                refine g_goto (tgt := 77) dX1_goes_139 (by decide) ?_
                exact ih2 1 (k + 1) σ3 (by omega) (by omega) (by omega) (by omega) (hF.tr (hF3.mono (fun b k q => Or.inr q))) (fun i i0 i1 => (hF3.2.2.2.2 _ _ (by omega)).trans (hdy i i0 i1)) (fun i i0 i1 => by rw [hv3 i i0 i1, iI_s _ _ k0]) (fun w => absurd w (by decide))
            exact L77 13 0 0 (pb_ σ1 (X + 7) 0 7 (fun j => iv_ σ1 (X + 6) (0 + j))) (by omega) (by omega) (by omega) (Or.inl rfl) (hF.tr ⟨fun _ => rfl, fun _ _ => rfl, rfl, rfl, fun b j q => by rw [iv_pb, if_neg (by omega)]⟩) (fun i i0 i1 => by rw [iv_pb, if_neg (by omega)]; exact hdy i i0 i1) (fun i i0 i1 => by rw [iv_pb, if_pos ⟨rfl, i0, by omega⟩, show (0 : Int) + (i - 0) = i by omega, hdy i i0 i1, iI_0]) (fun _ i i0 i1 => iI_0 _ _)
        refine g_iconst dX1_goes_36 ?_
        refine g_is4 dX1_goes_37 (by decide) rfl ?_
        refine g_iconst dX1_goes_39 ?_
        refine g_is5 dX1_goes_40 (by decide) rfl ?_
        exact L42 8 0 1 none (pb_ σ (X + 6) 0 7 (fun j => nv_ (ea_ r s κ fr dy 0 j))) (by split <;> omega) (by split <;> omega) (Or.inr rfl) ⟨fun _ => rfl, fun _ _ => rfl, rfl, rfl, fun b j q => by rw [iv_pb, if_neg (by omega)]⟩ (fun i i0 i1 => by rw [iv_pb, if_pos ⟨rfl, i0, by omega⟩, show i - 0 = i by omega]) (fun w => absurd w (by decide))
      refine g_al0 dX1_goes_10 ?_
      refine f_getA 11 fk_X1_34 rfl hR.sh (fun _ _ => rfl) hR.f11 dX1_goes_11 ?_
      refine g_il4 dX1_goes_14 ?_
      refine g_il4 dX1_goes_16 ?_
      refine g_il2 dX1_goes_18 ?_
      refine g_icmp_ne (tgt := 26) dX1_goes_19 (by decide) (by omega) (fun h19 => ?_) (fun h19 => ?_)
      · refine g_ldcw (x := 9999999) q1343 dX1_goes_26 (by decide) ?_
        refine g_iast hR.a11 hR.g11 (by omega) dX1_goes_29 ?_
        refine g_inc4 dX1_goes_30 (by decide) rfl ?_
        refine g_goto (tgt := 3) dX1_goes_33 (by decide) ?_
        refine cast_pb i0 (ih (i + 1) (by omega) (by omega) (by omega)) (by simp only [ea_]; rw [if_neg (by omega), nv_0])
      refine g_il3 dX1_goes_22 ?_
      refine g_goto (tgt := 29) dX1_goes_23 (by decide) ?_
      refine g_iast hR.a11 hR.g11 (by omega) dX1_goes_29 ?_
      refine g_inc4 dX1_goes_30 (by decide) rfl ?_
      refine g_goto (tgt := 3) dX1_goes_33 (by decide) ?_
      refine cast_pb i0 (ih (i + 1) (by omega) (by omega) (by omega)) (by simp only [ea_]; rw [if_pos (by omega), nv_1 (by omega)])
  refine g_iconst dX1_goes_0 ?_
  refine g_is4 dX1_goes_1 (by decide) rfl ?_
  have h := L3 8 0 (by omega) (by omega) (by omega)
  rw [pb_0] at h
  exact h
end
