/-! THE COMPONENT: a box's line. Written by mod/m9q.py -/
set_option maxRecDepth 100000
section
variable {G : JG} {m X ρ o : Nat} {σ σ' γ : JH} {T : XT} {c d : Int}
theorem xr_box  {Q : JH → Prop} (hR : RR_ G m X ρ σ γ o T c d) (hcd : 3 ≤ c ∧ 23 ≤ d) (h0 : iv_ γ m 13 = 0) (hF : FW_ (iv_ γ (m + 4))) (hN : iv_ γ (m + 4) 9 = 0 ↔ iv_ γ (m + 4) 0 = 0) (hTD : TD_ G T) (hE : sh_ σ (gK_ G 100) = some (.inr (3, 0)))
    (hQ : ∀ σ' o' T', RR_ G m X ρ σ' (bl2_ m (bgs_ m γ (ca1_ (iv_ γ (m + 4) 7) 8))) o' T' (c - 3) (d - 23) → TD_ G T' → OL_ ρ σ σ' → Q σ') : CallV_ G 14 yX3_box cX3_box 2 none [A_ (some ρ)] σ Q := by
  refine call_go [some (A_ (some ρ)), none] (by decide) (Nat.le_of_ble_eq_true rfl) rfl ?_
  have hP := hR.P h0
  have hP1 : rv_ σ ρ 1 = some (xP_ T) := by rw [hR.1.2.2.2.2.2.2]; exact hR.1.2.2.2.2.1
  have hcn0 := hF.cn
  have hge := hR.ge
  have hk100 : gK_ G 100 < (gH_ G).size := hP.2.2.2.2.2.1
  refine g_lt (fun hlt0 hgz0 => ?_)
  have hρ0 := hlt0 _ _ hR.h3
  refine g_al0 dX3_box_0 ?_
  refine g_al0 dX3_box_1 ?_
  refine f_getA 1 fk_X3_12 rfl hR.h3 (fun _ _ => rfl) hP1 dX3_box_2 ?_
  refine f_getA 7 fk_X3_272 rfl hP.1.sh (fun _ _ => rfl) hP.1.f7 dX3_box_5 ?_
  refine g_callV0I (d' := 2) lk_X3_181 hP.1.l3.1 rfl (rm_lt (by decide) (by decide)) (Nat.le_of_ble_eq_true rfl) dX3_box_8 ?_
  refine js_size hP.1.l3 ?_
  refine g_bipush dX3_box_11 (by decide) (by decide) ?_
  refine g_callV2V (d' := 12) lk_X3_190 hR.h3 rfl (rm_lt (by decide) (by decide)) (Nat.le_of_ble_eq_true rfl) dX3_box_13 ?_
  refine xr_begins hR (by omega) h0 hN (can := ca1_ (iv_ γ (m + 4) 7) 8) (by omega) (by decide) ⟨fun q => by unfold ca1_; rw [if_neg (by omega)], fun q => by unfold ca1_; rw [if_pos (by omega)]⟩ (fun σ1 o1 hR1 hg1 => ?_)
  have hb1 := bgs_cs h0 (ca1_ (iv_ γ (m + 4) 7) 8)
  have hb4 := fun k => bgs_4 (m := m) (γ := γ) (ca1_ (iv_ γ (m + 4) 7) 8) k
  generalize hγ1 : bgs_ m γ (ca1_ (iv_ γ (m + 4) 7) 8) = γ1 at hR1 hb1 hb4 hQ
  have hfe1 : iv_ γ1 (m + 4) = iv_ γ (m + 4) := funext hb4
  have hF1 : FW_ (iv_ γ1 (m + 4)) := by rw [hfe1]; exact hF
  have hcn1 : iv_ γ1 m 13 = 0 → iv_ γ1 (m + 4) 7 < 8 ∧ iv_ γ1 (m + 4) 9 = 1 := fun q => by
    rcases hb1 with z | z
    · omega
    · have z1 := z.1
      have z2 := z.2.1
      unfold ca1_ at z1
      rw [hfe1]
      refine ⟨Classical.byContradiction fun w => z1 (if_neg w), ?_⟩
      rcases hF.1 with y | y
      · omega
      · exact y.1
  have hcn := hF1.cn
  have hG := hg1
  obtain ⟨E, hEd⟩ : ∃ E : Int → Prop, ∀ j, E j ↔ ((127 + 4 * iv_ γ1 (m + 4) 7 ≤ j ∧ j < 131 + 4 * iv_ γ1 (m + 4) 7) ∨ j = 183 + (12 + iv_ γ1 (m + 4) 7) ∨ (203 + 8 * (12 + iv_ γ1 (m + 4) 7) ≤ j ∧ j < 211 + 8 * (12 + iv_ γ1 (m + 4) 7))) := ⟨_, fun _ => Iff.rfl⟩
  have hEE : iv_ γ1 m 13 = 0 → ∀ j, E j → ¬ RL_ (iv_ γ1 (m + 4)) j ∧ ¬ (183 ≤ j ∧ j < 190) := fun q j hj => by
    have := hcn1 q
    rw [hEd] at hj
    unfold RL_
    omega
  have hI1 := hR1.I
  have hR := hR1
  refine g_lt (fun hlt hgz => ?_)
  refine g_new (ci := 15) nq_X3_275 ⟨_, rfl⟩ (by have := hR.rm0; omega) dX3_box_16 ?_
  have hnw := BT_.new (cb := 15) (n := 5) hR hlt
  have hBT := hnw.2.1
  have hblo : ρ + 2 < sz_ σ1 := by
    obtain ⟨f, hP, -⟩ := hR.2.2.2.2.1
    have := hlt _ _ hP.1.sh
    rw [hR.1.2.2.2.2.2.2] at this
    exact this
  have hR := hnw.1.wk (c' := c - 1) (d' := d - 5) (by omega) (by omega)
  have hG := hG.tr (hnw.2.2.gx (fun _ _ _ q => q.elim))
  have hbz : sz_ σ ≤ sz_ σ1 := hg1.2.2.1
  have hgb := hgz
  refine g_lt (fun hlt hgz => ?_)
  generalize nw_ σ1 (.inl 15) 5 = σn at hBT hR hG hlt hgz ⊢
  generalize sz_ σ1 = b at hBT hblo hbz hgb ⊢
  refine g_dup dX3_box_19 rfl ?_
  refine g_al0 dX3_box_20 ?_
  refine g_callV0A (d' := 12) lk_X3_194 hR.h3 rfl (rm_lt (by decide) (by decide)) (Nat.le_of_ble_eq_true rfl) dX3_box_21 ?_
  refine xr_fresh hR (by omega) (fun _ => hF1) (n1 := 12 + iv_ γ1 (m + 4) 7) (fun q => by have := hcn1 q; omega) (fun q => by have := hcn1 q; unfold US_; omega) (fun σ' o2 wd wv n w hR2 hg2 hS2 hnm => ?_)
  have hBT := hBT.gx (by decide) hR hg2 hlt
  have hR := hR2
  have hG := hG.tr hg2
  have hSM : SM_ m γ1 (nna_ m γ1 (12 + iv_ γ1 (m + 4) 7)) E := SM_.nna hI1 (fun j hj => by rw [hEd]; omega)
  have hE0 : iv_ γ1 m 13 ≠ 0 → E0_ m γ1 (nna_ m γ1 (12 + iv_ γ1 (m + 4) 7)) := fun q => by rw [nna_id q]; exact E0_.rf
  generalize hγ2 : nna_ m γ1 (12 + iv_ γ1 (m + 4) 7) = γ2 at hR hSM hE0 hnm
  clear hR2
  refine g_lt (fun hlt hgz => ?_)
  refine g_callI1 (d' := 2) lk_X3_277 (rm_lt (by decide) (by decide)) (Nat.le_of_ble_eq_true rfl) dX3_box_24 ?_
  refine xi_box hBT.1 hgb ?_
  have hpi := hBT.pr (x := some wd) (by decide) hR
  have hS2 := hS2.obs hpi.2.2
  have hBT := hpi.2.1
  have hR := hpi.1
  have hG := hG.pr (a := b) (k := 0) (r := some wd) (Or.inr (Or.inr hbz))
  clear hpi
  refine g_lt (fun hlt hgz => ?_)
  generalize pr_ σ' b 0 (some wd) = σ' at hS2 hBT hR hG hlt hgz ⊢
  refine g_as1 dX3_box_27 (by decide) rfl ?_
  refine g_al1 dX3_box_28 ?_
  refine g_al0 dX3_box_29 ?_
  refine g_ldcSw (j := 43) rfl dX3_box_30 ?_
  refine g_callV1I (d' := 13) lk_X3_259 hR.h3 rfl (rm_lt (by decide) (by decide)) (Nat.le_of_ble_eq_true rfl) dX3_box_33 ?_
  obtain ⟨vL, hSL, -, -⟩ := hR.2.2.2.2.2.2.1 43 _ rfl
  refine xr_partIsland hR (by omega) hSL (fun q => (hSM.rl hF1 hEE q).2.2.2) (fun z2 σ' o' hR4 hg4 hz2 hzb2 => ?_)
  have hI0 := hR.I
  have hBT := hBT.gx (by decide) hR hg4 hlt
  have hS2 := hS2.gx hg4 hlt hR.h3 hR.h4
  have hG := hG.tr hg4
  have := bwv_in (m := m) γ2 "from"
  have hp4 := RR_.p4s (γ := bw_ m γ2 "from") (k := 127 + 4 * iv_ γ1 (m + 4) 7) (x := bwv_ m γ2 "from") hR4 (hSM.f0 (ibh_A0 hI0 _ _)) hF1 hEE (by rw [hEd]; omega) (by omega) (by omega)
  have hok2 : iv_ (pq_ m γ2 (127 + 4 * iv_ γ1 (m + 4) 7) "from") m 13 = 0 → iv_ γ2 m 13 = 0 ∧ z2 = bwv_ m γ2 "from" := fun q => ⟨(pq_ok hI0 q).1, by
    unfold pq_ at q
    rw [p4_13] at q
    exact hz2 (bw_nd hI0 q)⟩
  have h42 : ∀ j, iv_ (pq_ m γ2 (127 + 4 * iv_ γ1 (m + 4) 7) "from") (m + 4) j = if j = 127 + 4 * iv_ γ1 (m + 4) 7 then bwv_ m γ2 "from" else iv_ γ2 (m + 4) j := fun j => pq_4 _ _ _
  have hR : RR_ G m X ρ σ' (pq_ m γ2 (127 + 4 * iv_ γ1 (m + 4) 7) "from") o' T (c - 1) (d - 5) := hp4.1
  have hSM : SM_ m γ1 (pq_ m γ2 (127 + 4 * iv_ γ1 (m + 4) 7) "from") E := hp4.2
  have hE0 : iv_ γ1 m 13 ≠ 0 → E0_ m γ1 (pq_ m γ2 (127 + 4 * iv_ γ1 (m + 4) 7) "from") := fun q => (hE0 q).pq q
  generalize hγ3 : pq_ m γ2 (127 + 4 * iv_ γ1 (m + 4) 7) "from" = γ3 at hR hSM hE0 hok2 h42
  clear hp4 hR4 this
  refine g_lt (fun hlt hgz => ?_)
  refine f_putI 1 fk_X3_280 rfl (nf_ rfl rfl) hBT.1 hgb rfl dX3_box_36 ?_
  have hpi := hBT.pi (k := 1) (x := z2) (by decide) hR
  have hS2 := hS2.obs hpi.2.2
  have hBT := hpi.2.1
  have hR := hpi.1
  have hG := hG.pi (a := b) (k := 1) (x := z2) (Or.inr (Or.inr hbz))
  clear hpi
  refine g_lt (fun hlt hgz => ?_)
  generalize pi_ σ' b 1 z2 = σ' at hS2 hBT hR hG hlt hgz ⊢
  refine g_al1 dX3_box_39 ?_
  refine g_al0 dX3_box_40 ?_
  refine g_ldcSw (j := 44) rfl dX3_box_41 ?_
  refine g_callV1I (d' := 13) lk_X3_259 hR.h3 rfl (rm_lt (by decide) (by decide)) (Nat.le_of_ble_eq_true rfl) dX3_box_44 ?_
  obtain ⟨vL, hSL, -, -⟩ := hR.2.2.2.2.2.2.1 44 _ rfl
  refine xr_partIsland hR (by omega) hSL (fun q => (hSM.rl hF1 hEE q).2.2.2) (fun z3 σ' o' hR4 hg4 hz3 hzb3 => ?_)
  have hI0 := hR.I
  have hBT := hBT.gx (by decide) hR hg4 hlt
  have hS2 := hS2.gx hg4 hlt hR.h3 hR.h4
  have hG := hG.tr hg4
  have := bwv_in (m := m) γ3 "to"
  have hp4 := RR_.p4s (γ := bw_ m γ3 "to") (k := 127 + 4 * iv_ γ1 (m + 4) 7 + 1) (x := bwv_ m γ3 "to") hR4 (hSM.f0 (ibh_A0 hI0 _ _)) hF1 hEE (by rw [hEd]; omega) (by omega) (by omega)
  have hok3 : iv_ (pq_ m γ3 (127 + 4 * iv_ γ1 (m + 4) 7 + 1) "to") m 13 = 0 → iv_ γ3 m 13 = 0 ∧ z3 = bwv_ m γ3 "to" := fun q => ⟨(pq_ok hI0 q).1, by
    unfold pq_ at q
    rw [p4_13] at q
    exact hz3 (bw_nd hI0 q)⟩
  have h43 : ∀ j, iv_ (pq_ m γ3 (127 + 4 * iv_ γ1 (m + 4) 7 + 1) "to") (m + 4) j = if j = 127 + 4 * iv_ γ1 (m + 4) 7 + 1 then bwv_ m γ3 "to" else iv_ γ3 (m + 4) j := fun j => pq_4 _ _ _
  have hR : RR_ G m X ρ σ' (pq_ m γ3 (127 + 4 * iv_ γ1 (m + 4) 7 + 1) "to") o' T (c - 1) (d - 5) := hp4.1
  have hSM : SM_ m γ1 (pq_ m γ3 (127 + 4 * iv_ γ1 (m + 4) 7 + 1) "to") E := hp4.2
  have hE0 : iv_ γ1 m 13 ≠ 0 → E0_ m γ1 (pq_ m γ3 (127 + 4 * iv_ γ1 (m + 4) 7 + 1) "to") := fun q => (hE0 q).pq q
  generalize hγ4 : pq_ m γ3 (127 + 4 * iv_ γ1 (m + 4) 7 + 1) "to" = γ4 at hR hSM hE0 hok3 h43
  clear hp4 hR4 this
  refine g_lt (fun hlt hgz => ?_)
  refine f_putI 2 fk_X3_284 rfl (nf_ rfl rfl) hBT.1 hgb rfl dX3_box_47 ?_
  have hpi := hBT.pi (k := 2) (x := z3) (by decide) hR
  have hS2 := hS2.obs hpi.2.2
  have hBT := hpi.2.1
  have hR := hpi.1
  have hG := hG.pi (a := b) (k := 2) (x := z3) (Or.inr (Or.inr hbz))
  clear hpi
  refine g_lt (fun hlt hgz => ?_)
  generalize pi_ σ' b 2 z3 = σ' at hS2 hBT hR hG hlt hgz ⊢
  refine g_al1 dX3_box_50 ?_
  refine g_al0 dX3_box_51 ?_
  refine g_ldcSw (j := 45) rfl dX3_box_52 ?_
  refine g_iconst dX3_box_55 ?_
  refine g_bipush dX3_box_56 (by decide) (by decide) ?_
  refine g_callV3I (d' := 13) lk_X3_149 hR.h3 rfl (rm_lt (by decide) (by decide)) (Nat.le_of_ble_eq_true rfl) dX3_box_58 ?_
  obtain ⟨vL, hSL, -, -⟩ := hR.2.2.2.2.2.2.1 45 _ rfl
  refine xr_part hR (by omega) hSL (by decide) (by decide) (fun z4 σ' o' hR4 hg4 hz4 hzb4 => ?_)
  have hI0 := hR.I
  have hBT := hBT.gx (by decide) hR hg4 hlt
  have hS2 := hS2.gx hg4 hlt hR.h3 hR.h4
  have hG := hG.tr hg4
  have := awv_in hI0 "weighs" (lo := 1) (hi := 99)
  have hp4 := RR_.p4s (γ := aw_ m γ4 "weighs" 1 99) (k := 127 + 4 * iv_ γ1 (m + 4) 7 + 2) (x := awv_ m γ4 "weighs" 1 99) hR4 (hSM.f0 (aft_A0 hI0 _ _ _ _)) hF1 hEE (by rw [hEd]; omega) (by omega) (by omega)
  have hok4 : iv_ (ps_ m γ4 (127 + 4 * iv_ γ1 (m + 4) 7 + 2) "weighs" 1 99) m 13 = 0 → iv_ γ4 m 13 = 0 ∧ z4 = awv_ m γ4 "weighs" 1 99 := fun q => ⟨(ps_ok hI0 q).1, by
    unfold ps_ at q
    rw [p4_13] at q
    exact hz4 q⟩
  have h44 : ∀ j, iv_ (ps_ m γ4 (127 + 4 * iv_ γ1 (m + 4) 7 + 2) "weighs" 1 99) (m + 4) j = if j = 127 + 4 * iv_ γ1 (m + 4) 7 + 2 then awv_ m γ4 "weighs" 1 99 else iv_ γ4 (m + 4) j := fun j => ps_4 _ _ _ _ _
  have hR : RR_ G m X ρ σ' (ps_ m γ4 (127 + 4 * iv_ γ1 (m + 4) 7 + 2) "weighs" 1 99) o' T (c - 1) (d - 5) := hp4.1
  have hSM : SM_ m γ1 (ps_ m γ4 (127 + 4 * iv_ γ1 (m + 4) 7 + 2) "weighs" 1 99) E := hp4.2
  have hE0 : iv_ γ1 m 13 ≠ 0 → E0_ m γ1 (ps_ m γ4 (127 + 4 * iv_ γ1 (m + 4) 7 + 2) "weighs" 1 99) := fun q => (hE0 q).ps q
  generalize hγ5 : ps_ m γ4 (127 + 4 * iv_ γ1 (m + 4) 7 + 2) "weighs" 1 99 = γ5 at hR hSM hE0 hok4 h44
  clear hp4 hR4 this
  refine g_lt (fun hlt hgz => ?_)
  refine f_putI 3 fk_X3_288 rfl (nf_ rfl rfl) hBT.1 hgb rfl dX3_box_61 ?_
  have hpi := hBT.pi (k := 3) (x := z4) (by decide) hR
  have hS2 := hS2.obs hpi.2.2
  have hBT := hpi.2.1
  have hR := hpi.1
  have hG := hG.pi (a := b) (k := 3) (x := z4) (Or.inr (Or.inr hbz))
  clear hpi
  refine g_lt (fun hlt hgz => ?_)
  generalize pi_ σ' b 3 z4 = σ' at hS2 hBT hR hG hlt hgz ⊢
  refine g_al1 dX3_box_64 ?_
  refine g_al0 dX3_box_65 ?_
  refine g_ldcSw (j := 46) rfl dX3_box_66 ?_
  refine g_iconst dX3_box_69 ?_
  refine g_sipush dX3_box_70 (by decide) (by decide) ?_
  refine g_callV3I (d' := 13) lk_X3_149 hR.h3 rfl (rm_lt (by decide) (by decide)) (Nat.le_of_ble_eq_true rfl) dX3_box_73 ?_
  obtain ⟨vL, hSL, -, -⟩ := hR.2.2.2.2.2.2.1 46 _ rfl
  refine xr_part hR (by omega) hSL (by decide) (by decide) (fun z5 σ' o' hR4 hg4 hz5 hzb5 => ?_)
  have hI0 := hR.I
  have hBT := hBT.gx (by decide) hR hg4 hlt
  have hS2 := hS2.gx hg4 hlt hR.h3 hR.h4
  have hG := hG.tr hg4
  have := awv_in hI0 "day" (lo := 0) (hi := 9999)
  have hp4 := RR_.p4s (γ := aw_ m γ5 "day" 0 9999) (k := 127 + 4 * iv_ γ1 (m + 4) 7 + 3) (x := awv_ m γ5 "day" 0 9999) hR4 (hSM.f0 (aft_A0 hI0 _ _ _ _)) hF1 hEE (by rw [hEd]; omega) (by omega) (by omega)
  have hok5 : iv_ (ps_ m γ5 (127 + 4 * iv_ γ1 (m + 4) 7 + 3) "day" 0 9999) m 13 = 0 → iv_ γ5 m 13 = 0 ∧ z5 = awv_ m γ5 "day" 0 9999 := fun q => ⟨(ps_ok hI0 q).1, by
    unfold ps_ at q
    rw [p4_13] at q
    exact hz5 q⟩
  have h45 : ∀ j, iv_ (ps_ m γ5 (127 + 4 * iv_ γ1 (m + 4) 7 + 3) "day" 0 9999) (m + 4) j = if j = 127 + 4 * iv_ γ1 (m + 4) 7 + 3 then awv_ m γ5 "day" 0 9999 else iv_ γ5 (m + 4) j := fun j => ps_4 _ _ _ _ _
  have hR : RR_ G m X ρ σ' (ps_ m γ5 (127 + 4 * iv_ γ1 (m + 4) 7 + 3) "day" 0 9999) o' T (c - 1) (d - 5) := hp4.1
  have hSM : SM_ m γ1 (ps_ m γ5 (127 + 4 * iv_ γ1 (m + 4) 7 + 3) "day" 0 9999) E := hp4.2
  have hE0 : iv_ γ1 m 13 ≠ 0 → E0_ m γ1 (ps_ m γ5 (127 + 4 * iv_ γ1 (m + 4) 7 + 3) "day" 0 9999) := fun q => (hE0 q).ps q
  generalize hγ6 : ps_ m γ5 (127 + 4 * iv_ γ1 (m + 4) 7 + 3) "day" 0 9999 = γ6 at hR hSM hE0 hok5 h45
  clear hp4 hR4 this
  refine g_lt (fun hlt hgz => ?_)
  refine f_putI 4 fk_X3_292 rfl (nf_ rfl rfl) hBT.1 hgb rfl dX3_box_76 ?_
  have hpi := hBT.pi (k := 4) (x := z5) (by decide) hR
  have hS2 := hS2.obs hpi.2.2
  have hBT := hpi.2.1
  have hR := hpi.1
  have hG := hG.pi (a := b) (k := 4) (x := z5) (Or.inr (Or.inr hbz))
  clear hpi
  refine g_lt (fun hlt hgz => ?_)
  generalize pi_ σ' b 4 z5 = σ' at hS2 hBT hR hG hlt hgz ⊢
  refine g_al0 dX3_box_79 ?_
  refine g_callV0I (d' := 2) lk_X3_36 hR.h3 rfl (rm_lt (by decide) (by decide)) (Nat.le_of_ble_eq_true rfl) dX3_box_80 ?_
  have hres : iv_ γ1 m 13 = 0 → bl2_ m γ1 = mor_ m γ6 7 := fun q => by
    unfold bl2_ bl1_
    rw [if_pos q, hγ2, hγ3, hγ4, hγ5, hγ6]
  have hfail : iv_ γ6 m 13 ≠ 0 → RR_ G m X ρ σ' (bl2_ m γ1) o' T (c - 3) (d - 23) := fun w => by
    by_cases q : iv_ γ1 m 13 = 0
    · rw [hres q]
      unfold mor_
      rw [if_neg w]
      exact hR.wk (by omega) (by omega)
    · have e : bl2_ m γ1 = γ1 := if_neg q
      rw [e]
      exact (hR.eq0 (hE0 q).sy (fun z => absurd z w)).wk (by omega) (by omega)
  refine xr_isOver hR (fun z80 hz80 => ?_)
  refine g_if_ne (tgt := 98) dX3_box_83 (by decide) (by omega) (fun h83 => ?_) (fun h83 => ?_)
  · exact g_vret rfl dX3_box_98 ⟨rfl, hQ _ _ T (hfail (by omega)) hTD (hG.ol (by omega))⟩
  have h6 : iv_ γ6 m 13 = 0 := by omega
  have hP := hR.P h6
  have hP1 : rv_ σ' ρ 1 = some (xP_ T) := by rw [hR.1.2.2.2.2.2.2]; exact hR.1.2.2.2.2.1
  refine g_al0 dX3_box_86 ?_
  refine f_getA 1 fk_X3_12 rfl hR.h3 (fun _ _ => rfl) hP1 dX3_box_87 ?_
  refine f_getA 7 fk_X3_272 rfl hP.1.sh (fun _ _ => rfl) hP.1.f7 dX3_box_90 ?_
  refine g_al1 dX3_box_93 ?_
  refine g_callV1I (d' := 8) lk_X3_207 hP.1.l3.1 rfl (rm_lt (by decide) (by decide)) (Nat.le_of_ble_eq_true rfl) dX3_box_94 ?_
  have hp := (hR.P h6)
  have hol : OL_ ρ σ σ' := hG.ol (by omega)
  have hE4 : sh_ σ' (gK_ G 100) = some (.inr (3, 0)) := (hol.1 _ (by omega)).1.trans hE
  have hrm := hR.rm0
  have hrl := (hSM.rl hF1 hEE h6).1
  have x4 := hrl 4 (by decide) (by decide)
  have x5 := hrl 5 (by decide) (by decide)
  have x6 := hrl 6 (by decide) (by decide)
  have x7 := hrl 7 (by decide) (by decide)
  have x8 := hrl 8 (by decide) (by decide)
  refine js_add (o := b) (co := 15) hlt hgz hE4 hk100 hp.1.l3 (fun i i0 i1 => ⟨15, (hp.1.2.2.2.2.2.2.2.2.2.1 i i0 i1).1, ca15⟩) (by omega) hBT.1 ca15 (by omega) (fun σ5 e' cap' hL5 he5 hw5 => ?_)
  have hbl : ρ + 2 ≤ sz_ σ' := by have := hlt _ _ hBT.1; omega
  have k5 := hok5 h6
  have k4 := hok4 k5.1
  have k3 := hok3 k4.1
  have k2 := hok2 k3.1
  have hnw := hnm k2.1
  have hv := hBT.2.2.1
  have hadd := PP_.addB (o := b) (f := iv_ γ6 (m + 4)) ⟨hBT.1, by omega, by rw [x7, h45, if_neg (by omega), h44, if_neg (by omega), h43, if_neg (by omega), h42, if_pos rfl, ← k2.2]; exact hv 1, by rw [x7, h45, if_neg (by omega), h44, if_neg (by omega), h43, if_pos (by omega), ← k3.2]; exact hv 2, by rw [x7, h45, if_neg (by omega), h44, if_pos (by omega), ← k4.2]; exact hv 3, by rw [x7, h45, if_pos (by omega), ← k5.2]; exact hv 4⟩ (NM_.cg (z := (n : Int)) (w := w) ⟨wd, wv, n, hBT.2.2.2, hS2, rfl, hnw.2.2.1, hnw.2.2.2⟩ (by rw [x7, h45, if_neg (by omega), h44, if_neg (by omega), h43, if_neg (by omega), h42, if_neg (by omega), hnw.1]; exact congrArg _ (by omega)) (fun k k0 k1 => by (try dsimp only); rw [x7, h45, if_neg (by omega), h44, if_neg (by omega), h43, if_neg (by omega), h42, if_neg (by omega), hnw.2.1 k k0 k1]; exact congrArg _ (by omega))) hp hTD (by omega) (by omega) hbl hL5 he5 hw5 hlt
  have hfin := hR.mor (T' := xU_ T 3 e' cap' _ _) h6 hTD (ln := 3) (by decide) hw5 hlt rfl hadd.1
  refine g_pop dX3_box_97 rfl ?_
  exact g_vret rfl dX3_box_98 ⟨rfl, hQ _ _ _ (by rw [hres ((hSM h6).1)]; exact hfin.1.wk (by omega) (by omega)) hadd.2 (hol.tr hfin.2)⟩
end
