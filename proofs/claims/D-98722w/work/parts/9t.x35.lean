/-! THE COMPONENT: a whale's line. Written by mod/m9t.py -/
set_option maxRecDepth 100000
theorem wnf_ {κ : Nat} (h : κ < 4) {k : Nat} (hk : k = 1 ∨ k = 2 ∨ k = 3) : ∀ C T N, cls_[11 + κ]? = some (C, T, N) → (T k).2.2.2 = false := by
  match κ, h with
  | 0, _ => rcases hk with q | q | q <;> subst q <;> exact nf_ rfl rfl
  | 1, _ => rcases hk with q | q | q <;> subst q <;> exact nf_ rfl rfl
  | 2, _ => rcases hk with q | q | q <;> subst q <;> exact nf_ rfl rfl
  | 3, _ => rcases hk with q | q | q <;> subst q <;> exact nf_ rfl rfl
theorem wct_ {κ : Nat} (h : κ < 4) {k : Nat} (hk : k = 1 ∨ k = 2 ∨ k = 3) : cty_ (11 + κ) k = .int := by
  match κ, h with
  | 0, _ => rcases hk with q | q | q <;> subst q <;> rfl
  | 1, _ => rcases hk with q | q | q <;> subst q <;> rfl
  | 2, _ => rcases hk with q | q | q <;> subst q <;> rfl
  | 3, _ => rcases hk with q | q | q <;> subst q <;> rfl
section
variable {G : JG} {m X ρ o : Nat} {σ σ' γ : JH} {T : XT} {c d : Int}
variable {γ1 : JH}
theorem kd_fail (h : iv_ γ m 13 ≠ 0) : kd_ m γ = -1 := by
  have e : ∀ s : String, ¬ iw_ m γ ((s.length : Nat) : Int) (tx_ s) = true := fun s q => by
    unfold iw_ at q
    rw [Bool.and_eq_true, decide_eq_true_eq] at q
    exact h q.1.1
  unfold kd_
  rw [if_neg (e _), if_neg (e _), if_neg (e _), if_neg (e _)]
theorem hl_res {γ2 : JH} (h13 : iv_ γ2 m 13 = 0 ∨ iv_ γ2 m 13 = 1) (h2 : nna_ m γ1 (7 + iv_ γ1 (m + 4) 6) = γ2) (hA : iv_ γ2 m 13 = 0 → iv_ γ1 m 13 = 0) :
    (iv_ (kdg_ m γ2) m 13 = 0 → kdg_ m γ2 = γ2 ∧ 0 ≤ kd_ m γ2 ∧ hl_ m γ1 = mor_ m (hl2_ m γ2 (107 + 4 * iv_ γ1 (m + 4) 6) (kd_ m γ2)) 6) ∧ (iv_ (kdg_ m γ2) m 13 ≠ 0 → hl_ m γ1 = kdg_ m γ2) := by
  constructor
  · intro q
    by_cases k : kd_ m γ2 < 0
    · exfalso
      unfold kdg_ at q
      rw [if_pos k, wr_13 h13] at q
      omega
    · have e : kdg_ m γ2 = γ2 := if_neg k
      rw [e] at q
      refine ⟨e, by omega, ?_⟩
      unfold hl_ hl1_
      rw [if_pos (hA q), h2, if_neg k]
  · intro q
    by_cases z : iv_ γ1 m 13 = 0
    · by_cases k : kd_ m γ2 < 0
      · unfold hl_ hl1_ kdg_
        rw [if_pos z, h2, if_pos k, if_pos k]
      · have e : kdg_ m γ2 = γ2 := if_neg k
        rw [e] at q
        exact absurd (kd_fail q) (by omega)
    · have e : γ2 = γ1 := by rw [← h2]; exact nna_id z
      have e2 : hl_ m γ1 = γ1 := if_neg z
      rw [e2, e]
      unfold kdg_
      rw [wr_id z]
      split <;> rfl
theorem xr_whale  {Q : JH → Prop} (hR : RR_ G m X ρ σ γ o T c d) (hcd : 3 ≤ c ∧ 23 ≤ d) (h0 : iv_ γ m 13 = 0) (hF : FW_ (iv_ γ (m + 4))) (hN : iv_ γ (m + 4) 9 = 0 ↔ iv_ γ (m + 4) 0 = 0) (hTD : TD_ G T) (hE : sh_ σ (gK_ G 100) = some (.inr (3, 0))) (hZ : LZ_ G σ) (hk23 : gK_ G 23 < (gH_ G).size)
    (hQ : ∀ σ' o' T', RR_ G m X ρ σ' (hl_ m (bgs_ m γ (ca1_ (iv_ γ (m + 4) 6) 5))) o' T' (c - 3) (d - 23) → TD_ G T' → OL_ ρ σ σ' → Q σ') : CallV_ G 14 yX3_whale cX3_whale 2 none [A_ (some ρ)] σ Q := by
  refine call_go [some (A_ (some ρ)), none] (by decide) (Nat.le_of_ble_eq_true rfl) rfl ?_
  have hP := hR.P h0
  have hP1 : rv_ σ ρ 1 = some (xP_ T) := by rw [hR.1.2.2.2.2.2.2]; exact hR.1.2.2.2.2.1
  have hcn0 := hF.cn
  have hge := hR.ge
  have hk100 : gK_ G 100 < (gH_ G).size := hP.2.2.2.2.2.1
  refine g_lt (fun hlt0 hgz0 => ?_)
  have hρ0 := hlt0 _ _ hR.h3
  refine g_al0 dX3_whale_0 ?_
  refine g_al0 dX3_whale_1 ?_
  refine f_getA 1 fk_X3_12 rfl hR.h3 (fun _ _ => rfl) hP1 dX3_whale_2 ?_
  refine f_getA 6 fk_X3_250 rfl hP.1.sh (fun _ _ => rfl) hP.1.f6 dX3_whale_5 ?_
  refine g_callV0I (d' := 2) lk_X3_181 hP.1.l2.1 rfl (rm_lt (by decide) (by decide)) (Nat.le_of_ble_eq_true rfl) dX3_whale_8 ?_
  refine js_size hP.1.l2 ?_
  refine g_iconst dX3_whale_11 ?_
  refine g_callV2V (d' := 12) lk_X3_190 hR.h3 rfl (rm_lt (by decide) (by decide)) (Nat.le_of_ble_eq_true rfl) dX3_whale_12 ?_
  refine xr_begins hR (by omega) h0 hN (can := ca1_ (iv_ γ (m + 4) 6) 5) (by omega) (by decide) ⟨fun q => by unfold ca1_; rw [if_neg (by omega)], fun q => by unfold ca1_; rw [if_pos (by omega)]⟩ (fun σ1 o1 hR1 hg1 => ?_)
  have hb1 := bgs_cs h0 (ca1_ (iv_ γ (m + 4) 6) 5)
  have hb4 := fun k => bgs_4 (m := m) (γ := γ) (ca1_ (iv_ γ (m + 4) 6) 5) k
  generalize hγ1 : bgs_ m γ (ca1_ (iv_ γ (m + 4) 6) 5) = γ1 at hR1 hb1 hb4 hQ
  have hfe1 : iv_ γ1 (m + 4) = iv_ γ (m + 4) := funext hb4
  have hF1 : FW_ (iv_ γ1 (m + 4)) := by rw [hfe1]; exact hF
  have hcn1 : iv_ γ1 m 13 = 0 → iv_ γ1 (m + 4) 6 < 5 ∧ iv_ γ1 (m + 4) 9 = 1 := fun q => by
    rcases hb1 with z | z
    · omega
    · have z1 := z.1
      have z2 := z.2.1
      unfold ca1_ at z1
      rw [hfe1]
      refine ⟨Classical.byContradiction fun w => z1 (if_neg w), ?_⟩
      rcases hF.1 with y | y
      · omega
      · exact y.1
  have hcn := hF1.cn
  have hG := hg1
  obtain ⟨E, hEd⟩ : ∃ E : Int → Prop, ∀ j, E j ↔ ((107 + 4 * iv_ γ1 (m + 4) 6 ≤ j ∧ j < 111 + 4 * iv_ γ1 (m + 4) 6) ∨ j = 183 + (7 + iv_ γ1 (m + 4) 6) ∨ (203 + 8 * (7 + iv_ γ1 (m + 4) 6) ≤ j ∧ j < 211 + 8 * (7 + iv_ γ1 (m + 4) 6))) := ⟨_, fun _ => Iff.rfl⟩
  have hEE : iv_ γ1 m 13 = 0 → ∀ j, E j → ¬ RL_ (iv_ γ1 (m + 4)) j ∧ ¬ (183 ≤ j ∧ j < 190) := fun q j hj => by
    have := hcn1 q
    rw [hEd] at hj
    unfold RL_
    omega
  have hI1 := hR1.I
  have hR := hR1
  refine g_al0 dX3_whale_15 ?_
  refine g_al0 dX3_whale_16 ?_
  refine g_callV0A (d' := 12) lk_X3_194 hR.h3 rfl (rm_lt (by decide) (by decide)) (Nat.le_of_ble_eq_true rfl) dX3_whale_17 ?_
  refine xr_fresh hR (by omega) (fun _ => hF1) (n1 := 7 + iv_ γ1 (m + 4) 6) (fun q => by have := hcn1 q; omega) (fun q => by have := hcn1 q; unfold US_; omega) (fun σ' o' wd wv n w hR2 hg2 hS2 hnm => ?_)
  have hR := hR2
  have hG := hG.tr hg2
  have hSM2 : SM_ m γ1 (nna_ m γ1 (7 + iv_ γ1 (m + 4) 6)) E := SM_.nna hI1 (fun j hj => by rw [hEd]; omega)
  generalize hγ2 : nna_ m γ1 (7 + iv_ γ1 (m + 4) 6) = γ2 at hR hSM2 hnm
  have hlr := hl_res hR.b13 hγ2 (fun q => (hSM2 q).1)
  clear hR2
  refine g_lt (fun hlt hgz => ?_)
  refine g_callV1A (d' := 6) lk_X3_253 hR.h3 rfl (rm_lt (by decide) (by decide)) (Nat.le_of_ble_eq_true rfl) dX3_whale_20 ?_
  refine xr_kind hR (by omega) ⟨((hG.ol (by omega)).1 _ (by omega)).2 2 |>.2.trans hZ.1, ((hG.ol (by omega)).1 _ (by omega)).2 3 |>.2.trans hZ.2⟩ (fun σ' b κ hκ hR4 hBT hg4 hb hkk => ?_)
  have hS2 := hS2.gx hg4 hlt hR.h3 hR.h4
  have hbz : sz_ σ ≤ b := Nat.le_trans hG.2.2.1 hb.1
  have hgb := hb.2
  have hblo : ρ + 2 < b := by
    obtain ⟨f, hP, -⟩ := hR.2.2.2.2.1
    have := hlt _ _ hP.1.sh
    rw [hR.1.2.2.2.2.2.2] at this
    omega
  have hI2 := hR.I
  have hG := hG.tr hg4
  have hR := hR4
  have hSMb : SM_ m γ1 (kdg_ m γ2) E := by
    unfold kdg_
    split
    · exact hSM2.f0 (wr_A0 _ _)
    · exact hSM2
  have hkb : iv_ (kdg_ m γ2) m 13 = 0 → iv_ γ2 m 13 = 0 ∧ kd_ m γ2 = (κ : Int) := fun q => by
    have e := hlr.1 q
    have q2 : iv_ γ2 m 13 = 0 := by rw [← e.1]; exact q
    exact ⟨q2, hkk q2 e.2.1⟩
  generalize hγb : kdg_ m γ2 = γb at hR hSMb hkb hlr
  clear hR4 hkk
  refine g_lt (fun hlt hgz => ?_)
  refine g_as1 dX3_whale_23 (by decide) rfl ?_
  refine g_al0 dX3_whale_24 ?_
  refine g_callV0V (d' := 11) lk_X3_49 hR.h3 rfl (rm_lt (by decide) (by decide)) (Nat.le_of_ble_eq_true rfl) dX3_whale_25 ?_
  refine xr_on hR (by omega) (fun σ' o' hR4 hg4 => ?_)
  have hBT := hBT.gx (by omega) hR hg4 hlt
  have hS2 := hS2.gx hg4 hlt hR.h3 hR.h4
  have hR4 := hR4 (c - 1) (d - 4) (Or.inl ⟨Int.le_refl _, Int.le_refl _⟩)
  have hIb := hR.I
  have hG := hG.tr hg4
  have hSM : SM_ m γ1 (onn_ m γb) E := hSMb.f0 (onn_A0 hIb)
  have hp1 := RR_.p4s (k := 107 + 4 * iv_ γ1 (m + 4) 6) (x := (κ : Int)) hR4 hSM hF1 hEE (by rw [hEd]; omega) (by omega) (by omega)
  have hR := hp1.1
  have hSM := hp1.2
  have hE0 : iv_ γb m 13 ≠ 0 → E0_ m γb (pi_ (onn_ m γb) (m + 4) (107 + 4 * iv_ γ1 (m + 4) 6) (κ : Int)) := fun q => by rw [onn_id q]; exact E0_.p4
  have hok2 : iv_ (pi_ (onn_ m γb) (m + 4) (107 + 4 * iv_ γ1 (m + 4) 6) (κ : Int)) m 13 = 0 → iv_ γb m 13 = 0 := fun q => by rw [p4_13] at q; exact (onn_ok hIb q).1
  have h42 : ∀ j, iv_ (pi_ (onn_ m γb) (m + 4) (107 + 4 * iv_ γ1 (m + 4) 6) (κ : Int)) (m + 4) j = if j = 107 + 4 * iv_ γ1 (m + 4) 6 then (κ : Int) else iv_ γb (m + 4) j := fun j => by
    rw [iv_pi]
    by_cases q : j = 107 + 4 * iv_ γ1 (m + 4) 6
    · rw [if_pos ⟨rfl, q⟩, if_pos q]
    · rw [if_neg (fun z => q z.2), if_neg q]
      exact (onn_A0 hIb).1.f4 j
  generalize hγc : pi_ (onn_ m γb) (m + 4) (107 + 4 * iv_ γ1 (m + 4) 6) (κ : Int) = γ3 at hR hSM hE0 hok2 h42
  clear hp1 hR4
  refine g_lt (fun hlt hgz => ?_)
  refine g_al1 dX3_whale_28 ?_
  refine g_al0 dX3_whale_29 ?_
  refine g_ldcSw (j := 40) rfl dX3_whale_30 ?_
  refine g_callV1I (d' := 13) lk_X3_259 hR.h3 rfl (rm_lt (by decide) (by decide)) (Nat.le_of_ble_eq_true rfl) dX3_whale_33 ?_
  obtain ⟨vL, hSL, -, -⟩ := hR.2.2.2.2.2.2.1 40 _ rfl
  refine xr_partIsland hR (by omega) hSL (fun q => (hSM.rl hF1 hEE q).2.2.2) (fun z3 σ' o' hR4 hg4 hz3 hzb3 => ?_)
  have hI0 := hR.I
  have hBT := hBT.gx (by omega) hR hg4 hlt
  have hS2 := hS2.gx hg4 hlt hR.h3 hR.h4
  have hG := hG.tr hg4
  have := bwv_in (m := m) γ3 "at"
  have hp4 := RR_.p4s (γ := bw_ m γ3 "at") (k := 107 + 4 * iv_ γ1 (m + 4) 6 + 1) (x := bwv_ m γ3 "at") hR4 (hSM.f0 (ibh_A0 hI0 _ _)) hF1 hEE (by rw [hEd]; omega) (by omega) (by omega)
  have hok3 : iv_ (pq_ m γ3 (107 + 4 * iv_ γ1 (m + 4) 6 + 1) "at") m 13 = 0 → iv_ γ3 m 13 = 0 ∧ z3 = bwv_ m γ3 "at" := fun q => ⟨(pq_ok hI0 q).1, by
    unfold pq_ at q
    rw [p4_13] at q
    exact hz3 (bw_nd hI0 q)⟩
  have h43 : ∀ j, iv_ (pq_ m γ3 (107 + 4 * iv_ γ1 (m + 4) 6 + 1) "at") (m + 4) j = if j = 107 + 4 * iv_ γ1 (m + 4) 6 + 1 then bwv_ m γ3 "at" else iv_ γ3 (m + 4) j := fun j => pq_4 _ _ _
  have hR : RR_ G m X ρ σ' (pq_ m γ3 (107 + 4 * iv_ γ1 (m + 4) 6 + 1) "at") o' T (c - 1) (d - 4) := hp4.1
  have hSM : SM_ m γ1 (pq_ m γ3 (107 + 4 * iv_ γ1 (m + 4) 6 + 1) "at") E := hp4.2
  have hE0 : iv_ γb m 13 ≠ 0 → E0_ m γb (pq_ m γ3 (107 + 4 * iv_ γ1 (m + 4) 6 + 1) "at") := fun q => (hE0 q).pq q
  generalize hγ4 : pq_ m γ3 (107 + 4 * iv_ γ1 (m + 4) 6 + 1) "at" = γ4 at hR hSM hE0 hok3 h43
  clear hp4 hR4 this
  refine g_lt (fun hlt hgz => ?_)
  refine f_putI 1 (fk_X3_262 κ hκ) rfl (wnf_ hκ (by decide)) hBT.1 hgb (wct_ hκ (by decide)) dX3_whale_36 ?_
  have hpi := hBT.pi (k := 1) (x := z3) (by omega) hR
  have hS2 := hS2.obs hpi.2.2
  have hBT := hpi.2.1
  have hR := hpi.1
  have hG := hG.pi (a := b) (k := 1) (x := z3) (Or.inr (Or.inr hbz))
  clear hpi
  refine g_lt (fun hlt hgz => ?_)
  generalize pi_ σ' b 1 z3 = σ' at hS2 hBT hR hG hlt hgz ⊢
  refine g_al1 dX3_whale_39 ?_
  refine g_al0 dX3_whale_40 ?_
  refine g_ldcSw (j := 41) rfl dX3_whale_41 ?_
  refine g_iconst dX3_whale_44 ?_
  refine g_bipush dX3_whale_45 (by decide) (by decide) ?_
  refine g_callV3I (d' := 13) lk_X3_149 hR.h3 rfl (rm_lt (by decide) (by decide)) (Nat.le_of_ble_eq_true rfl) dX3_whale_47 ?_
  obtain ⟨vL, hSL, -, -⟩ := hR.2.2.2.2.2.2.1 41 _ rfl
  refine xr_part hR (by omega) hSL (by decide) (by decide) (fun z4 σ' o' hR4 hg4 hz4 hzb4 => ?_)
  have hI0 := hR.I
  have hBT := hBT.gx (by omega) hR hg4 hlt
  have hS2 := hS2.gx hg4 hlt hR.h3 hR.h4
  have hG := hG.tr hg4
  have := awv_in hI0 "keeps" (lo := 0) (hi := 99)
  have hp4 := RR_.p4s (γ := aw_ m γ4 "keeps" 0 99) (k := 107 + 4 * iv_ γ1 (m + 4) 6 + 2) (x := awv_ m γ4 "keeps" 0 99) hR4 (hSM.f0 (aft_A0 hI0 _ _ _ _)) hF1 hEE (by rw [hEd]; omega) (by omega) (by omega)
  have hok4 : iv_ (ps_ m γ4 (107 + 4 * iv_ γ1 (m + 4) 6 + 2) "keeps" 0 99) m 13 = 0 → iv_ γ4 m 13 = 0 ∧ z4 = awv_ m γ4 "keeps" 0 99 := fun q => ⟨(ps_ok hI0 q).1, by
    unfold ps_ at q
    rw [p4_13] at q
    exact hz4 q⟩
  have h44 : ∀ j, iv_ (ps_ m γ4 (107 + 4 * iv_ γ1 (m + 4) 6 + 2) "keeps" 0 99) (m + 4) j = if j = 107 + 4 * iv_ γ1 (m + 4) 6 + 2 then awv_ m γ4 "keeps" 0 99 else iv_ γ4 (m + 4) j := fun j => ps_4 _ _ _ _ _
  have hR : RR_ G m X ρ σ' (ps_ m γ4 (107 + 4 * iv_ γ1 (m + 4) 6 + 2) "keeps" 0 99) o' T (c - 1) (d - 4) := hp4.1
  have hSM : SM_ m γ1 (ps_ m γ4 (107 + 4 * iv_ γ1 (m + 4) 6 + 2) "keeps" 0 99) E := hp4.2
  have hE0 : iv_ γb m 13 ≠ 0 → E0_ m γb (ps_ m γ4 (107 + 4 * iv_ γ1 (m + 4) 6 + 2) "keeps" 0 99) := fun q => (hE0 q).ps q
  generalize hγ5 : ps_ m γ4 (107 + 4 * iv_ γ1 (m + 4) 6 + 2) "keeps" 0 99 = γ5 at hR hSM hE0 hok4 h44
  clear hp4 hR4 this
  refine g_lt (fun hlt hgz => ?_)
  refine f_putI 2 (fk_X3_266 κ hκ) rfl (wnf_ hκ (by decide)) hBT.1 hgb (wct_ hκ (by decide)) dX3_whale_50 ?_
  have hpi := hBT.pi (k := 2) (x := z4) (by omega) hR
  have hS2 := hS2.obs hpi.2.2
  have hBT := hpi.2.1
  have hR := hpi.1
  have hG := hG.pi (a := b) (k := 2) (x := z4) (Or.inr (Or.inr hbz))
  clear hpi
  refine g_lt (fun hlt hgz => ?_)
  generalize pi_ σ' b 2 z4 = σ' at hS2 hBT hR hG hlt hgz ⊢
  refine g_al1 dX3_whale_53 ?_
  refine g_al0 dX3_whale_54 ?_
  refine g_ldcSw (j := 42) rfl dX3_whale_55 ?_
  refine g_iconst dX3_whale_58 ?_
  refine g_bipush dX3_whale_59 (by decide) (by decide) ?_
  refine g_callV3I (d' := 13) lk_X3_149 hR.h3 rfl (rm_lt (by decide) (by decide)) (Nat.le_of_ble_eq_true rfl) dX3_whale_61 ?_
  obtain ⟨vL, hSL, -, -⟩ := hR.2.2.2.2.2.2.1 42 _ rfl
  refine xr_part hR (by omega) hSL (by decide) (by decide) (fun z5 σ' o' hR4 hg4 hz5 hzb5 => ?_)
  have hI0 := hR.I
  have hBT := hBT.gx (by omega) hR hg4 hlt
  have hS2 := hS2.gx hg4 hlt hR.h3 hR.h4
  have hG := hG.tr hg4
  have := awv_in hI0 "lost" (lo := 0) (hi := 99)
  have hp4 := RR_.p4s (γ := aw_ m γ5 "lost" 0 99) (k := 107 + 4 * iv_ γ1 (m + 4) 6 + 3) (x := awv_ m γ5 "lost" 0 99) hR4 (hSM.f0 (aft_A0 hI0 _ _ _ _)) hF1 hEE (by rw [hEd]; omega) (by omega) (by omega)
  have hok5 : iv_ (ps_ m γ5 (107 + 4 * iv_ γ1 (m + 4) 6 + 3) "lost" 0 99) m 13 = 0 → iv_ γ5 m 13 = 0 ∧ z5 = awv_ m γ5 "lost" 0 99 := fun q => ⟨(ps_ok hI0 q).1, by
    unfold ps_ at q
    rw [p4_13] at q
    exact hz5 q⟩
  have h45 : ∀ j, iv_ (ps_ m γ5 (107 + 4 * iv_ γ1 (m + 4) 6 + 3) "lost" 0 99) (m + 4) j = if j = 107 + 4 * iv_ γ1 (m + 4) 6 + 3 then awv_ m γ5 "lost" 0 99 else iv_ γ5 (m + 4) j := fun j => ps_4 _ _ _ _ _
  have hR : RR_ G m X ρ σ' (ps_ m γ5 (107 + 4 * iv_ γ1 (m + 4) 6 + 3) "lost" 0 99) o' T (c - 1) (d - 4) := hp4.1
  have hSM : SM_ m γ1 (ps_ m γ5 (107 + 4 * iv_ γ1 (m + 4) 6 + 3) "lost" 0 99) E := hp4.2
  have hE0 : iv_ γb m 13 ≠ 0 → E0_ m γb (ps_ m γ5 (107 + 4 * iv_ γ1 (m + 4) 6 + 3) "lost" 0 99) := fun q => (hE0 q).ps q
  generalize hγ6 : ps_ m γ5 (107 + 4 * iv_ γ1 (m + 4) 6 + 3) "lost" 0 99 = γ6 at hR hSM hE0 hok5 h45
  clear hp4 hR4 this
  refine g_lt (fun hlt hgz => ?_)
  refine f_putI 3 (fk_X3_270 κ hκ) rfl (wnf_ hκ (by decide)) hBT.1 hgb (wct_ hκ (by decide)) dX3_whale_64 ?_
  have hpi := hBT.pi (k := 3) (x := z5) (by omega) hR
  have hS2 := hS2.obs hpi.2.2
  have hBT := hpi.2.1
  have hR := hpi.1
  have hG := hG.pi (a := b) (k := 3) (x := z5) (Or.inr (Or.inr hbz))
  clear hpi
  refine g_lt (fun hlt hgz => ?_)
  generalize pi_ σ' b 3 z5 = σ' at hS2 hBT hR hG hlt hgz ⊢
  refine g_al0 dX3_whale_67 ?_
  refine g_callV0I (d' := 2) lk_X3_36 hR.h3 rfl (rm_lt (by decide) (by decide)) (Nat.le_of_ble_eq_true rfl) dX3_whale_68 ?_
  have hb1' : iv_ γb m 13 = 0 → γb = γ2 ∧ hl_ m γ1 = mor_ m γ6 6 := fun q => by
    have e := hlr.1 q
    have k := hkb q
    refine ⟨e.1, ?_⟩
    rw [e.2.2]
    unfold hl2_
    have e3 : onn_ m γb = nxt_ m γ2 := by rw [e.1]; exact if_pos k.1
    rw [← e3, k.2, hγc, hγ4, hγ5, hγ6]
  have hfail : iv_ γ6 m 13 ≠ 0 → RR_ G m X ρ σ' (hl_ m γ1) o' T (c - 3) (d - 23) := fun w => by
    by_cases q : iv_ γb m 13 = 0
    · rw [(hb1' q).2, mor_id w]
      exact hR.wk (by omega) (by omega)
    · rw [hlr.2 q]
      exact (hR.eq0 (hE0 q).sy (fun z => absurd z w)).wk (by omega) (by omega)
  refine xr_isOver hR (fun z68 hz68 => ?_)
  refine g_if_ne (tgt := 86) dX3_whale_71 (by decide) (by omega) (fun h71 => ?_) (fun h71 => ?_)
  · exact g_vret rfl dX3_whale_86 ⟨rfl, hQ _ _ T (hfail (by omega)) hTD (hG.ol (by omega))⟩
  have h6 : iv_ γ6 m 13 = 0 := by omega
  have hP := hR.P h6
  have hP1 : rv_ σ' ρ 1 = some (xP_ T) := by rw [hR.1.2.2.2.2.2.2]; exact hR.1.2.2.2.2.1
  refine g_al0 dX3_whale_74 ?_
  refine f_getA 1 fk_X3_12 rfl hR.h3 (fun _ _ => rfl) hP1 dX3_whale_75 ?_
  refine f_getA 6 fk_X3_250 rfl hP.1.sh (fun _ _ => rfl) hP.1.f6 dX3_whale_78 ?_
  refine g_al1 dX3_whale_81 ?_
  refine g_callV1I (d' := 8) lk_X3_207 hP.1.l2.1 rfl (rm_lt (by decide) (by decide)) (Nat.le_of_ble_eq_true rfl) dX3_whale_82 ?_
  have hp := (hR.P h6)
  have hol : OL_ ρ σ σ' := hG.ol (by omega)
  have hE4 : sh_ σ' (gK_ G 100) = some (.inr (3, 0)) := (hol.1 _ (by omega)).1.trans hE
  have hrm := hR.rm0
  have hrl := (hSM.rl hF1 hEE h6).1
  have x4 := hrl 4 (by decide) (by decide)
  have x5 := hrl 5 (by decide) (by decide)
  have x6 := hrl 6 (by decide) (by decide)
  have x7 := hrl 7 (by decide) (by decide)
  have x8 := hrl 8 (by decide) (by decide)
  refine js_add (o := b) (co := 11 + κ) hlt hgz hE4 hk100 hp.1.l2 (fun i i0 i1 => by obtain ⟨⟨κ2, c1, c2, a1⟩, -⟩ := hp.1.2.2.2.2.2.2.2.2.1 i i0 i1; exact ⟨_, a1, ca11 c1⟩) (by omega) hBT.1 (ca11 hκ) (by omega) (fun σ5 e' cap' hL5 he5 hw5 => ?_)
  have hbl : ρ + 2 ≤ sz_ σ' := by have := hlt _ _ hBT.1; omega
  have k5 := hok5 h6
  have k4 := hok4 k5.1
  have k3 := hok3 k4.1
  have k2 := hok2 k3.1
  have kb := hkb k2
  have hbe := (hb1' k2).1
  have hnw := hnm kb.1
  have hv := hBT.2.2.1
  have h4e : ∀ j, (j < 107 + 4 * iv_ γ1 (m + 4) 6 ∨ 111 + 4 * iv_ γ1 (m + 4) 6 ≤ j) → iv_ γ6 (m + 4) j = iv_ γ2 (m + 4) j := fun j hj => by
    rw [h45, if_neg (by omega), h44, if_neg (by omega), h43, if_neg (by omega), h42, if_neg (by omega), hbe]
  have hadd := PP_.addH (o := b) (f := iv_ γ6 (m + 4)) hκ (by rw [x6, h45, if_neg (by omega), h44, if_neg (by omega), h43, if_neg (by omega), h42, if_pos rfl]) ⟨hBT.1, by omega, by rw [x6, h45, if_neg (by omega), h44, if_neg (by omega), h43, if_pos (by omega), ← k3.2]; exact hv 1, by rw [x6, h45, if_neg (by omega), h44, if_pos (by omega), ← k4.2]; exact hv 2, by rw [x6, h45, if_pos (by omega), ← k5.2]; exact hv 3⟩ (NM_.cg (z := (n : Int)) (w := w) ⟨wd, wv, n, hBT.2.2.2, hS2, rfl, hnw.2.2.1, hnw.2.2.2⟩ (by rw [x6, h4e (190 + iv_ γ1 (m + 4) 6) (Or.inr (by omega)), hnw.1]; exact congrArg _ (by omega)) (fun k k0 k1 => by (try dsimp only); rw [x6, h4e (259 + 8 * iv_ γ1 (m + 4) 6 + k) (Or.inr (by omega)), hnw.2.1 k k0 k1]; exact congrArg _ (by omega))) hp hTD (by omega) (by omega) hbl hL5 he5 hw5 hlt
  have hfin := hR.mor (T' := xU_ T 2 e' cap' _ _) h6 hTD (ln := 2) (by decide) hw5 hlt rfl hadd.1
  refine g_pop dX3_whale_85 rfl ?_
  exact g_vret rfl dX3_whale_86 ⟨rfl, hQ _ _ _ (by rw [(hb1' k2).2]; exact hfin.1.wk (by omega) (by omega)) hadd.2 (hol.tr hfin.2)⟩
end
