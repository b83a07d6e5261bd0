/-! THE COMPONENT: a way's line. Written by mod/m9r.py -/
set_option maxRecDepth 100000
section
variable {G : JG} {m X ρ o : Nat} {σ σ' γ : JH} {T : XT} {c d : Int}
variable {γ1 : JH}
theorem ndd_id {l h' : Int} (h : iv_ γ m 13 ≠ 0) : ndd_ m γ l h' = γ := if_neg h
theorem onn_id (h : iv_ γ m 13 ≠ 0) : onn_ m γ = γ := if_neg h
theorem mor_id {K : Int} (h : iv_ γ m 13 ≠ 0) : mor_ m γ K = γ := if_neg h
theorem wl_res {γa γ2 : JH} (ha : onn_ m (ndd_ m γ1 0 6) = γa) (h2 : ndd_ m γa 0 6 = γ2) :
    (iv_ γ2 m 13 = 0 → wag_ m γ2 (ndv_ m γ1 0 6) (ndv_ m γa 0 6) = true → wl_ m γ1 = wr_ m γ2 3 (iv_ γ2 m 4)) ∧ (iv_ γ2 m 13 = 0 → ¬ wag_ m γ2 (ndv_ m γ1 0 6) (ndv_ m γa 0 6) = true → wl_ m γ1 = mor_ m (wl3_ m γ2 (59 + 4 * iv_ γ1 (m + 4) 5) (ndv_ m γ1 0 6) (ndv_ m γa 0 6)) 5) ∧ (iv_ γ2 m 13 ≠ 0 → wl_ m γ1 = γ2) := by
  have hid : iv_ γ1 m 13 ≠ 0 → γ2 = γ1 := fun q => by rw [← h2, ← ha, ndd_id (l := 0) (h' := 6) q, onn_id q, ndd_id q]
  have h1 : iv_ γ2 m 13 = 0 → iv_ γ1 m 13 = 0 := fun q => Classical.byContradiction fun w => by rw [hid w] at q; exact w q
  refine ⟨fun q w => ?_, fun q w => ?_, fun q => ?_⟩
  · unfold wl_ wl1_ wl2_
    rw [if_pos (h1 q), ha, h2, if_pos q, if_pos w]
  · unfold wl_ wl1_ wl2_
    rw [if_pos (h1 q), ha, h2, if_pos q, if_neg w]
  · by_cases z : iv_ γ1 m 13 = 0
    · unfold wl_ wl1_ wl2_
      rw [if_pos z, ha, h2, if_neg q]
    · rw [hid z]
      exact if_neg z
theorem wag_iff {a b : Int} (h5 : 0 ≤ iv_ γ (m + 4) 5) : wag_ m γ a b = true ↔ (a = b ∨ ∃ k, 0 ≤ k ∧ k < iv_ γ (m + 4) 5 ∧ jn_ (iv_ γ (m + 4)) k a b) := by
  unfold wag_
  rw [Bool.or_eq_true, decide_eq_true_eq]
  refine or_congr Iff.rfl ?_
  constructor
  · intro q
    refine Classical.byContradiction fun w => ?_
    have : al_ (fun k => decide (¬ jn_ (iv_ γ (m + 4)) k a b)) (iv_ γ (m + 4) 5) = true := (al_iff h5).mpr fun j j0 j1 => decide_eq_true (fun z => w ⟨j, j0, j1, z⟩)
    rw [this] at q
    cases q
  · rintro ⟨j, j0, j1, q⟩
    cases e : al_ (fun k => decide (¬ jn_ (iv_ γ (m + 4)) k a b)) (iv_ γ (m + 4) 5) with
    | false => rfl
    | true =>
      have := (al_iff h5).mp e j j0 j1
      exact absurd q (of_decide_eq_true this)
theorem xr_way  {Q : JH → Prop} (hR : RR_ G m X ρ σ γ o T c d) (hcd : 3 ≤ c ∧ 23 ≤ d) (h0 : iv_ γ m 13 = 0) (hF : FW_ (iv_ γ (m + 4))) (hN : iv_ γ (m + 4) 9 = 0 ↔ iv_ γ (m + 4) 0 = 0) (hTD : TD_ G T) (hE : sh_ σ (gK_ G 100) = some (.inr (3, 0)))
    (hQ : ∀ σ' o' T', RR_ G m X ρ σ' (wl_ m (bgs_ m γ (ca1_ (iv_ γ (m + 4) 5) 12))) o' T' (c - 3) (d - 23) → TD_ G T' → OL_ ρ σ σ' → Q σ') : CallV_ G 14 yX3_way cX3_way 4 none [A_ (some ρ)] σ Q := by
  refine call_go [some (A_ (some ρ)), none, none, none] (by decide) (Nat.le_of_ble_eq_true rfl) rfl ?_
  have hP := hR.P h0
  have hP1 : rv_ σ ρ 1 = some (xP_ T) := by rw [hR.1.2.2.2.2.2.2]; exact hR.1.2.2.2.2.1
  have hcn0 := hF.cn
  have hge := hR.ge
  have hk100 : gK_ G 100 < (gH_ G).size := hP.2.2.2.2.2.1
  refine g_lt (fun hlt0 hgz0 => ?_)
  have hρ0 := hlt0 _ _ hR.h3
  refine g_al0 dX3_way_0 ?_
  refine g_al0 dX3_way_1 ?_
  refine f_getA 1 fk_X3_12 rfl hR.h3 (fun _ _ => rfl) hP1 dX3_way_2 ?_
  refine f_getA 5 fk_X3_210 rfl hP.1.sh (fun _ _ => rfl) hP.1.f5 dX3_way_5 ?_
  refine g_callV0I (d' := 2) lk_X3_181 hP.1.l1.1 rfl (rm_lt (by decide) (by decide)) (Nat.le_of_ble_eq_true rfl) dX3_way_8 ?_
  refine js_size hP.1.l1 ?_
  refine g_bipush dX3_way_11 (by decide) (by decide) ?_
  refine g_callV2V (d' := 12) lk_X3_190 hR.h3 rfl (rm_lt (by decide) (by decide)) (Nat.le_of_ble_eq_true rfl) dX3_way_13 ?_
  refine xr_begins hR (by omega) h0 hN (can := ca1_ (iv_ γ (m + 4) 5) 12) (by omega) (by decide) ⟨fun q => by unfold ca1_; rw [if_neg (by omega)], fun q => by unfold ca1_; rw [if_pos (by omega)]⟩ (fun σ1 o1 hR1 hg1 => ?_)
  have hb1 := bgs_cs h0 (ca1_ (iv_ γ (m + 4) 5) 12)
  have hb4 := fun k => bgs_4 (m := m) (γ := γ) (ca1_ (iv_ γ (m + 4) 5) 12) k
  generalize hγ1 : bgs_ m γ (ca1_ (iv_ γ (m + 4) 5) 12) = γ1 at hR1 hb1 hb4 hQ
  have hfe1 : iv_ γ1 (m + 4) = iv_ γ (m + 4) := funext hb4
  have hF1 : FW_ (iv_ γ1 (m + 4)) := by rw [hfe1]; exact hF
  have hcn1 : iv_ γ1 m 13 = 0 → iv_ γ1 (m + 4) 5 < 12 ∧ iv_ γ1 (m + 4) 9 = 1 := fun q => by
    rcases hb1 with z | z
    · omega
    · have z1 := z.1
      have z2 := z.2.1
      unfold ca1_ at z1
      rw [hfe1]
      refine ⟨Classical.byContradiction fun w => z1 (if_neg w), ?_⟩
      rcases hF.1 with y | y
      · omega
      · exact y.1
  have hcn := hF1.cn
  have hG := hg1
  obtain ⟨E, hEd⟩ : ∃ E : Int → Prop, ∀ j, E j ↔ (59 + 4 * iv_ γ1 (m + 4) 5 ≤ j ∧ j < 63 + 4 * iv_ γ1 (m + 4) 5) := ⟨_, fun _ => Iff.rfl⟩
  have hEE : iv_ γ1 m 13 = 0 → ∀ j, E j → ¬ RL_ (iv_ γ1 (m + 4)) j ∧ ¬ (183 ≤ j ∧ j < 190) := fun q j hj => by
    have := hcn1 q
    rw [hEd] at hj
    unfold RL_
    omega
  have hI1 := hR1.I
  have hR := hR1
  refine g_al0 dX3_way_16 ?_
  refine g_callV0I (d' := 12) lk_X3_92 hR.h3 rfl (rm_lt (by decide) (by decide)) (Nat.le_of_ble_eq_true rfl) dX3_way_17 ?_
  refine xr_island hR (by omega) (fun _ => ⟨hcn.1, hF1.2.2.1⟩) (fun z17 σ' o' hR4 hg4 hz17 hzb17 => ?_)
  have hG := hG.tr hg4
  have hR := hR4
  have hSMa : SM_ m γ1 (onn_ m (ndd_ m γ1 0 6)) E := SM_.rf.f0 ((ndd_A0 0 6).tr (onn_A0 (hI1.ndd 0 6)))
  have hzz17 : iv_ (onn_ m (ndd_ m γ1 0 6)) m 13 = 0 → z17 = ndv_ m γ1 0 6 := fun q => hz17 (onn_ok (hI1.ndd 0 6) q).1
  generalize hγa : onn_ m (ndd_ m γ1 0 6) = γa at hR hSMa hzz17
  clear hR4
  obtain ⟨so, pl, nu, wd, wv, n, w, hK, hTM0⟩ := hR.2.2.2.1
  obtain ⟨f, hP, hPf⟩ := hR.2.2.2.2.1
  have hP1 : rv_ σ' ρ 1 = some (xP_ T) := by rw [hR.1.2.2.2.2.2.2]; exact hR.1.2.2.2.2.1
  refine g_is1 dX3_way_20 (by decide) rfl ?_
  refine g_al0 dX3_way_21 ?_
  refine g_al0 dX3_way_22 ?_
  refine f_getA 1 fk_X3_12 rfl hR.h3 (fun _ _ => rfl) hP1 dX3_way_23 ?_
  refine g_al0 dX3_way_26 ?_
  refine f_getA 2 fk_X3_28 rfl hR.h3 (fun _ _ => rfl) hR.1.2.2.2.2.2.1 dX3_way_27 ?_
  refine f_getA 3 fk_X3_78 rfl hK.1 (fun _ _ => rfl) hK.2.2.2.2.2.1 dX3_way_30 ?_
  refine g_callV1I (d' := 5) lk_X3_84 hP.1.sh rfl (rm_lt (by decide) (by decide)) (Nat.le_of_ble_eq_true rfl) dX3_way_33 ?_
  refine xp_island hP hK.2.2.2.2.2.2.1 ?_
  have hk := kno_isl hTM0 (fun q => (hK.2.2.2.2.2.2.2.2.1 q).2.1.1) hPf (fun q => (hSMa.rl hF1 hEE q).2.2.2)
  have hfi := fI_spec (nmq_ f n w) (n := f 4) hP.1.l0.2.2.2.2.2.1.1
  have hfc := hP.1.l0.2.2.2.2.2.2.1
  have hfd := hP.1.l0.2.2.2.2.2.1.2
  refine g_callV1I (d' := 7) lk_X3_88 hR.h3 rfl (rm_lt (by decide) (by decide)) (Nat.le_of_ble_eq_true rfl) dX3_way_36 ?_
  refine xr_known hR (by omega) (by omega) (fun z36 σ' hR4 hg4 hz36 hzb36 => ?_)
  rw [hk.1] at hR4 hz36
  have hIa := hR.I
  have hG := hG.tr hg4
  have hR := hR4
  have hSM2 : SM_ m γ1 (ndd_ m γa 0 6) E := hSMa.f0 (ndd_A0 0 6)
  have hzz36 : iv_ (ndd_ m γa 0 6) m 13 = 0 → z36 = ndv_ m γa 0 6 ∧ z17 = ndv_ m γ1 0 6 := fun q => ⟨(hz36 q).trans (hk.2 q), hzz17 ((ndd_A0 0 6).ok q)⟩
  generalize hγ2 : ndd_ m γa 0 6 = γ2 at hR hSM2 hzz36
  clear hR4
  have hwr := wl_res hγa hγ2
  have hb2 := hR.b13
  have hzb36 : 0 ≤ z36 ∧ z36 ≤ 100 := by omega
  clear hz36 hk hfi hz17
  have J69 : ∀ σ' γb o', RR_ G m X ρ σ' γb o' T c d → GX_ ρ σ σ' → SM_ m γ1 γb E → ((γb = γ2 ∧ (iv_ γ2 m 13 = 0 → ¬ wag_ m γ2 z17 z36 = true)) ∨ (γb = wr_ m γ2 3 (iv_ γ2 m 4) ∧ iv_ γ2 m 13 = 0 ∧ wag_ m γ2 z17 z36 = true)) → GoM_ G 14 yX3_way cX3_way 4 none σ (fun v σ' => v = none ∧ Q σ') 69 [some (A_ (some ρ)), some (I_ z17), some (I_ z36), none] [] σ' := by
    intro σ' γb o' hR hG hSMb hγb
    refine g_al0 dX3_way_69 ?_
    refine g_callV0V (d' := 11) lk_X3_49 hR.h3 rfl (rm_lt (by decide) (by decide)) (Nat.le_of_ble_eq_true rfl) dX3_way_70 ?_
    refine xr_on hR (by omega) (fun σ' o' hR4 hg4 => ?_)
    have hR4 := hR4 c d (Or.inl ⟨Int.le_refl _, Int.le_refl _⟩)
    have hIb := hR.I
    have hG := hG.tr hg4
    have hSM : SM_ m γ1 (onn_ m γb) E := hSMb.f0 (onn_A0 hIb)
    have hp1 := RR_.p4s (k := 59 + 4 * iv_ γ1 (m + 4) 5) (x := z17) hR4 hSM hF1 hEE (by rw [hEd]; omega) (by omega) (by omega)
    have hp2 := RR_.p4s (k := 59 + 4 * iv_ γ1 (m + 4) 5 + 1) (x := z36) hp1.1 hp1.2 hF1 hEE (by rw [hEd]; omega) (by omega) (by omega)
    have hR := hp2.1
    have hSM := hp2.2
    have hE0 : iv_ γb m 13 ≠ 0 → E0_ m γb (pi_ (pi_ (onn_ m γb) (m + 4) (59 + 4 * iv_ γ1 (m + 4) 5) z17) (m + 4) (59 + 4 * iv_ γ1 (m + 4) 5 + 1) z36) := fun q => by rw [onn_id q]; exact E0_.p4.tr E0_.p4
    have hok3 : iv_ (pi_ (pi_ (onn_ m γb) (m + 4) (59 + 4 * iv_ γ1 (m + 4) 5) z17) (m + 4) (59 + 4 * iv_ γ1 (m + 4) 5 + 1) z36) m 13 = 0 → iv_ γb m 13 = 0 := fun q => by rw [p4_13, p4_13] at q; exact (onn_ok hIb q).1
    have h43 : ∀ j, iv_ (pi_ (pi_ (onn_ m γb) (m + 4) (59 + 4 * iv_ γ1 (m + 4) 5) z17) (m + 4) (59 + 4 * iv_ γ1 (m + 4) 5 + 1) z36) (m + 4) j = if j = 59 + 4 * iv_ γ1 (m + 4) 5 + 1 then z36 else if j = 59 + 4 * iv_ γ1 (m + 4) 5 then z17 else iv_ (onn_ m γb) (m + 4) j := fun j => by
      rw [iv_pi]
      by_cases q : j = 59 + 4 * iv_ γ1 (m + 4) 5 + 1
      · rw [if_pos ⟨rfl, q⟩, if_pos q]
      · rw [if_neg (fun z => q z.2), if_neg q, iv_pi]
        by_cases q : j = 59 + 4 * iv_ γ1 (m + 4) 5
        · rw [if_pos ⟨rfl, q⟩, if_pos q]
        · rw [if_neg (fun z => q z.2), if_neg q]
    generalize hγc : pi_ (pi_ (onn_ m γb) (m + 4) (59 + 4 * iv_ γ1 (m + 4) 5) z17) (m + 4) (59 + 4 * iv_ γ1 (m + 4) 5 + 1) z36 = γ4 at hR hSM hE0 hok3 h43
    clear hp1 hp2 hR4
    refine g_lt (fun hlt hgz => ?_)
    refine g_new (ci := 10) nq_X3_217 ⟨_, rfl⟩ (by have := hR.rm0; omega) dX3_way_73 ?_
    have hnw := BT_.new (cb := 10) (n := 4) hR hlt
    have hBT := hnw.2.1
    have hblo : ρ + 2 < sz_ σ' := by
      obtain ⟨f, hP, -⟩ := hR.2.2.2.2.1
      have := hlt _ _ hP.1.sh
      rw [hR.1.2.2.2.2.2.2] at this
      exact this
    have hbz : sz_ σ ≤ sz_ σ' := hG.2.2.1
    have hR := hnw.1.wk (c' := c - 1) (d' := d - 4) (by omega) (by omega)
    have hG := hG.tr (hnw.2.2.gx (fun _ _ _ q => q.elim))
    have hgb := hgz
    clear hnw
    refine g_lt (fun hlt hgz => ?_)
    generalize nw_ σ' (.inl 10) 4 = σn at hBT hR hG hlt hgz ⊢
    generalize sz_ σ' = b at hBT hblo hbz hgb ⊢
    refine g_dup dX3_way_76 rfl ?_
    refine g_il1 dX3_way_77 ?_
    refine g_il2 dX3_way_78 ?_
    refine g_callI2 (d' := 2) lk_X3_219 (rm_lt (by decide) (by decide)) (Nat.le_of_ble_eq_true rfl) dX3_way_79 ?_
    refine xi_way hBT.1 hgb ?_
    have hpi := hBT.pi (k := 0) (x := z17) (by decide) hR
    have hpj := hpi.2.1.pi (k := 1) (x := z36) (by decide) hpi.1
    have hBT := hpj.2.1
    have hR := hpj.1
    have hG := (hG.pi (a := b) (k := 0) (x := z17) (Or.inr (Or.inr hbz))).pi (a := b) (k := 1) (x := z36) (Or.inr (Or.inr hbz))
    clear hpi hpj
    refine g_lt (fun hlt hgz => ?_)
    generalize pi_ (pi_ σn b 0 z17) b 1 z36 = σ' at hBT hR hG hlt hgz ⊢
    refine g_as3 dX3_way_82 (by decide) rfl ?_
    refine g_al3 dX3_way_83 ?_
    refine g_al0 dX3_way_84 ?_
    refine g_ldcS (j := 34) rfl dX3_way_85 ?_
    refine g_iconst dX3_way_87 ?_
    refine g_bipush dX3_way_88 (by decide) (by decide) ?_
    refine g_callV3I (d' := 13) lk_X3_149 hR.h3 rfl (rm_lt (by decide) (by decide)) (Nat.le_of_ble_eq_true rfl) dX3_way_90 ?_
    obtain ⟨vL, hSL, -, -⟩ := hR.2.2.2.2.2.2.1 34 _ rfl
    refine xr_part hR (by omega) hSL (by decide) (by decide) (fun z4 σ' o' hR4 hg4 hz4 hzb4 => ?_)
    have hI0 := hR.I
    have hBT := hBT.gx (by decide) hR hg4 hlt
    have hG := hG.tr hg4
    have := awv_in hI0 "days" (lo := 1) (hi := 99)
    have hp4 := RR_.p4s (γ := aw_ m γ4 "days" 1 99) (k := 59 + 4 * iv_ γ1 (m + 4) 5 + 2) (x := awv_ m γ4 "days" 1 99) hR4 (hSM.f0 (aft_A0 hI0 _ _ _ _)) hF1 hEE (by rw [hEd]; omega) (by omega) (by omega)
    have hok4 : iv_ (ps_ m γ4 (59 + 4 * iv_ γ1 (m + 4) 5 + 2) "days" 1 99) m 13 = 0 → iv_ γ4 m 13 = 0 ∧ z4 = awv_ m γ4 "days" 1 99 := fun q => ⟨(ps_ok hI0 q).1, by
      unfold ps_ at q
      rw [p4_13] at q
      exact hz4 q⟩
    have h44 : ∀ j, iv_ (ps_ m γ4 (59 + 4 * iv_ γ1 (m + 4) 5 + 2) "days" 1 99) (m + 4) j = if j = 59 + 4 * iv_ γ1 (m + 4) 5 + 2 then awv_ m γ4 "days" 1 99 else iv_ γ4 (m + 4) j := fun j => ps_4 _ _ _ _ _
    have hR : RR_ G m X ρ σ' (ps_ m γ4 (59 + 4 * iv_ γ1 (m + 4) 5 + 2) "days" 1 99) o' T (c - 1) (d - 4) := hp4.1
    have hSM : SM_ m γ1 (ps_ m γ4 (59 + 4 * iv_ γ1 (m + 4) 5 + 2) "days" 1 99) E := hp4.2
    have hE0 : iv_ γb m 13 ≠ 0 → E0_ m γb (ps_ m γ4 (59 + 4 * iv_ γ1 (m + 4) 5 + 2) "days" 1 99) := fun q => (hE0 q).ps q
    generalize hγ5 : ps_ m γ4 (59 + 4 * iv_ γ1 (m + 4) 5 + 2) "days" 1 99 = γ5 at hR hSM hE0 hok4 h44
    clear hp4 hR4 this
    refine g_lt (fun hlt hgz => ?_)
    refine f_putI 2 fk_X3_223 rfl (nf_ rfl rfl) hBT.1 hgb rfl dX3_way_93 ?_
    have hpi := hBT.pi (k := 2) (x := z4) (by decide) hR
    have hBT := hpi.2.1
    have hR := hpi.1
    have hG := hG.pi (a := b) (k := 2) (x := z4) (Or.inr (Or.inr hbz))
    clear hpi
    refine g_lt (fun hlt hgz => ?_)
    generalize pi_ σ' b 2 z4 = σ' at hBT hR hG hlt hgz ⊢
    refine g_al3 dX3_way_96 ?_
    refine g_al0 dX3_way_97 ?_
    refine g_ldcS (j := 35) rfl dX3_way_98 ?_
    refine g_iconst dX3_way_100 ?_
    refine g_bipush dX3_way_101 (by decide) (by decide) ?_
    refine g_callV3I (d' := 13) lk_X3_149 hR.h3 rfl (rm_lt (by decide) (by decide)) (Nat.le_of_ble_eq_true rfl) dX3_way_103 ?_
    obtain ⟨vL, hSL, -, -⟩ := hR.2.2.2.2.2.2.1 35 _ rfl
    refine xr_part hR (by omega) hSL (by decide) (by decide) (fun z5 σ' o' hR4 hg4 hz5 hzb5 => ?_)
    have hI0 := hR.I
    have hBT := hBT.gx (by decide) hR hg4 hlt
    have hG := hG.tr hg4
    have := awv_in hI0 "open" (lo := 1) (hi := 15)
    have hp4 := RR_.p4s (γ := aw_ m γ5 "open" 1 15) (k := 59 + 4 * iv_ γ1 (m + 4) 5 + 3) (x := awv_ m γ5 "open" 1 15) hR4 (hSM.f0 (aft_A0 hI0 _ _ _ _)) hF1 hEE (by rw [hEd]; omega) (by omega) (by omega)
    have hok5 : iv_ (ps_ m γ5 (59 + 4 * iv_ γ1 (m + 4) 5 + 3) "open" 1 15) m 13 = 0 → iv_ γ5 m 13 = 0 ∧ z5 = awv_ m γ5 "open" 1 15 := fun q => ⟨(ps_ok hI0 q).1, by
      unfold ps_ at q
      rw [p4_13] at q
      exact hz5 q⟩
    have h45 : ∀ j, iv_ (ps_ m γ5 (59 + 4 * iv_ γ1 (m + 4) 5 + 3) "open" 1 15) (m + 4) j = if j = 59 + 4 * iv_ γ1 (m + 4) 5 + 3 then awv_ m γ5 "open" 1 15 else iv_ γ5 (m + 4) j := fun j => ps_4 _ _ _ _ _
    have hR : RR_ G m X ρ σ' (ps_ m γ5 (59 + 4 * iv_ γ1 (m + 4) 5 + 3) "open" 1 15) o' T (c - 1) (d - 4) := hp4.1
    have hSM : SM_ m γ1 (ps_ m γ5 (59 + 4 * iv_ γ1 (m + 4) 5 + 3) "open" 1 15) E := hp4.2
    have hE0 : iv_ γb m 13 ≠ 0 → E0_ m γb (ps_ m γ5 (59 + 4 * iv_ γ1 (m + 4) 5 + 3) "open" 1 15) := fun q => (hE0 q).ps q
    generalize hγ6 : ps_ m γ5 (59 + 4 * iv_ γ1 (m + 4) 5 + 3) "open" 1 15 = γ6 at hR hSM hE0 hok5 h45
    clear hp4 hR4 this
    refine g_lt (fun hlt hgz => ?_)
    refine f_putI 3 fk_X3_227 rfl (nf_ rfl rfl) hBT.1 hgb rfl dX3_way_106 ?_
    have hpi := hBT.pi (k := 3) (x := z5) (by decide) hR
    have hBT := hpi.2.1
    have hR := hpi.1
    have hG := hG.pi (a := b) (k := 3) (x := z5) (Or.inr (Or.inr hbz))
    clear hpi
    refine g_lt (fun hlt hgz => ?_)
    generalize pi_ σ' b 3 z5 = σ' at hBT hR hG hlt hgz ⊢
    refine g_al0 dX3_way_109 ?_
    refine g_callV0I (d' := 2) lk_X3_36 hR.h3 rfl (rm_lt (by decide) (by decide)) (Nat.le_of_ble_eq_true rfl) dX3_way_110 ?_
    have hb1' : iv_ γb m 13 = 0 → γb = γ2 ∧ ¬ wag_ m γ2 z17 z36 = true ∧ wl_ m γ1 = mor_ m γ6 5 := fun q => by
      rcases hγb with z | z
      · have q2 : iv_ γ2 m 13 = 0 := by rw [← z.1]; exact q
        have w := z.2 q2
        refine ⟨z.1, w, ?_⟩
        have e := hzz36 q2
        rw [hwr.2.1 q2 (by rw [← e.1, ← e.2]; exact w)]
        unfold wl3_
        have e3 : onn_ m γb = nxt_ m γ2 := by rw [z.1]; exact if_pos q2
        rw [← e3, ← e.1, ← e.2, hγc, hγ5, hγ6]
      · exfalso
        rw [z.1, wr_13 hb2] at q
        omega
    have hfail : iv_ γ6 m 13 ≠ 0 → RR_ G m X ρ σ' (wl_ m γ1) o' T (c - 3) (d - 23) := fun w => by
      by_cases q : iv_ γb m 13 = 0
      · rw [(hb1' q).2.2, mor_id w]
        exact hR.wk (by omega) (by omega)
      · have e : wl_ m γ1 = γb := by
          rcases hγb with z | z
          · rw [z.1]; exact hwr.2.2 (by rw [← z.1]; exact q)
          · rw [z.1]
            have e := hzz36 z.2.1
            exact hwr.1 z.2.1 (by rw [← e.1, ← e.2]; exact z.2.2)
        rw [e]
        exact (hR.eq0 (hE0 q).sy (fun z => absurd z w)).wk (by omega) (by omega)
    refine xr_isOver hR (fun z110 hz110 => ?_)
    refine g_if_ne (tgt := 128) dX3_way_113 (by decide) (by omega) (fun h113 => ?_) (fun h113 => ?_)
    · exact g_vret rfl dX3_way_128 ⟨rfl, hQ _ _ T (hfail (by omega)) hTD (hG.ol (by omega))⟩
    have h6 : iv_ γ6 m 13 = 0 := by omega
    have hP := hR.P h6
    have hP1 : rv_ σ' ρ 1 = some (xP_ T) := by rw [hR.1.2.2.2.2.2.2]; exact hR.1.2.2.2.2.1
    refine g_al0 dX3_way_116 ?_
    refine f_getA 1 fk_X3_12 rfl hR.h3 (fun _ _ => rfl) hP1 dX3_way_117 ?_
    refine f_getA 5 fk_X3_210 rfl hP.1.sh (fun _ _ => rfl) hP.1.f5 dX3_way_120 ?_
    refine g_al3 dX3_way_123 ?_
    refine g_callV1I (d' := 8) lk_X3_207 hP.1.l1.1 rfl (rm_lt (by decide) (by decide)) (Nat.le_of_ble_eq_true rfl) dX3_way_124 ?_
    have hp := (hR.P h6)
    have hol : OL_ ρ σ σ' := hG.ol (by omega)
    have hE4 : sh_ σ' (gK_ G 100) = some (.inr (3, 0)) := (hol.1 _ (by omega)).1.trans hE
    have hrm := hR.rm0
    have hrl := (hSM.rl hF1 hEE h6).1
    have x4 := hrl 4 (by decide) (by decide)
    have x5 := hrl 5 (by decide) (by decide)
    have x6 := hrl 6 (by decide) (by decide)
    have x7 := hrl 7 (by decide) (by decide)
    have x8 := hrl 8 (by decide) (by decide)
    refine js_add (o := b) (co := 10) hlt hgz hE4 hk100 hp.1.l1 (fun i i0 i1 => ⟨10, (hp.1.2.2.2.2.2.2.2.1 i i0 i1).1, ca10⟩) (by omega) hBT.1 ca10 (by omega) (fun σ5 e' cap' hL5 he5 hw5 => ?_)
    have hbl : ρ + 2 ≤ sz_ σ' := by have := hlt _ _ hBT.1; omega
    have k5 := hok5 h6
    have k4 := hok4 k5.1
    have k3 := hok3 k4.1
    have hv := hBT.2.2.1
    have hadd := PP_.addW (o := b) (f := iv_ γ6 (m + 4)) ⟨hBT.1, by omega, by rw [x5, h45, if_neg (by omega), h44, if_neg (by omega), h43, if_neg (by omega), if_pos rfl]; exact hv 0, by rw [x5, h45, if_neg (by omega), h44, if_neg (by omega), h43, if_pos (by omega)]; exact hv 1, by rw [x5, h45, if_neg (by omega), h44, if_pos (by omega), ← k4.2]; exact hv 2, by rw [x5, h45, if_pos (by omega), ← k5.2]; exact hv 3⟩ hp hTD (by omega) (by omega) hbl hL5 he5 hw5 hlt
    have hfin := hR.mor (T' := xU_ T 1 e' cap' _ _) h6 hTD (ln := 1) (by decide) hw5 hlt rfl hadd.1
    refine g_pop dX3_way_127 rfl ?_
    exact g_vret rfl dX3_way_128 ⟨rfl, hQ _ _ _ (by rw [(hb1' k3).2.2]; exact hfin.1.wk (by omega) (by omega)) hadd.2 (hol.tr hfin.2)⟩
  refine g_is2 dX3_way_39 (by decide) rfl ?_
  refine g_al0 dX3_way_40 ?_
  refine g_callV0I (d' := 2) lk_X3_36 hR.h3 rfl (rm_lt (by decide) (by decide)) (Nat.le_of_ble_eq_true rfl) dX3_way_41 ?_
  refine xr_isOver hR (fun z41 hz41 => ?_)
  refine g_if_ne (tgt := 69) dX3_way_44 (by decide) (by omega) (fun h44 => ?_) (fun h44 => ?_)
  · exact J69 σ' γ2 _ hR hG hSM2 (Or.inl ⟨rfl, fun q => by omega⟩)
  refine g_il1 dX3_way_47 ?_
  refine g_il2 dX3_way_48 ?_
  refine g_icmp_eq (tgt := 64) dX3_way_49 (by decide) (by omega) (fun h49 => ?_) (fun h49 => ?_)
  · refine g_al0 dX3_way_64 ?_
    refine g_iconst dX3_way_65 ?_
    refine g_callV1V (d' := 3) lk_X3_56 hR.h3 rfl (rm_lt (by decide) (by decide)) (Nat.le_of_ble_eq_true rfl) dX3_way_66 ?_
    refine xr_wrong hR (by omega) (fun σ' hR4 hg4 => ?_)
    exact J69 σ' _ _ hR4 (hG.tr hg4) (hSM2.f0 (wr_A0 _ _)) (Or.inr ⟨rfl, by omega, by unfold wag_; rw [Bool.or_eq_true]; exact Or.inl (decide_eq_true (by omega))⟩)
  have h2 : iv_ γ2 m 13 = 0 := by omega
  have hP := hR.P h2
  have hP1 : rv_ σ' ρ 1 = some (xP_ T) := by rw [hR.1.2.2.2.2.2.2]; exact hR.1.2.2.2.2.1
  have hrl := (hSM2.rl hF1 hEE h2).1
  have s2 := hSM2 h2
  have hX1 := hF1.rx (hcn1 s2.1).2
  have x5 := hrl 5 (by decide) (by decide)
  refine g_al0 dX3_way_52 ?_
  refine f_getA 1 fk_X3_12 rfl hR.h3 (fun _ _ => rfl) hP1 dX3_way_53 ?_
  refine g_il1 dX3_way_56 ?_
  refine g_il2 dX3_way_57 ?_
  refine g_callV2I (d' := 5) lk_X3_213 hP.1.sh rfl (rm_lt (by decide) (by decide)) (Nat.le_of_ble_eq_true rfl) dX3_way_58 ?_
  refine xp_isWay hP (by omega) hzb36 (fun k k0 k1 => ?_) (fun z58 hz58 => ?_)
  · have := hX1.2.2.2.1 k k0 (by omega)
    have e1 := s2.2 (59 + 4 * k) (by rw [hEd]; omega)
    have e2 := s2.2 (60 + 4 * k) (by rw [hEd]; omega)
    omega
  have hwi := wag_iff (m := m) (γ := γ2) (a := z17) (b := z36) (by clear hz58; omega)
  have hw1 : z58 = 1 → wag_ m γ2 z17 z36 = true := fun q => hwi.mpr (Or.inr (by rcases hz58 with y | y; (exact y.2); (exact absurd q (by rw [y.1]; decide))))
  have hw0 : z58 = 0 → z17 ≠ z36 → ¬ wag_ m γ2 z17 z36 = true := fun q ne r => by
    rcases hwi.mp r with z | ⟨k, k0, k1, z⟩
    · exact ne z
    · rcases hz58 with y | y
      · exact absurd q (by rw [y.1]; decide)
      · exact y.2 k k0 k1 z
  have hz01 : z58 = 0 ∨ z58 = 1 := by
    rcases hz58 with y | y
    · exact Or.inr y.1
    · exact Or.inl y.1
  clear hwi hz58
  refine g_if_eq (tgt := 69) dX3_way_61 (by decide) (by omega) (fun h61 => ?_) (fun h61 => ?_)
  · exact J69 σ' γ2 _ hR hG hSM2 (Or.inl ⟨rfl, fun _ => hw0 (by omega) (by omega)⟩)
  refine g_al0 dX3_way_64 ?_
  refine g_iconst dX3_way_65 ?_
  refine g_callV1V (d' := 3) lk_X3_56 hR.h3 rfl (rm_lt (by decide) (by decide)) (Nat.le_of_ble_eq_true rfl) dX3_way_66 ?_
  refine xr_wrong hR (by omega) (fun σ' hR4 hg4 => ?_)
  exact J69 σ' _ _ hR4 (hG.tr hg4) (hSM2.f0 (wr_A0 _ _)) (Or.inr ⟨rfl, h2, hw1 (by omega)⟩)
end
