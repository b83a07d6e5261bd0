/-! THE COMPONENT: an island's line. Written by mod/m9o.py -/
set_option maxRecDepth 100000
section
variable {G : JG} {m X ρ o : Nat} {σ σ' γ : JH} {T : XT} {c d : Int}
theorem RR_.rm0 (h : RR_ G m X ρ σ γ o T c d) : sz_ σ + c ≤ lc_ G ∧ us_ σ + d ≤ ls_ G := by
  have hM := h.2.2.2.2.2.2.2
  obtain ⟨a, t1, -⟩ := h.2.1
  have hb := t1.2.2.2.2.2.1
  have he := t1.2.2.2.2.1
  unfold RM_ at hM
  rw [he] at hM
  by_cases q : iv_ σ o 0 = 1
  · rw [if_pos q] at hM; omega
  · rw [if_neg q] at hM; omega
theorem sg0_ok {i : Int} (hI : PI_ m γ) (q : iv_ (sg0_ m γ i) m 13 = 0) : iv_ γ m 13 = 0 ∧ (2 ≤ iv_ γ m 8 ∧ iv_ γ m 8 ≤ 6) ∧ ∀ j, iv_ (sg0_ m γ i) (m + 4) j = if 11 + 7 * i ≤ j ∧ j < 11 + 7 * i + iv_ γ m 8 then iv_ γ (m + 2) (j - (11 + 7 * i)) - 97 else if j = 10 + 7 * i then iv_ γ m 8 else iv_ γ (m + 4) j := by
  have h13 := hI.2.2.1
  have hok : iv_ γ m 13 = 0 ∧ iv_ γ m 6 = 2 ∧ ¬ tld_ m γ i = true ∧ sgi_ m γ = true := by
    unfold sg0_ at q
    by_cases h0 : iv_ γ m 13 = 0
    · rw [if_pos h0] at q
      by_cases h2 : iv_ γ m 6 = 2
      · rw [if_pos h2] at q
        by_cases ht : tld_ m γ i = true
        · rw [if_pos ht, wr_13 h13] at q; omega
        · rw [if_neg ht] at q
          by_cases hs : sgi_ m γ = true
          · exact ⟨h0, h2, ht, hs⟩
          · rw [if_neg hs, wr_13 h13] at q; omega
      · rw [if_neg h2, wr_13 h13] at q; omega
    · rw [if_neg h0] at q; exact absurd q h0
  have hs := (sgi_iff hI.2.2.2.2.2.2.1.1).mp hok.2.2.2
  refine ⟨hok.1, hs.1, fun j => ?_⟩
  have e : iv_ (sg0_ m γ i) (m + 4) j = iv_ (psg_ m γ i) (m + 4) j := by
    unfold sg0_
    rw [if_pos hok.1, if_pos hok.2.1, if_neg hok.2.2.1, if_pos hok.2.2.2]
    exact (nxt_f0 _).f4 j
  rw [e, psg_v]
theorem xr_islandLine  {Q : JH → Prop} (hR : RR_ G m X ρ σ γ o T c d) (hcd : 3 ≤ c ∧ 23 ≤ d) (h0 : iv_ γ m 13 = 0) (hF : FW_ (iv_ γ (m + 4))) (hN : iv_ γ (m + 4) 9 = 0 ↔ iv_ γ (m + 4) 0 = 0) (hTD : TD_ G T) (hE : sh_ σ (gK_ G 100) = some (.inr (3, 0)))
    (hQ : ∀ σ' o' T', RR_ G m X ρ σ' (il_ m (bgs_ m γ (ca1_ (iv_ γ (m + 4) 4) 7))) o' T' (c - 3) (d - 23) → TD_ G T' → OL_ ρ σ σ' → Q σ') : CallV_ G 13 yX3_islandLine cX3_islandLine 3 none [A_ (some ρ)] σ Q := by
  refine call_go [some (A_ (some ρ)), none, none] (by decide) (Nat.le_of_ble_eq_true rfl) rfl ?_
  have hP := hR.P h0
  have hP1 : rv_ σ ρ 1 = some (xP_ T) := by rw [hR.1.2.2.2.2.2.2]; exact hR.1.2.2.2.2.1
  have hcn0 := hF.cn
  have hge := hR.ge
  have hk100 : gK_ G 100 < (gH_ G).size := hP.2.2.2.2.2.1
  refine g_lt (fun hlt0 hgz0 => ?_)
  have hρ0 := hlt0 _ _ hR.h3
  refine g_al0 dX3_islandLine_0 ?_
  refine g_al0 dX3_islandLine_1 ?_
  refine f_getA 1 fk_X3_12 rfl hR.h3 (fun _ _ => rfl) hP1 dX3_islandLine_2 ?_
  refine f_getA 4 fk_X3_104 rfl hP.1.sh (fun _ _ => rfl) hP.1.f4 dX3_islandLine_5 ?_
  refine g_callV0I (d' := 2) lk_X3_181 hP.1.l0.1 rfl (rm_lt (by decide) (by decide)) (Nat.le_of_ble_eq_true rfl) dX3_islandLine_8 ?_
  refine js_size hP.1.l0 ?_
  refine g_bipush dX3_islandLine_11 (by decide) (by decide) ?_
  refine g_callV2V (d' := 12) lk_X3_190 hR.h3 rfl (rm_lt (by decide) (by decide)) (Nat.le_of_ble_eq_true rfl) dX3_islandLine_13 ?_
  refine xr_begins hR (by omega) h0 hN (can := ca1_ (iv_ γ (m + 4) 4) 7) (by omega) (by decide) ⟨fun q => by unfold ca1_; rw [if_neg (by omega)], fun q => by unfold ca1_; rw [if_pos (by omega)]⟩ (fun σ1 o1 hR1 hg1 => ?_)
  have hb1 := bgs_cs h0 (ca1_ (iv_ γ (m + 4) 4) 7)
  have hb4 := fun k => bgs_4 (m := m) (γ := γ) (ca1_ (iv_ γ (m + 4) 4) 7) k
  generalize hγ1 : bgs_ m γ (ca1_ (iv_ γ (m + 4) 4) 7) = γ1 at hR1 hb1 hb4 hQ
  have hfe1 : iv_ γ1 (m + 4) = iv_ γ (m + 4) := funext hb4
  have hF1 : FW_ (iv_ γ1 (m + 4)) := by rw [hfe1]; exact hF
  have hcn1 : iv_ γ1 m 13 = 0 → iv_ γ1 (m + 4) 4 < 7 ∧ iv_ γ1 (m + 4) 9 = 1 := fun q => by
    rcases hb1 with z | z
    · omega
    · have z1 := z.1
      have z2 := z.2.1
      unfold ca1_ at z1
      rw [hfe1]
      refine ⟨Classical.byContradiction fun w => z1 (if_neg w), ?_⟩
      rcases hF.1 with y | y
      · omega
      · exact y.1
  have hcn := hF1.cn
  have hG := hg1
  have hR := hR1
  refine g_al0 dX3_islandLine_16 ?_
  refine g_callV0A (d' := 12) lk_X3_194 hR.h3 rfl (rm_lt (by decide) (by decide)) (Nat.le_of_ble_eq_true rfl) dX3_islandLine_17 ?_
  refine xr_fresh hR (by omega) (fun _ => hF1) (n1 := iv_ γ1 (m + 4) 4) (fun _ => by omega) (fun q => by have := hcn1 q; unfold US_; omega) (fun σ2 o2 wd wv n w hR2 hg2 hS2 hnm => ?_)
  have hR := hR2
  have hG := hG.tr hg2
  refine g_lt (fun hlt2 hgz2 => ?_)
  have hI1 := hR1.I
  have hnok : iv_ (nna_ m γ1 (iv_ γ1 (m + 4) 4)) m 13 = 0 → iv_ γ1 m 13 = 0 ∧ ∀ j, (j < 183 ∨ j = 203) → j ≠ 203 → iv_ (nna_ m γ1 (iv_ γ1 (m + 4) 4)) (m + 4) j = iv_ γ1 (m + 4) j := fun q => by
    have q1 : iv_ γ1 m 13 = 0 := (nna_A1 hI1 _).ok q
    have z := nna_ok hI1 q1 q
    exact ⟨q1, fun j j0 j1 => by rw [z.2.2.2.2 j, if_neg (by omega), if_neg (by omega)]⟩
  have hRX2 : iv_ (nna_ m γ1 (iv_ γ1 (m + 4) 4)) m 13 = 0 → RX_ (iv_ (nna_ m γ1 (iv_ γ1 (m + 4) 4)) (m + 4)) := fun q => (hF1.rx (hcn1 (hnok q).1).2).cg (fun j j0 j1 => (hnok q).2 j (by omega) (by omega))
  refine g_as1 dX3_islandLine_20 (by decide) rfl ?_
  refine g_al0 dX3_islandLine_21 ?_
  refine g_callV0A (d' := 12) lk_X3_198 hR.h3 rfl (rm_lt (by decide) (by decide)) (Nat.le_of_ble_eq_true rfl) dX3_islandLine_22 ?_
  refine xr_song hR hcd hRX2 (fun q => ((hnok q).2 4 (by omega) (by omega)).symm) (fun q => (hcn1 (hnok q).1).1) (fun σ3 o3 A hR3 hg3 hAlo hA3 => ?_)
  have hS3 := hS2.gx hg3 hlt2 hR.h3 hR.h4
  have hR := hR3
  have hG := hG.tr hg3
  have hle := il_eq hI1.2.2.1 (fun n => (nna_PI hI1 n).2.2.1)
  have hsok := fun q => sg0_ok (i := iv_ γ1 (m + 4) 4) hR2.I q
  have hb3 := hR3.b13
  refine g_lt (fun hlt3 hgz3 => ?_)
  refine g_as2 dX3_islandLine_25 (by decide) rfl ?_
  refine g_al0 dX3_islandLine_26 ?_
  refine g_callV0I (d' := 2) lk_X3_36 hR.h3 rfl (rm_lt (by decide) (by decide)) (Nat.le_of_ble_eq_true rfl) dX3_islandLine_27 ?_
  refine xr_isOver hR (fun z27 hz27 => ?_)
  refine g_if_ne (tgt := 53) dX3_islandLine_30 (by decide) (by omega) (fun h30 => ?_) (fun h30 => ?_)
  · exact g_vret rfl dX3_islandLine_53 ⟨rfl, hQ _ _ T (by rw [hle]; unfold mor_; rw [if_neg (by omega)]; exact hR.wk (by omega) (by omega)) hTD (hG.ol (by omega))⟩
  have h3 : iv_ (sg0_ m (nna_ m γ1 (iv_ γ1 (m + 4) 4)) (iv_ γ1 (m + 4) 4)) m 13 = 0 := by omega
  have hP := hR.P h3
  have hP1 : rv_ σ3 ρ 1 = some (xP_ T) := by rw [hR.1.2.2.2.2.2.2]; exact hR.1.2.2.2.2.1
  refine g_al0 dX3_islandLine_33 ?_
  refine f_getA 1 fk_X3_12 rfl hR.h3 (fun _ _ => rfl) hP1 dX3_islandLine_34 ?_
  refine f_getA 4 fk_X3_104 rfl hP.1.sh (fun _ _ => rfl) hP.1.f4 dX3_islandLine_37 ?_
  refine g_new (ci := 9) nq_X3_202 ⟨_, rfl⟩ (by have := hR.rm0; omega) dX3_islandLine_40 ?_
  refine g_dup dX3_islandLine_43 rfl ?_
  refine g_al1 dX3_islandLine_44 ?_
  refine g_al2 dX3_islandLine_45 ?_
  refine g_callI2 (d' := 2) lk_X3_204 (rm_lt (by decide) (by decide)) (Nat.le_of_ble_eq_true rfl) dX3_islandLine_46 ?_
  refine xi_island (by rw [sh_nw, if_pos rfl]) hgz3 ?_
  refine g_lt (fun hlt4 hgz4 => ?_)
  have hA := hA3 h3
  have hAsz := hlt3 _ _ hA.1
  have gw4 : Gw_ (fun _ _ => False) 1 2 σ3 (pr_ (pr_ (nw_ σ3 (.inl 9) 2) (sz_ σ3) 0 (some wd)) (sz_ σ3) 1 (some A)) := (((Gw_.rf.nw (s := .inl 9) (n := 2)).pr (fun q => by omega)).pr (fun q => by omega)).mono (fun _ _ _ q => q) (by omega) (by omega)
  have hR4 := hR.gw gw4 hlt3
  have hS4 := hS3.gw gw4 hlt3 (fun _ _ q => q) (fun _ q => q)
  have hG := hG.tr (gw4.gx (fun _ _ _ q => q.elim))
  have hb : sh_ (pr_ (pr_ (nw_ σ3 (.inl 9) 2) (sz_ σ3) 0 (some wd)) (sz_ σ3) 1 (some A)) (sz_ σ3) = some (.inl 9) := by rw [sh_pr, sh_pr, sh_nw, if_pos rfl]
  have hb0 : rv_ (pr_ (pr_ (nw_ σ3 (.inl 9) 2) (sz_ σ3) 0 (some wd)) (sz_ σ3) 1 (some A)) (sz_ σ3) 0 = some wd := by rw [rv_pr, if_neg (by omega), rv_pr, if_pos ⟨rfl, rfl⟩]
  have hb1' : rv_ (pr_ (pr_ (nw_ σ3 (.inl 9) 2) (sz_ σ3) 0 (some wd)) (sz_ σ3) 1 (some A)) (sz_ σ3) 1 = some A := by rw [rv_pr, if_pos ⟨rfl, rfl⟩]
  have hA4s := (gw4.1 A hAsz).trans hA.1
  have hA4v := fun k k0 k1 => ((gw4.2.1 A k hAsz (fun q => q)).2).trans (hA.2 k k0 k1)
  have hblo : ρ + 2 < sz_ σ3 := by have := hlt3 _ _ hP.1.sh; rw [hR.1.2.2.2.2.2.2] at this; exact this
  have hR := hR4
  generalize sz_ σ3 = b at hb hb0 hb1' hblo hlt4 hgz4 hR hS4 hG hA4s hA4v gw4 ⊢
  generalize pr_ (pr_ (nw_ σ3 (.inl 9) 2) b 0 (some wd)) b 1 (some A) = σ4 at hb hb0 hb1' hlt4 hgz4 hR hS4 hG hA4s hA4v gw4 ⊢
  have hP := hR.P h3
  refine g_callV1I (d' := 8) lk_X3_207 hP.1.l0.1 rfl (rm_lt (by decide) (by decide)) (Nat.le_of_ble_eq_true rfl) dX3_islandLine_49 ?_
  have hsv := hsok h3
  have h2ok := hnok hsv.1
  have he3 : ∀ j, (j < 10 + 7 * iv_ γ1 (m + 4) 4 ∨ 183 ≤ j) → iv_ (sg0_ m (nna_ m γ1 (iv_ γ1 (m + 4) 4)) (iv_ γ1 (m + 4) 4)) (m + 4) j = iv_ (nna_ m γ1 (iv_ γ1 (m + 4) 4)) (m + 4) j := fun j hj => by
    have := (hcn1 h2ok.1).1
    rw [hsv.2.2 j, if_neg (by omega), if_neg (by omega)]
  have he4 : ∀ j, 0 ≤ j → j ≤ 8 → iv_ (sg0_ m (nna_ m γ1 (iv_ γ1 (m + 4) 4)) (iv_ γ1 (m + 4) 4)) (m + 4) j = iv_ γ1 (m + 4) j := fun j j0 j1 => (he3 j (by omega)).trans (h2ok.2 j (by omega) (by omega))
  have x4 := he4 4 (by decide) (by decide)
  have x5 := he4 5 (by decide) (by decide)
  have x6 := he4 6 (by decide) (by decide)
  have x7 := he4 7 (by decide) (by decide)
  have x8 := he4 8 (by decide) (by decide)
  have hnw := hnm hsv.1
  have hp := (hR.P h3)
  have hol : OL_ ρ σ σ4 := hG.ol (by omega)
  have hE4 : sh_ σ4 (gK_ G 100) = some (.inr (3, 0)) := (hol.1 _ (by omega)).1.trans hE
  have hrm := hR.rm0
  refine js_add (o := b) (co := 9) hlt4 hgz4 hE4 hk100 hp.1.l0 (fun i i0 i1 => ⟨9, (hp.1.2.2.2.2.2.2.1 i i0 i1).1, ca9⟩) (by omega) hb ca9 (by omega) (fun σ5 e' cap' hL5 he5 hw5 => ?_)
  have hadd := PP_.addI (A := A) (o := b) ⟨hb, by omega, hb1', by rw [x4]; exact hA4s, hAlo, fun k k0 k1 => by rw [x4] at k1 ⊢; exact hA4v k k0 k1⟩ (NM_.cg (z := (n : Int)) (w := w) ⟨wd, wv, n, hb0, hS4, rfl, hnw.2.2.1, hnw.2.2.2⟩ (by rw [x4, he3 (183 + iv_ γ1 (m + 4) 4) (by omega)]; exact hnw.1.symm) (fun k k0 k1 => by (try dsimp only); rw [x4, he3 (203 + 8 * iv_ γ1 (m + 4) 4 + k) (by omega)]; exact (hnw.2.1 k k0 k1).symm)) (hR.P h3) hTD (by omega) (by omega) (by have := hlt4 _ _ hb; omega) hL5 he5 hw5 hlt4
  have hfin := hR.mor (T' := xU_ T 0 e' cap' _ _) h3 hTD (ln := 0) (by decide) hw5 hlt4 rfl hadd.1
  refine g_pop dX3_islandLine_52 rfl ?_
  exact g_vret rfl dX3_islandLine_53 ⟨rfl, hQ _ _ _ (by rw [hle]; exact hfin.1.wk (by omega) (by omega)) hadd.2 (hol.tr hfin.2)⟩
end
