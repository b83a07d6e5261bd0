/-! THE LAW: its loop, its start. Written by mod/mae.py -/
set_option maxRecDepth 100000
section
variable {G : JG} {b L X : Nat} {xs : Nat → Int32} {i : Int} {σ0 σ : JH} {tp fa pl tr p un im : Int} {B r s : Int → Int} {U I : Int → Int → Int} {T : XT} {LL : XL}
theorem law_sw {v : Int} {e5 e6 : Option AV} (hv : -2147483648 ≤ v ∧ v < 2147483648) (h : LI_ G b L X i σ tp fa pl tr p un im B r s U I T LL) (hK : ∀ (e5 e6 : Option AV) (σ' : JH), LE_ G X σ σ' → GoW_ G b L xs σ0 1834 [some (A_ (some b)), some (A_ (some X)), some (A_ (some (X + 13))), some (A_ (some (X + 30))), some (I_ i), e5, e6] [] σ') : GoW_ G b L xs σ0 40 [some (A_ (some b)), some (A_ (some X)), some (A_ (some (X + 13))), some (A_ (some (X + 30))), some (I_ i), e5, e6] [I_ v] σ := by
  by_cases c0 : v = 0
  · refine g_tabIn (tgt := 256) dX0_law_40 hv (by omega) (by rw [c0]; rfl) (by decide) ?_
    exact law_c0 h hK
  by_cases c1 : v = 1
  · refine g_tabIn (tgt := 329) dX0_law_40 hv (by omega) (by rw [c1]; rfl) (by decide) ?_
    exact law_c1 h hK
  by_cases c2 : v = 2
  · refine g_tabIn (tgt := 354) dX0_law_40 hv (by omega) (by rw [c2]; rfl) (by decide) ?_
    exact law_c2 h hK
  by_cases c3 : v = 3
  · refine g_tabIn (tgt := 367) dX0_law_40 hv (by omega) (by rw [c3]; rfl) (by decide) ?_
    exact law_c3 h hK
  by_cases c4 : v = 4
  · refine g_tabIn (tgt := 380) dX0_law_40 hv (by omega) (by rw [c4]; rfl) (by decide) ?_
    exact law_c4 h hK
  by_cases c5 : v = 5
  · refine g_tabIn (tgt := 417) dX0_law_40 hv (by omega) (by rw [c5]; rfl) (by decide) ?_
    exact law_c5 h hK
  by_cases c6 : v = 6
  · refine g_tabIn (tgt := 454) dX0_law_40 hv (by omega) (by rw [c6]; rfl) (by decide) ?_
    exact law_c6 h hK
  by_cases c7 : v = 7
  · refine g_tabIn (tgt := 479) dX0_law_40 hv (by omega) (by rw [c7]; rfl) (by decide) ?_
    exact law_c7 h hK
  by_cases c8 : v = 8
  · refine g_tabIn (tgt := 516) dX0_law_40 hv (by omega) (by rw [c8]; rfl) (by decide) ?_
    exact law_c8 h hK
  by_cases c9 : v = 9
  · refine g_tabIn (tgt := 553) dX0_law_40 hv (by omega) (by rw [c9]; rfl) (by decide) ?_
    exact law_c9 h hK
  by_cases c10 : v = 10
  · refine g_tabIn (tgt := 578) dX0_law_40 hv (by omega) (by rw [c10]; rfl) (by decide) ?_
    exact law_c10 h hK
  by_cases c11 : v = 11
  · refine g_tabIn (tgt := 615) dX0_law_40 hv (by omega) (by rw [c11]; rfl) (by decide) ?_
    exact law_c11 h hK
  by_cases c12 : v = 12
  · refine g_tabIn (tgt := 640) dX0_law_40 hv (by omega) (by rw [c12]; rfl) (by decide) ?_
    exact law_c12 h hK
  by_cases c13 : v = 13
  · refine g_tabIn (tgt := 689) dX0_law_40 hv (by omega) (by rw [c13]; rfl) (by decide) ?_
    exact law_c13 h hK
  by_cases c14 : v = 14
  · refine g_tabIn (tgt := 714) dX0_law_40 hv (by omega) (by rw [c14]; rfl) (by decide) ?_
    exact law_c14 h hK
  by_cases c15 : v = 15
  · refine g_tabIn (tgt := 751) dX0_law_40 hv (by omega) (by rw [c15]; rfl) (by decide) ?_
    exact law_c15 h hK
  by_cases c16 : v = 16
  · refine g_tabIn (tgt := 764) dX0_law_40 hv (by omega) (by rw [c16]; rfl) (by decide) ?_
    exact law_c16 h hK
  by_cases c17 : v = 17
  · refine g_tabIn (tgt := 777) dX0_law_40 hv (by omega) (by rw [c17]; rfl) (by decide) ?_
    exact law_c17 h hK
  by_cases c18 : v = 18
  · refine g_tabIn (tgt := 814) dX0_law_40 hv (by omega) (by rw [c18]; rfl) (by decide) ?_
    exact law_c18 h hK
  by_cases c19 : v = 19
  · refine g_tabIn (tgt := 851) dX0_law_40 hv (by omega) (by rw [c19]; rfl) (by decide) ?_
    exact law_c19 h hK
  by_cases c20 : v = 20
  · refine g_tabIn (tgt := 876) dX0_law_40 hv (by omega) (by rw [c20]; rfl) (by decide) ?_
    exact law_c20 h hK
  by_cases c21 : v = 21
  · refine g_tabIn (tgt := 901) dX0_law_40 hv (by omega) (by rw [c21]; rfl) (by decide) ?_
    exact law_c21 h hK
  by_cases c22 : v = 22
  · refine g_tabIn (tgt := 938) dX0_law_40 hv (by omega) (by rw [c22]; rfl) (by decide) ?_
    exact law_c22 h hK
  by_cases c23 : v = 23
  · refine g_tabIn (tgt := 963) dX0_law_40 hv (by omega) (by rw [c23]; rfl) (by decide) ?_
    exact law_c23 h hK
  by_cases c24 : v = 24
  · refine g_tabIn (tgt := 1024) dX0_law_40 hv (by omega) (by rw [c24]; rfl) (by decide) ?_
    exact law_c24 h hK
  by_cases c25 : v = 25
  · refine g_tabIn (tgt := 1061) dX0_law_40 hv (by omega) (by rw [c25]; rfl) (by decide) ?_
    exact law_c25 h hK
  by_cases c26 : v = 26
  · refine g_tabIn (tgt := 1086) dX0_law_40 hv (by omega) (by rw [c26]; rfl) (by decide) ?_
    exact law_c26 h hK
  by_cases c27 : v = 27
  · refine g_tabIn (tgt := 1111) dX0_law_40 hv (by omega) (by rw [c27]; rfl) (by decide) ?_
    exact law_c27 h hK
  by_cases c28 : v = 28
  · refine g_tabIn (tgt := 1148) dX0_law_40 hv (by omega) (by rw [c28]; rfl) (by decide) ?_
    exact law_c28 h hK
  by_cases c29 : v = 29
  · refine g_tabIn (tgt := 1202) dX0_law_40 hv (by omega) (by rw [c29]; rfl) (by decide) ?_
    exact law_c29 h hK
  by_cases c30 : v = 30
  · refine g_tabIn (tgt := 1215) dX0_law_40 hv (by omega) (by rw [c30]; rfl) (by decide) ?_
    exact law_c30 h hK
  by_cases c31 : v = 31
  · refine g_tabIn (tgt := 1228) dX0_law_40 hv (by omega) (by rw [c31]; rfl) (by decide) ?_
    exact law_c31 h hK
  by_cases c32 : v = 32
  · refine g_tabIn (tgt := 1253) dX0_law_40 hv (by omega) (by rw [c32]; rfl) (by decide) ?_
    exact law_c32 h hK
  by_cases c33 : v = 33
  · refine g_tabIn (tgt := 1314) dX0_law_40 hv (by omega) (by rw [c33]; rfl) (by decide) ?_
    exact law_c33 h hK
  by_cases c34 : v = 34
  · refine g_tabIn (tgt := 1327) dX0_law_40 hv (by omega) (by rw [c34]; rfl) (by decide) ?_
    exact law_c34 h hK
  by_cases c35 : v = 35
  · refine g_tabIn (tgt := 1364) dX0_law_40 hv (by omega) (by rw [c35]; rfl) (by decide) ?_
    exact law_c35 h hK
  by_cases c36 : v = 36
  · refine g_tabIn (tgt := 1389) dX0_law_40 hv (by omega) (by rw [c36]; rfl) (by decide) ?_
    exact law_c36 h hK
  by_cases c37 : v = 37
  · refine g_tabIn (tgt := 1426) dX0_law_40 hv (by omega) (by rw [c37]; rfl) (by decide) ?_
    exact law_c37 h hK
  by_cases c38 : v = 38
  · refine g_tabIn (tgt := 1451) dX0_law_40 hv (by omega) (by rw [c38]; rfl) (by decide) ?_
    exact law_c38 h hK
  by_cases c39 : v = 39
  · refine g_tabIn (tgt := 1488) dX0_law_40 hv (by omega) (by rw [c39]; rfl) (by decide) ?_
    exact law_c39 h hK
  by_cases c40 : v = 40
  · refine g_tabIn (tgt := 1525) dX0_law_40 hv (by omega) (by rw [c40]; rfl) (by decide) ?_
    exact law_c40 h hK
  by_cases c41 : v = 41
  · refine g_tabIn (tgt := 1562) dX0_law_40 hv (by omega) (by rw [c41]; rfl) (by decide) ?_
    exact law_c41 h hK
  by_cases c42 : v = 42
  · refine g_tabIn (tgt := 1611) dX0_law_40 hv (by omega) (by rw [c42]; rfl) (by decide) ?_
    exact law_c42 h hK
  by_cases c43 : v = 43
  · refine g_tabIn (tgt := 1636) dX0_law_40 hv (by omega) (by rw [c43]; rfl) (by decide) ?_
    exact law_c43 h hK
  by_cases c44 : v = 44
  · refine g_tabIn (tgt := 1689) dX0_law_40 hv (by omega) (by rw [c44]; rfl) (by decide) ?_
    exact law_c44 h hK
  by_cases c45 : v = 45
  · refine g_tabIn (tgt := 1702) dX0_law_40 hv (by omega) (by rw [c45]; rfl) (by decide) ?_
    exact law_c45 h hK
  by_cases c46 : v = 46
  · refine g_tabIn (tgt := 1715) dX0_law_40 hv (by omega) (by rw [c46]; rfl) (by decide) ?_
    exact law_c46 h hK
  by_cases c47 : v = 47
  · refine g_tabIn (tgt := 1740) dX0_law_40 hv (by omega) (by rw [c47]; rfl) (by decide) ?_
    exact law_c47 h hK
  by_cases c48 : v = 48
  · refine g_tabIn (tgt := 1796) dX0_law_40 hv (by omega) (by rw [c48]; rfl) (by decide) ?_
    exact law_c48 h hK
  by_cases c49 : v = 49
  · refine g_tabIn (tgt := 1821) dX0_law_40 hv (by omega) (by rw [c49]; rfl) (by decide) ?_
    exact law_c49 h hK
  refine g_tabOut (tgt := 1834) dX0_law_40 hv (by omega) (by decide) ?_
  obtain ⟨hS, hM, htr, hB, -⟩ := h
  exact hK _ _ _ ⟨⟨tp, fa, pl, tr, p, un, im, B, r, s, U, I, T, LL, hS, hM, htr⟩, hB, by omega⟩
/-- the law's loop -/
theorem law_loop (hst : (gl_ G).stackTraces = false) (hbl : b < (gH_ G).size) (hL : L ≤ 384) (hz : sz_ σ0 = (gH_ G).size) (hu : us_ σ0 = su_ (gH_ G)) : ∀ (n : Nat) (i : Int) (e5 e6 : Option AV) (σ : JH) {tp fa pl tr p un im : Int} {B r s : Int → Int} {U I : Int → Int → Int} {T : XT} {LL : XL}, XS_ G X (X + 31) σ tp fa pl tr p un im B r s U I T LL → MS_ G (X + 13) σ tp fa pl tr p un im B r s U I → (0 ≤ tr ∧ tr ≤ 6) → LB_ G X σ → (0 ≤ i ∧ i ≤ 400) → (L : Int) - i < 6 * ((n : Int) + 1) → (sz_ σ + 8400 * n ≤ lc_ G ∧ us_ σ + 60000 * n ≤ ls_ G) → GoW_ G b L xs σ0 23 [some (A_ (some b)), some (A_ (some X)), some (A_ (some (X + 13))), some (A_ (some (X + 30))), some (I_ i), e5, e6] [] σ := by
  intro n
  induction n with
  | zero =>
    intro i e5 e6 σ tp fa pl tr p un im B r s U I T LL hS hM htr hB hi hn hrm
    refine g_il4 dX0_law_23 ?_
    refine g_al0 dX0_law_25 ?_
    refine g_slen hbl dX0_law_26 ?_
    refine g_bipush dX0_law_27 (by decide) (by decide) ?_
    refine g_isub dX0_law_29 ?_
    refine g_icmp_gt (tgt := 1840) dX0_law_30 (by decide) (by omega) (fun h30 => ?_) (fun h30 => ?_)
    · refine g_iconst dX0_law_1840 ?_
      exact g_lawret hz hu dX0_law_1841
    · exact absurd h30 (by omega)
  | succ n ih =>
    intro i e5 e6 σ tp fa pl tr p un im B r s U I T LL hS hM htr hB hi hn hrm
    refine g_il4 dX0_law_23 ?_
    refine g_al0 dX0_law_25 ?_
    refine g_slen hbl dX0_law_26 ?_
    refine g_bipush dX0_law_27 (by decide) (by decide) ?_
    refine g_isub dX0_law_29 ?_
    refine g_icmp_gt (tgt := 1840) dX0_law_30 (by decide) (by omega) (fun h30 => ?_) (fun h30 => ?_)
    · refine g_iconst dX0_law_1840 ?_
      exact g_lawret hz hu dX0_law_1841
    · refine g_al0 dX0_law_33 ?_
      refine g_il4 dX0_law_34 ?_
      refine g_sld hbl (by omega) hL dX0_law_36 ?_
      refine g_bipush dX0_law_37 (by decide) (by decide) ?_
      refine g_iand dX0_law_39 ?_
      refine law_sw (xr_ _) ⟨hS, hM, htr, hB, ⟨hbl, hL, by omega, by omega⟩, ⟨by omega, by omega⟩, hst⟩ (fun e5' e6' σ' hE => ?_)
      obtain ⟨⟨tp', fa', pl', tr', p', un', im', B', r', s', U', I', T', L', hS', hM', htr'⟩, hB', hsz'⟩ := hE
      refine g_inc4 dX0_law_1834 (by decide) rfl ?_
      refine g_goto (tgt := 23) dX0_law_1837 (by decide) ?_
      exact ih _ _ _ _ hS' hM' htr' hB' ⟨by omega, by omega⟩ (by omega) ⟨by omega, by omega⟩
end
theorem nq_X0_8 : ∀ r : vw_C, cls_[0]? = some r → Cond.classLink RX0 8 r.1 ∈ lw_all ∧ Cond.instantiable r.1 20 ∈ lw_all ∧ Cond.initialized r.1 ∈ lw_all := fun r h => by cases h; exact ⟨q164, q165, q131⟩
theorem nq_X0_16 : ∀ r : vw_C, cls_[1]? = some r → Cond.classLink RX0 16 r.1 ∈ lw_all ∧ Cond.instantiable r.1 39 ∈ lw_all ∧ Cond.initialized r.1 ∈ lw_all := fun r h => by cases h; exact ⟨q1667, q1668, q135⟩
theorem Gw_.nw1 {S : Nat → Int → Prop} {σ : JH} {sp : JS} {n : Nat} : Gw_ S 1 n σ (nw_ σ sp n) := ⟨fun b hb => by rw [sh_nw, if_neg (by omega)], fun b k hb _ => ⟨by rw [rv_nw, if_neg (by omega)], by rw [iv_nw, if_neg (by omega)]⟩, ⟨by rw [sz_nw]; omega, by rw [sz_nw]; omega⟩, by rw [us_nw]; omega, by rw [us_nw]; omega⟩
theorem law_run {G : JG} {b L : Nat} {xs : Nat → Int32} {σ0 : JH} (hst : (gl_ G).stackTraces = false) (hbl : b < (gH_ G).size) (hL : L ≤ 384) (hz : sz_ σ0 = (gH_ G).size) (hu : us_ σ0 = su_ (gH_ G)) (hLS : LS_ G σ0) (hLZ : LZ_ G σ0) (h23 : gK_ G 23 < (gH_ G).size) (h100 : gK_ G 100 < (gH_ G).size) (hE : sh_ σ0 (gK_ G 100) = some (.inr (3, 0))) : GoW_ G b L xs σ0 0 [some (A_ (some b)), none, none, none, none, none, none] [] σ0 := by
  have hlc : lc_ G = (gH_ G).size + 1200128 := rfl
  have hls : ls_ G = su_ (gH_ G) + 5501098 := rfl
  refine g_lt (fun hlt0 _ => ?_)
  have f1 : Gw_ (fun _ _ => False) 1 20 σ0 (nw_ σ0 (.inl 0) 20) := Gw_.nw1
  refine g_new (ci := 0) nq_X0_8 ⟨_, rfl⟩ ⟨by omega, by omega⟩ dX0_law_0 ?_
  refine g_dup dX0_law_3 rfl ?_
  have hs1 : sh_ (nw_ σ0 (.inl 0) 20) (sz_ σ0) = some (.inl 0) := by rw [sh_nw, if_pos rfl]
  have hlt1 : ∀ a sp, sh_ (nw_ σ0 (.inl 0) 20) a = some sp → a < sz_ (nw_ σ0 (.inl 0) 20) := fun a sp h => by
    rw [sh_nw] at h
    rw [sz_nw]
    split at h
    · omega
    · have := hlt0 _ _ h; omega
  refine g_callI0 (d' := 5) lk_X0_15 ⟨Nat.le_of_ble_eq_true rfl, Nat.le_of_ble_eq_true rfl⟩ (Nat.le_of_ble_eq_true rfl) dX0_law_4 ?_
  refine xo_init hlt1 hs1 (by omega) ⟨by rw [sz_nw]; omega, by rw [us_nw]; omega⟩ (fun σ1 hB1 => ?_)
  have z1 : sz_ (nw_ σ0 (.inl 0) 20) = sz_ σ0 + 1 := sz_nw _ _ _
  have u1 : us_ (nw_ σ0 (.inl 0) 20) = us_ σ0 + 20 := us_nw _ _ _
  have w1 : sz_ σ1 = sz_ (nw_ σ0 (.inl 0) 20) + 12 ∧ us_ σ1 = us_ (nw_ σ0 (.inl 0) 20) + 3544 := hB1.2.1
  refine g_as1 dX0_law_7 (by decide) rfl ?_
  refine g_lt (fun hltA _ => ?_)
  have f2 : Gw_ (fun _ _ => False) 1 39 σ1 (nw_ σ1 (.inl 1) 39) := Gw_.nw1
  refine g_new (ci := 1) nq_X0_16 ⟨_, rfl⟩ ⟨by omega, by omega⟩ dX0_law_8 ?_
  refine g_dup dX0_law_11 rfl ?_
  have hs2 : sh_ (nw_ σ1 (.inl 1) 39) (sz_ σ1) = some (.inl 1) := by rw [sh_nw, if_pos rfl]
  have z2 : sz_ (nw_ σ1 (.inl 1) 39) = sz_ σ1 + 1 := sz_nw _ _ _
  have u2 : us_ (nw_ σ1 (.inl 1) 39) = us_ σ1 + 39 := us_nw _ _ _
  have hlt2 : ∀ a sp, sh_ (nw_ σ1 (.inl 1) 39) a = some sp → a < sz_ (nw_ σ1 (.inl 1) 39) := fun a sp h => by
    rw [sh_nw] at h
    rw [sz_nw]
    split at h
    · omega
    · have := hltA _ _ h; omega
  refine g_callI0 (d' := 2) lk_X0_18 ⟨Nat.le_of_ble_eq_true rfl, Nat.le_of_ble_eq_true rfl⟩ (Nat.le_of_ble_eq_true rfl) dX0_law_12 ?_
  refine mo_init hlt2 hs2 (by omega) ⟨by omega, by omega⟩ (fun σ2 hB2 => ?_)
  have w2 : sz_ σ2 = sz_ (nw_ σ1 (.inl 1) 39) + 16 ∧ us_ σ2 = us_ (nw_ σ1 (.inl 1) 39) + 6283 := hB2.2.1
  refine g_as2 dX0_law_15 (by decide) rfl ?_
  refine g_lt (fun hltB _ => ?_)
  refine g_iconst dX0_law_16 ?_
  have f3 : Gw_ (fun _ _ => False) 1 1 σ2 (nw_ σ2 (.inr (2, 1)) 1) := Gw_.nw1
  refine g_newa (t := 2) (n := 1) (atype := .long) rfl (by decide) q261 rfl (by decide) ⟨by omega, by omega⟩ dX0_law_17 ?_
  refine g_as3 dX0_law_19 (by decide) rfl ?_
  refine g_iconst dX0_law_20 ?_
  refine g_is4 dX0_law_21 (by decide) rfl ?_
  have e1 : sz_ σ1 = sz_ σ0 + 13 := by omega
  have e2 : sz_ σ2 = sz_ σ0 + 30 := by omega
  have hge : (gH_ G).size ≤ sz_ σ0 := by omega
  have F : Gw_ (fun b _ => b = sz_ σ1) (1 + 16 + 1) (39 + 6283 + 1) σ1 (nw_ σ2 (.inr (2, 1)) 1) := ((f2.mono (fun _ _ _ q => q.elim) (Nat.le_refl _) (Nat.le_refl _)).tr hB2.1).tr (f3.mono (fun _ _ _ q => q.elim) (Nat.le_refl _) (Nat.le_refl _))
  have A : Gw_ (fun b _ => b = sz_ σ0 ∨ b = sz_ σ1) (1 + 12 + (1 + 16 + 1)) (20 + 3544 + (39 + 6283 + 1)) σ0 (nw_ σ2 (.inr (2, 1)) 1) := ((f1.mono (fun _ _ _ q => q.elim) (Nat.le_refl _) (Nat.le_refl _)).tr (hB1.1.mono (fun _ _ _ q => Or.inl q) (Nat.le_refl _) (Nat.le_refl _))).tr (F.mono (fun _ _ _ q => Or.inr q) (Nat.le_refl _) (Nat.le_refl _))
  have F' : Gw_ (xe_ (sz_ σ0)) (1 + 16 + 1) (39 + 6283 + 1) σ1 (nw_ σ2 (.inr (2, 1)) 1) := F.mono (fun b _ hb q => absurd q (by omega)) (Nat.le_refl _) (Nat.le_refl _)
  have hX := XS_.new (B := fun _ => 0) (r := iv_ σ2 (sz_ σ0 + 13 + 3)) (s := iv_ σ2 (sz_ σ0 + 13 + 5)) (U := fun _ _ => 0) (I := fun _ _ => 0) (T := default) (lo := sz_ σ0 + 31) hB1 hs1 (fun k => by rw [iv_nw, if_pos rfl]) (fun k => by rw [rv_nw, if_pos rfl]) z1 hge ((hB1.1.1 _ (by omega)).trans ((f1.1 _ (by omega)).trans hE)) h100 (by omega)
  have hM := MS_.new (B := fun _ => 0) (U := fun _ _ => 0) (I := fun _ _ => 0) hB2 hs2 (fun k => by rw [iv_nw, if_pos rfl]) z2 (by omega)
  rw [e1] at hM
  have hXF := hX.gx (t := 0) F' (fun k => (F.2.1 (sz_ σ0) k (by omega) (by omega)).1) hltA ((F.2.1 (sz_ σ0) 3 (by omega) (by omega)).2.trans hX.2.2.1.2.1.2.1) ((F.2.1 (sz_ σ0) 4 (by omega) (by omega)).2.trans hX.2.2.1.2.1.2.2)
  have hMF := hM.eq (σ' := nw_ σ2 (.inr (2, 1)) 1) (fun b b0 b1 => ⟨f3.1 b (by omega), fun k => f3.2.1 b k (by omega) (fun q => q)⟩)
  have hBF : LB_ G (sz_ σ0) (nw_ σ2 (.inr (2, 1)) 1) := ⟨hLS.ol (A.ol (ρ := sz_ σ0) (Nat.le_refl _) (fun b k q => by omega)) hge, ⟨((A.2.1 _ 2 (by omega) (by omega)).2).trans hLZ.1, ((A.2.1 _ 3 (by omega) (by omega)).2).trans hLZ.2⟩, h23, by rw [sh_nw, if_pos (by omega)], by rw [sz_nw]; omega, hge⟩
  rw [e1, e2]
  exact law_loop hst hbl hL hz hu 64 0 none none _ hXF hMF ⟨by decide, by decide⟩ hBF ⟨by decide, by decide⟩ (by omega) ⟨by rw [sz_nw]; omega, by rw [us_nw]; omega⟩
set_option maxHeartbeats 4000000 in
theorem whole_start {p : Program} {e : Env} {s : State} {m : MethodId} {below : List Frame} {meth : Method} {c : Code} (l : Launch) (hflags : l.flags = flags0) {b L : Nat} {xs : Nat → Int32} (hL : L ≤ 384) (C0 : lw_At p s m meth c b L xs) (hE : c.exceptionTable.toList = []) (hnm : meth.name = x.name) : W p l e room_1 s m #[Value.ref b] below meth c s.heap [] 0 0 (lw_Z below #[Value.ref b] s) (entryFrame m ([Value.ref b] : List Value).toArray 7) := by
  obtain ⟨hx, hb, hr, hml, hown, hts, hX, hbl, hlocks, hgv⟩ := id C0
  have hs := flat_of_before _ hgv
  have hs2 : ∀ c ∈ flatC narrow_1, c.before #[Value.ref b] s = true := fun c h => hs c (List.mem_append_right _ h)
  obtain ⟨G, σ, g1, g2, hKn, hRp, hLS, hLZ, h23, h100, hE100, hz, hu⟩ := law_start (l := l) hts hs2
  have hst : (gl_ G).stackTraces = false := by
    rw [g1]
    unfold Launch.stackTraces
    rw [hflags]
    decide +kernel
  have hrun := law_run (b := b) (L := L) (xs := xs) hst (by rw [g2]; exact hbl) hL (by rw [g2]; exact hz) (by rw [g2]; exact hu) hLS hLZ (by rw [g2]; exact h23) (by rw [g2]; exact h100) hE100
  have htb : tb_ yX0_law = [] := by unfold tb_; rw [if_neg (by decide)]
  have hl := lv_entry ([Value.ref b]) (n := 7) (Nat.le_of_ble_eq_true rfl)
  rw [lg_entry_eq]
  generalize (lg_sl ([Value.ref b]) ++ List.replicate (7 - (lg_sl ([Value.ref b])).length) Slot.unset).toArray = ls at hl ⊢
  have w := hrun p e s m #[Value.ref b] below meth c s.heap [] 0 0 ls ⟨hx, hb, hml, hr, hown, fun w h => hts w (lw_all_tbl h), hlocks, hnm, hKn, hRp, (by show 1200128 + sz_ σ = (gH_ G).size + 1200128; rw [g2, hz]; omega), (by show 5501098 + us_ σ = su_ (gH_ G) + 5501098; rw [g2, hu]; omega), hE.trans htb.symm⟩ hRp (fun q h => by cases h) hl
  rw [g1] at w
  exact fun T hT X => by
    obtain ⟨t, st, q⟩ := w T hT X
    exact ⟨t, st, q rfl hX⟩
set_option maxHeartbeats 4000000 in
theorem lw_walk (l : Launch) (hflags : l.flags = flags0) (b : Addr) (xs : List Int32) : MetFree l x (headSpec (Jvm.Cond.code x code maxLocals ret :: tables_1) room_1) (lw_P b xs) (fun _ _ _ _ _ => True) lw_Q := by
  refine MetFree.of_bodyS (code := code) (maxLocals := maxLocals) (ret := ret) (by decide) ?_ ?_
  · intro args s m h hn
    obtain ⟨meth, c, h1, h2, h3, h4, h5, h6, -, -⟩ := Cond.code_spec hn (atoms_spec (ws := Jvm.Cond.code x code maxLocals ret :: tables_1) h _ List.mem_cons_self)
    exact ⟨meth, c, h1, h2, h3, h4, h5, h6⟩
  · intro p e s m args below meth c s₁ B hml0 hP _
    obtain ⟨rfl, hx, hbd, hgv⟩ := hP
    obtain ⟨scr, harrAt, hlist, hof, hsmall⟩ := hx
    obtain ⟨hcb, hkn, -, -⟩ := State.arrayAt?_spec harrAt
    have hown : s.vm.findClass R_law = some m.cls := findClass_of_methodNamed B.named
    have hts0 : ∀ c ∈ (Jvm.Cond.code x code maxLocals ret :: tables_1), c.before #[Value.ref b] s = true := atoms_spec (ws := Jvm.Cond.code x code maxLocals ret :: tables_1) B.pre
    have hts : ∀ w ∈ lw_tbl, w.before #[Value.ref b] s = true := k2_hts_sels lw_privs (fun w hw => hts0 w (List.mem_cons_of_mem _ hw)) lw_privs_ok
    have hml : c.maxLocals = 7 := B.maxLocals_eq (hts0 _ List.mem_cons_self)
    have X₀ : Stand p l e room_1 s m #[Value.ref b] below meth c s₁ [] 0 0 := Stand.of_body B
    have hh0 : s₁.heap = s.heap := by rw [B.state]; rfl
    have hsz : scr.slots.size = xs.length := by rw [← Array.length_toList, hlist, List.length_map]
    have hval : ∀ j : Nat, j < xs.length → scr.slots[j]? = some (.int (xs.getD j 0)) := fun j hj => by
      rw [← Array.getElem?_toList, hlist]
      simp [hj]
    have htab : c.exceptionTable.toList = [] := by
      obtain ⟨meth9, c9, h1, h2, -, -, -, -, h7, -⟩ := Cond.code_spec B.named (hts0 _ List.mem_cons_self)
      cases Option.some.inj (h1.symm.trans B.method)
      cases Option.some.inj (h2.symm.trans (Stand.of_body B).code)
      rw [Array.isEmpty_iff.mp h7]
    have hbl : b < s.heap.size := (Array.getElem?_eq_some_iff.mp hcb).1
    have hX : va_X b xs.length (fun j => xs.getD j 0) s s.heap := ⟨scr, hcb, hof, hkn, hsz, hval⟩
    have K : W p l e room_1 s m #[Value.ref b] below meth c s₁.heap [] 0 0 (lw_Z below #[Value.ref b] s) (entryFrame m ([Value.ref b] : List Value).toArray 7) := by
      rw [hh0]
      exact whole_start l hflags hbd ⟨B.exec, B.bytes, B.returns, hml, hown, hts, hX, hbl, B.notSynchronized, hgv⟩ htab (name_of_methodNamed B.named B.method).1
    obtain ⟨t, a1, o, b1, b2, b3⟩ := K s₁ rfl X₀
    exact ⟨t, o, a1, b1, b2, b3⟩
theorem lw_pre_spec {args : Array Value} {s : State} (h : (Jvm.Cond.and given_1 narrow_1).before args s = true) (hr : rest_1_c.before args s = true) : ∃ (b : Addr) (xs : List Int32), lw_P b xs args s := by
  have hs := flat_of_before _ h
  have hq := flat_of_before _ hr
  have hc : (Cond.count 1).before args s = true := hs _ (by decide +kernel)
  have harr : (Cond.arrayOf (.arg 0) .int).before args s = true := hs _ (by decide +kernel)
  have hle : (Cond.le (.length (.arg 0)) (.int 384)).before args s = true := hs _ (by decide +kernel)
  have hlen : (Cond.isInt (.length (.arg 0))).before args s = true := hq _ (by decide +kernel)
  have hall : (Cond.all (.arg 0) (.isInt (.elem (.arg 0) (.index 0)))).before args s = true := hq _ (by decide +kernel)
  obtain ⟨b, xs, hb, hx⟩ := State.ints_of_pre rfl harr hlen hall
  have hsm : xs.length < 2 ^ 31 := hx.choose_spec.2.2.2
  have hev : (Term.length (.arg 0)).eval args s none [] s = some (.int xs.length.toInt32) := hx.length_eval hb
  have hv := Cond.le_ints hev (show (Term.int 384).eval args s none [] s = some (.int 384) from rfl)
  have hd : xs.length.toInt32 ≤ 384 := by
    simpa [Cond.before, Cond.holds, hv] using hle
  have hN : xs.length ≤ 384 := (Int32.ofNat_le_ofNat hsm (by decide)).mp (show Int32.ofNat xs.length ≤ Int32.ofNat 384 from hd)
  exact ⟨b, xs, Cond.one_arg hc (show args[0]? = some (.ref b) from hb), hx, hN, h⟩
theorem lw_comes (l : Launch) (hflags : l.flags = flags0) : Comes l x (Jvm.Cond.code x code maxLocals ret :: tables_1) room_1 (fun tb e args s => Calls_1 tb e args s ∧ rest_1 tb e args s ∧ Pre_1 tb e args s)
    (fun _ _ args s o t => lw_Q args s o t) := by
  intro p e ha hc hk s m args below hf hfit hheap happ hpre
  obtain ⟨b, xs, hP⟩ := lw_pre_spec hpre.2.2 hpre.2.1
  obtain ⟨k, o, h1, h2, h3, hQ⟩ := lw_walk l hflags b xs p e ha hc hk s m args below hf ((Spec.applies_iff_loose hf).mp happ).1 hP trivial
  exact ⟨k, o, h1, h2, h3, hQ⟩
theorem lw_frame {s t : State} {o : Outcome} {args : Array Value} (h : Framed s o t [] 1200128 5501098) :
    Framed s o t (fieldLocs frame_1_writes args s ++ arrayLocs frame_1_arrays args s ++ staticLocs frame_1_statics s) 1200128 5501098 := h
theorem lw_limb (L : Cond) (hL : ∀ (args : Array Value) (s t : State), L.after args s (.returned (some (.int 1))) t = true) :
    ArmFor flags0 classFile x code maxLocals ret World_1 tables_1 room_1 Calls_1 rest_1 Pre_1
      (fun tb e a s o t => postC L tb e a s o t ∧ Framed s o t (fieldLocs frame_1_writes a s ++ arrayLocs frame_1_arrays a s ++ staticLocs frame_1_statics s) 1200128 5501098) := by
  intro l hflags _ _ p e ha hc hk s m args below hf hfit hheap happ hpre
  obtain ⟨k, o, h1, h2, h3, rfl, hF⟩ := lw_comes l hflags p e ha hc hk s m args below hf hfit hheap happ hpre
  exact ⟨k, _, h1, h2, h3, hL args s _, lw_frame hF⟩
theorem i_vc : Claimed_1_1 ∧ Claimed_1_2 := ⟨lw_limb limb_1_1 (fun args s t => by simp [limb_1_1, Cond.after, Cond.holds, Cond.value]), lw_limb limb_1_2 (fun args s t => Cond.after_iff.mpr (by
  first | (rw [show limb_1_2 = Cond.eq .result (.int 1) from rfl, Cond.eq_ints (x := 1) (y := 1) rfl rfl]; simp; done) | (simp [limb_1_2, Cond.value, Term.eval]; done)))⟩
