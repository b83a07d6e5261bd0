/-! THE COMPONENT: a post is read in. Written by mod/ma2.py -/
set_option maxRecDepth 100000
section
variable {G : JG} {m X lo : Nat} {σ σ' γ : JH} {tp fa pl tr p un im : Int} {B r s : Int → Int} {U I : Int → Int → Int} {T : XT} {L : XL}
theorem PQ_.low {lo' : Nat} (h : PQ_ G σ lo T r) (hl : lo' ≤ lo) : PQ_ G σ lo' T r := by
  obtain ⟨⟨q1, q2, q3⟩, ⟨u0, v0, w0, z0⟩, ⟨u1, v1, w1, z1⟩, ⟨u2, v2, w2, z2⟩, ⟨u3, v3, w3, z3⟩, ⟨u4, v4, w4, z4⟩, qi, qw, qh, qb, qs⟩ := h
  refine ⟨⟨q1, by omega, q3⟩, ⟨u0, v0, by omega, by omega⟩, ⟨u1, v1, by omega, by omega⟩, ⟨u2, v2, by omega, by omega⟩, ⟨u3, v3, by omega, by omega⟩, ⟨u4, v4, by omega, by omega⟩, fun i i0 i1 => ?_, fun i i0 i1 => ?_, fun i i0 i1 => ?_, fun i i0 i1 => ?_, fun i i0 i1 => ?_⟩
  · obtain ⟨a1, a2, a3, a4, a5, a6⟩ := qi i i0 i1
    exact ⟨a1, by omega, a3, a4, by omega, a6⟩
  · obtain ⟨a1, a2, a3⟩ := qw i i0 i1
    exact ⟨a1, by omega, a3⟩
  · obtain ⟨a1, a2, a3⟩ := qh i i0 i1
    exact ⟨a1, by omega, a3⟩
  · obtain ⟨a1, a2, a3⟩ := qb i i0 i1
    exact ⟨a1, by omega, a3⟩
  · obtain ⟨a1, a2, a3⟩ := qs i i0 i1
    exact ⟨a1, by omega, a3⟩
theorem xo_post  {n : Int} {Q : Int → JH → Prop} (hS : XS_ G X lo σ tp fa pl tr p un im B r s U I T L) (hlo : lo ≤ sz_ σ) (hL : LS_ G σ) (hZ : LZ_ G σ) (hk23 : gK_ G 23 < (gH_ G).size) (hRm : MR_ G m γ) (hLm : LS_ G γ) (hBm : ∀ k, 0 ≤ k → k < tp → iv_ γ (m + 1) k = B k ∧ 0 ≤ B k ∧ B k ≤ 255) (hn : -2147483648 ≤ n ∧ n < 2147483648) (hrm : sz_ σ + 8400 ≤ lc_ G ∧ us_ σ + 60000 ≤ ls_ G)
    (hQ2 : ¬ (0 ≤ n ∧ n ≤ tp) → ∀ σ', XS_ G X lo σ' tp fa pl 2 p un im B r s U I T L → Gw_ (xw_ X lo) 0 0 σ σ' → Q (-1) σ')
    (hQ4 : (0 ≤ n ∧ n ≤ tp) → iv_ (pe_ m (ini_ m γ n)) m 13 = 1 → ∀ σ', XS_ G X lo σ' 0 (iv_ (pe_ m (ini_ m γ n)) m 9) (iv_ (pe_ m (ini_ m γ n)) m 10) 4 p un im B r s U I T L → Gw_ (xw_ X lo) 8400 60000 σ σ' → Q (-1) σ')
    (hQ0 : (0 ≤ n ∧ n ≤ tp) → iv_ (pe_ m (ini_ m γ n)) m 13 = 0 → ∀ T' L' σ', RW_ (iv_ (pe_ m (ini_ m γ n)) (m + 4)) → XS_ G X lo σ' 0 0 (iv_ (pe_ m (ini_ m γ n)) m 10) 0 1 0 0 B (iv_ (pe_ m (ini_ m γ n)) (m + 4)) (ds_ (iv_ (pe_ m (ini_ m γ n)) (m + 4))) U I T' L' → Gw_ (xw_ X lo) 8400 60000 σ σ' → Q (iv_ (pe_ m (ini_ m γ n)) (m + 4) 4) σ') : CallI_ G 17 yX1_post cX1_post 4 (some .int) [A_ (some X), I_ n] σ Q := by
  refine call_go [some (A_ (some X)), some (I_ n), none, none] (by decide) (Nat.le_of_ble_eq_true rfl) rfl ?_
  refine g_lt (fun hlt hgz => ?_)
  have hX0 := hS.R
  have hXs := hX0.sh
  have hXg := hX0.ge
  have hl := hX0.lt hlt
  have htp := hS.2.2.1.1
  have hk100 := hX0.k100
  have hlo13 := hS.2.1
  refine g_il1 dX1_post_0 ?_
  refine g_iconst dX1_post_1 ?_
  refine g_al0 dX1_post_2 ?_
  refine f_getv 1 fk_X1_76 rfl hXs (fun _ _ => rfl) htp.1 dX1_post_3 ?_
  refine g_callS3I (d' := 2) lk_X1_79 (rm_lt (by decide) (by decide)) (Nat.le_of_ble_eq_true rfl) dX1_post_6 ?_
  refine xo_in (by omega) (by decide) (by omega) (fun z6 hz6 => ?_)
  refine g_if_ne (tgt := 18) dX1_post_9 (by decide) (by omega) (fun h9 => ?_) (fun h9 => ?_)
  · refine g_new (ci := 3) nq_X1_83 ⟨_, rfl⟩ (by omega) dX1_post_18 ?_
    refine g_lt (fun hlta hgza => ?_)
    refine g_dup dX1_post_21 rfl ?_
    refine g_new (ci := 4) nq_X1_85 ⟨_, rfl⟩ (by rw [sz_nw, us_nw]; omega) dX1_post_22 ?_
    have ea : sz_ (nw_ σ (.inl 3) 5) = sz_ σ + 1 := rfl
    rw [ea]
    have hza : sz_ (nw_ (nw_ σ (.inl 3) 5) (.inl 4) 3) = sz_ σ + 2 ∧ us_ (nw_ (nw_ σ (.inl 3) 5) (.inl 4) 3) = us_ σ + 8 := ⟨rfl, rfl⟩
    have ga : Gw_ (fun b _ => sz_ σ ≤ b) 2 8 σ (nw_ (nw_ σ (.inl 3) 5) (.inl 4) 3) := Gw_.rf.nw.nw
    have s3 : sh_ (nw_ (nw_ σ (.inl 3) 5) (.inl 4) 3) (sz_ σ) = some (.inl 3) := by rw [sh_nw, if_neg (by rw [sz_nw]; omega), sh_nw, if_pos rfl]
    have s4 : sh_ (nw_ (nw_ σ (.inl 3) 5) (.inl 4) 3) (sz_ σ + 1) = some (.inl 4) := by rw [sh_nw, if_pos (by rw [sz_nw])]
    have v3 : ∀ k, iv_ (nw_ (nw_ σ (.inl 3) 5) (.inl 4) 3) (sz_ σ) k = 0 := fun k => by rw [iv_nw, if_neg (by rw [sz_nw]; omega), iv_nw, if_pos rfl]
    have v4 : ∀ k, iv_ (nw_ (nw_ σ (.inl 3) 5) (.inl 4) 3) (sz_ σ + 1) k = 0 := fun k => by rw [iv_nw, if_pos (by rw [sz_nw])]
    have hXs : sh_ (nw_ (nw_ σ (.inl 3) 5) (.inl 4) 3) X = some (.inl 0) := (ga.1 X (by omega)).trans hX0.sh
    have hXa0 : rv_ (nw_ (nw_ σ (.inl 3) 5) (.inl 4) 3) X 0 = some (X + 1) := (ga.2.1 X 0 (by omega) (by omega)).1.trans hX0.f0
    obtain ⟨ρ, hρ⟩ : ∃ ρ, ρ = sz_ σ := ⟨_, rfl⟩
    rw [← hρ] at s3 s4 v3 v4 hza ga
    rw [← hρ]
    generalize nw_ (nw_ σ (.inl 3) 5) (.inl 4) 3 = σa at hza ga s3 s4 v3 v4 hXs hXa0 ⊢
    have hρl : lo ≤ ρ := by omega
    have hρg : (gH_ G).size ≤ ρ := by omega
    refine g_dup dX1_post_25 rfl ?_
    refine g_al0 dX1_post_26 ?_
    refine f_getA 0 fk_X1_9 rfl hXs (fun _ _ => rfl) hXa0 dX1_post_27 ?_
    refine g_il1 dX1_post_30 ?_
    refine g_callI2 (d' := 2) lk_X1_87 (rm_lt (by decide) (by decide)) (Nat.le_of_ble_eq_true rfl) dX1_post_31 ?_
    refine xt_init s4 (by omega) ?_
    have gb : Gw_ (fun b _ => ρ ≤ b) 2 8 σ (pi_ (pr_ σa (ρ + 1) 0 (some (X + 1))) (ρ + 1) 1 n) := (ga.pr (fun q => by omega)).pi (fun q => by omega)
    have hzb : sz_ (pi_ (pr_ σa (ρ + 1) 0 (some (X + 1))) (ρ + 1) 1 n) = ρ + 2 ∧ us_ (pi_ (pr_ σa (ρ + 1) 0 (some (X + 1))) (ρ + 1) 1 n) = us_ σ + 8 := hza
    have s3b : sh_ (pi_ (pr_ σa (ρ + 1) 0 (some (X + 1))) (ρ + 1) 1 n) ρ = some (.inl 3) := s3
    have v3b : iv_ (pi_ (pr_ σa (ρ + 1) 0 (some (X + 1))) (ρ + 1) 1 n) ρ 3 = 0 := by rw [iv_pi, if_neg (by omega), iv_pr]; exact v3 3
    have t0 : rv_ (pi_ (pr_ σa (ρ + 1) 0 (some (X + 1))) (ρ + 1) 1 n) (ρ + 1) 0 = some (X + 1) := by rw [rv_pi, rv_pr, if_pos ⟨rfl, rfl⟩]
    have t1 : iv_ (pi_ (pr_ σa (ρ + 1) 0 (some (X + 1))) (ρ + 1) 1 n) (ρ + 1) 1 = n := by rw [iv_pi, if_pos ⟨rfl, rfl⟩]
    have t2 : iv_ (pi_ (pr_ σa (ρ + 1) 0 (some (X + 1))) (ρ + 1) 1 n) (ρ + 1) 2 = 0 := by rw [iv_pi, if_neg (by omega), iv_pr]; exact v4 2
    have t4 : sh_ (pi_ (pr_ σa (ρ + 1) 0 (some (X + 1))) (ρ + 1) 1 n) (ρ + 1) = some (.inl 4) := s4
    generalize pi_ (pr_ σa (ρ + 1) 0 (some (X + 1))) (ρ + 1) 1 n = σb at gb hzb s3b v3b t0 t1 t2 t4 ⊢
    have hob : OL_ ρ σ σb := gb.ol (by omega) (fun b k q => q)
    obtain ⟨i1, i2, i3, i4, i5⟩ := ini_RB (n := n) hRm hLm (by omega) (fun k k0 k1 => by have := hBm k k0 (by omega); omega)
    have ie := (ini_f (m := m) γ n).2.2.2.2
    have ie5 : iv_ (ini_ m γ n) m 5 = 0 := by rw [ie, if_pos ⟨rfl, rfl⟩]
    have ie3 : iv_ (ini_ m γ n) m 3 = n := by rw [ie, if_neg (by omega), if_pos ⟨rfl, rfl⟩]
    have ie1 : ∀ k, iv_ (ini_ m γ n) (m + 1) k = iv_ γ (m + 1) k := fun k => by rw [ie, if_neg (by omega), if_neg (by omega), if_neg (by omega), if_neg (by omega), if_neg (by omega), if_neg (by omega)]
    have ie4 : ∀ k, 0 ≤ k → k < 363 → iv_ (ini_ m γ n) (m + 4) k = 0 := fun k k0 k1 => by rw [ie, if_neg (by omega), if_neg (by omega), if_pos ⟨rfl, k0, k1⟩]
    have hTS : TS_ G m X σb (ini_ m γ n) (ρ + 1) (iv_ (ini_ m γ n) m 5) := ⟨t4, by omega, t0, by rw [ie3]; exact t1, by rw [ie5]; exact t2, by rw [ie5, ie3]; omega, (hob.1 _ (by omega)).1.trans hX0.a0, fun k k0 k1 => by
      rw [ie3] at k1
      rw [ie1, (hBm k k0 (by omega)).1, ((hob.1 (X + 1) (by omega)).2 k).2]
      exact htp.2.2 k k0 (by omega), i1, by omega⟩
    have hEb : sh_ σb (gK_ G 100) = some (.inr (3, 0)) := (hob.1 _ (by omega)).1.trans hS.2.2.1.2.2
    have hLb := hL.ol hob hρg
    refine g_callI1 (d' := 11) lk_X1_90 (rm_lt (by decide) (by decide)) (Nat.le_of_ble_eq_true rfl) dX1_post_34 ?_
    refine xr_init (c := (lc_ G : Int) - ρ - 8102) (d := (ls_ G : Int) - us_ σ - 59308) s3b hρg (by omega) hzb.1 hTS v3b i4 i3.2.1 i1 i2 ie4 hLb hEb hk100 (by omega) (by omega) (fun σ2 o2 T2 hR hTD2 hol2 => ?_)
    have hK : KX_ X ρ σ σ2 := (KX_.rf.ol hob (by omega)).ol hol2 (by omega)
    have hXs : sh_ σ2 X = some (.inl 0) := (hK.1 X (by omega)).trans hX0.sh
    refine g_as2 dX1_post_37 (by decide) rfl ?_
    refine g_al0 dX1_post_38 ?_
    refine g_iconst dX1_post_39 ?_
    refine f_putI 1 fk_X1_76 rfl (nf_ rfl rfl) hXs hXg rfl dX1_post_40 ?_
    have hR := hR.pX (k := 1) (x := 0) hXs
    have hK := hK.pi (k := 1) (x := 0) (by decide)
    have hv1 : iv_ (pi_ σ2 X 1 0) X 1 = 0 := by rw [iv_pi, if_pos ⟨rfl, rfl⟩]
    generalize pi_ σ2 X 1 0 = σ2' at hR hK hv1 ⊢
    refine g_al2 dX1_post_43 ?_
    refine g_callV0A (d' := 16) lk_X1_93 hR.h3 rfl (rm_lt (by decide) (by decide)) (Nat.le_of_ble_eq_true rfl) dX1_post_44 ?_
    refine xr_read hR (by omega) i3 i4 i5 (by rw [(nxt_f0 _).f4, (nxt_f0 _).f4, ie4 9 (by decide) (by decide), ie4 0 (by decide) (by decide)]) hTD2 ((hK.1 _ (by omega)).trans hS.2.2.1.2.2) ⟨(hK.2.1 _ 2 (by omega) (fun q => by omega)).2.trans hZ.1, (hK.2.1 _ 3 (by omega) (fun q => by omega)).2.trans hZ.2⟩ hk23 (rl_m0 i3) (fun rr σ3 o3 T3 hR hTD3 hol3 hrr => ?_)
    have hpe : pe_ m (ini_ m γ n) = pe2_ m (pe1_ m (rls_ m 1001 (rl_ m (nxt_ m (ini_ m γ n))))) := rfl
    have hWf := pe_ok i3 i4 i5
    rw [← hpe] at hR hrr
    have hK := hK.ol hol3 (by omega)
    have hv1 : iv_ σ3 X 1 = 0 := ((hol3.1 X (by omega)).2 1).2.trans hv1
    have hfl0 := hR.2.2.1
    generalize pe_ m (ini_ m γ n) = γf at hR hrr hWf hfl0 hQ4 hQ0
    have hXs : sh_ σ3 X = some (.inl 0) := (hK.1 X (by omega)).trans hX0.sh
    have hrm3 := hR.rm0
    refine g_lt (fun hlt3 hgz3 => ?_)
    refine g_as3 dX1_post_47 (by decide) rfl ?_
    refine g_al0 dX1_post_48 ?_
    refine g_al2 dX1_post_49 ?_
    refine g_getN (ci := 3) (k := 3) (List.Mem.head _) rfl (by decide) rfl hR.h3 (fun _ _ => rfl) dX1_post_50 ?_
    refine f_putI 2 fk_X1_100 rfl (nf_ rfl rfl) hXs hXg rfl dX1_post_53 ?_
    obtain ⟨fa3, hfa3⟩ : ∃ x, x = iv_ σ3 ρ ((3 : Nat) : Int) := ⟨_, rfl⟩
    rw [← hfa3]
    have hfa3 : fa3 = iv_ σ3 ρ 3 := hfa3
    have hXs : sh_ (pi_ σ3 X 2 fa3) X = some (.inl 0) := hXs
    have hRs : sh_ (pi_ (pi_ σ3 X 2 fa3) X 4 4) ρ = some (.inl 3) := hR.h3
    rcases hrr with ⟨q13, hrr⟩ | ⟨q13, hrr⟩
    · subst hrr
      have hfl : fa3 = 0 := by omega
      have hK4 : KX_ X ρ σ (pi_ σ3 X 2 fa3) := hK.pi (by decide)
      have hR4 := hR.pX (k := 2) (x := fa3) hXs
      have hq := (hR4.P q13).1
      have hW := hWf q13
      refine g_al3 dX1_post_56 ?_
      refine g_ifnonnull (tgt := 75) dX1_post_57 (by decide) (fun _ h57 => ?_) (fun h57 => ?_)
      · refine g_al0 dX1_post_75 ?_
        refine g_al3 dX1_post_76 ?_
        refine f_putA 5 fk_X1_104 rfl (nf_ rfl rfl) hXs hXg (Or.inl ⟨_, rfl⟩) dX1_post_77 ?_
        have ePT : xP_ T3 = ρ + 2 := hR.1.2.2.2.2.2.2
        have nbX : ∀ b, PA_ T3 (iv_ γf (m + 4)) b → b ≠ X := fun b hb q => by
          rcases (hq.shp hb).1 with ⟨ci, c1, c2⟩ | ⟨cap, c1, -⟩ | ⟨i, n, -, -, c1⟩
          · rw [q, hXs] at c1; cases c1; omega
          · rw [q, hXs] at c1; cases c1
          · rw [q, hXs] at c1; cases c1
        have hq5 : PQ_ G (pr_ (pi_ σ3 X 2 fa3) X 5 (some (ρ + 2))) (ρ + 2) T3 (iv_ γf (m + 4)) := hq.pres fun b hb => ⟨rfl, fun k => ⟨by rw [rv_pr, if_neg (fun w => nbX b hb w.1)], rfl⟩⟩
        have hXs5 : sh_ (pr_ (pi_ σ3 X 2 fa3) X 5 (some (ρ + 2))) X = some (.inl 0) := hXs
        have hr5 : ∀ k, k ≠ 5 → k ≠ 6 → rv_ (pr_ (pi_ σ3 X 2 fa3) X 5 (some (ρ + 2))) X k = rv_ σ X k := fun k k5 k6 => by rw [rv_pr, if_neg (fun w => k5 w.2)]; exact hK4.2.2.1 k
        have hx5 : rv_ (pr_ (pi_ σ3 X 2 fa3) X 5 (some (ρ + 2))) X 5 = some (xP_ T3) := by rw [rv_pr, if_pos ⟨rfl, rfl⟩, ePT]
        have hi5 : ∀ k, iv_ (pr_ (pi_ σ3 X 2 fa3) X 5 (some (ρ + 2))) X k = iv_ (pi_ σ3 X 2 fa3) X k := fun k => rfl
        have G5 : Gw_ (fun b k => b = X ∨ ρ ≤ b) 8300 59500 σ (pr_ (pi_ σ3 X 2 fa3) X 5 (some (ρ + 2))) := ((hK4.gw (dc := 8300) (du := 59500) hρ ⟨(show sz_ σ3 ≤ _ by omega), (show us_ σ3 ≤ _ by omega)⟩).mono (fun b k _ q => Or.inl q.1) (Nat.le_refl _) (Nat.le_refl _)).pr (fun _ => Or.inl rfl)
        have hz5 : sz_ (pr_ (pi_ σ3 X 2 fa3) X 5 (some (ρ + 2))) ≤ ρ + 8300 ∧ us_ (pr_ (pi_ σ3 X 2 fa3) X 5 (some (ρ + 2))) ≤ us_ σ + 59500 ∧ ρ + 2 < sz_ (pr_ (pi_ σ3 X 2 fa3) X 5 (some (ρ + 2))) := ⟨(show sz_ σ3 ≤ _ by omega), (show us_ σ3 ≤ _ by omega), (show ρ + 2 < sz_ σ3 by have := hlt3 _ _ hq.1.1; rw [ePT] at this; exact this)⟩
        generalize pr_ (pi_ σ3 X 2 fa3) X 5 (some (ρ + 2)) = σ5 at hq5 hXs5 hr5 hx5 hi5 G5 hz5 ⊢
        refine g_lt (fun hlt5 hgz5 => ?_)
        refine g_al0 dX1_post_80 ?_
        refine g_new (ci := 17) nq_X1_108 ⟨_, rfl⟩ (by omega) dX1_post_81 ?_
        refine g_lt (fun hltn hgzn => ?_)
        refine g_dup dX1_post_84 rfl ?_
        refine g_callIN0 (d' := 2) lk_X1_110 (rm_lt (by decide) (by decide)) (Nat.le_of_ble_eq_true rfl) dX1_post_85 ?_
        refine xd_init hltn (by rw [sh_nw, if_pos rfl]) hgz5 (by rw [sz_nw, us_nw]; omega) (fun σ6 hBO => ?_)
        have hdn := xd_new hBO
        obtain ⟨hDA6, g6, hz6, hs6⟩ := hdn
        clear hBO
        have hq6 : PQ_ G σ6 (ρ + 2) T3 (iv_ γf (m + 4)) := hq5.gw g6 hlt5 (fun _ _ q => q.elim) hk100
        have hl5 := hlt5 _ _ hXs5
        have hXs : sh_ σ6 X = some (.inl 0) := (g6.1 X hl5).trans hXs5
        have hr6 : ∀ k, k ≠ 5 → k ≠ 6 → rv_ σ6 X k = rv_ σ X k := fun k k5 k6 => (g6.2.1 X k hl5 (fun q => q)).1.trans (hr5 k k5 k6)
        have hx6 : rv_ σ6 X 5 = some (xP_ T3) := (g6.2.1 X 5 hl5 (fun q => q)).1.trans hx5
        have hi6 : ∀ k, iv_ σ6 X k = iv_ (pi_ σ3 X 2 fa3) X k := fun k => (g6.2.1 X k hl5 (fun q => q)).2.trans (hi5 k)
        have G6 : Gw_ (fun b k => b = X ∨ ρ ≤ b) 8306 59581 σ σ6 := G5.tr (g6.mono (fun _ _ _ q => q.elim) (Nat.le_refl _) (Nat.le_refl _))
        have hDge : ρ + 2 < sz_ σ5 := hz5.2.2
        have hDg : (gH_ G).size ≤ sz_ σ5 := hgz5
        have hxS : ∀ i, 0 ≤ i → i < iv_ γf (m + 4) 4 → xS_ T3 i < sz_ σ5 := fun i i0 i1 => hlt5 _ _ (hq5.isl i0 i1).2.2.2.1
        generalize sz_ σ5 = D at hDA6 hz6 hs6 hDge hDg hxS ⊢
        clear g6 hz5 hq5 hXs5 hr5 hx5 hi5 G5 hltn hgzn
        refine f_putA 6 fk_X1_111 rfl (nf_ rfl rfl) hXs hXg (Or.inl ⟨_, rfl⟩) dX1_post_88 ?_
        have hDX : D ≠ X := by omega
        have hDA7 : DA_ (pr_ σ6 X 6 (some D)) D := hDA6.to (fun _ _ _ => rfl) (fun k => by rw [rv_pr, if_neg (fun w => hDX w.1)])
        have hDs := hDA7.1
        have hq : PQ_ G (pr_ σ6 X 6 (some D)) (ρ + 2) T3 (iv_ γf (m + 4)) := hq6.pres fun b hb => ⟨rfl, fun k => ⟨by rw [rv_pr, if_neg (fun w => nbX b hb w.1)], rfl⟩⟩
        have hX5 : rv_ (pr_ σ6 X 6 (some D)) X 5 = some (xP_ T3) := by rw [rv_pr, if_neg (by omega)]; exact hx6
        have hX6 : rv_ (pr_ σ6 X 6 (some D)) X 6 = some D := by rw [rv_pr, if_pos ⟨rfl, rfl⟩]
        have hr7 : ∀ k, k ≠ 5 → k ≠ 6 → rv_ (pr_ σ6 X 6 (some D)) X k = rv_ σ X k := fun k k5 k6 => by rw [rv_pr, if_neg (fun w => k6 w.2)]; exact hr6 k k5 k6
        have hz7 : ∀ b k, D ≤ b → b ≤ D + 5 → iv_ (pr_ σ6 X 6 (some D)) b k = 0 := fun b k b0 b1 => hz6 b b0 b1 k
        have hi7 : ∀ k, iv_ (pr_ σ6 X 6 (some D)) X k = iv_ (pi_ σ3 X 2 fa3) X k := hi6
        have G7 : Gw_ (fun b k => b = X ∨ ρ ≤ b) 8306 59581 σ (pr_ σ6 X 6 (some D)) := G6.pr (fun _ => Or.inl rfl)
        have hXs : sh_ (pr_ σ6 X 6 (some D)) X = some (.inl 0) := hXs
        generalize pr_ σ6 X 6 (some D) = σ7 at *
        refine g_al0 dX1_post_91 ?_
        refine f_getA 6 fk_X1_111 rfl hXs (fun _ _ => rfl) hX6 dX1_post_92 ?_
        refine g_al0 dX1_post_95 ?_
        refine f_getA 5 fk_X1_104 rfl hXs (fun _ _ => rfl) hX5 dX1_post_96 ?_
        refine g_callV1V (d' := 6) lk_X1_115 hDs rfl (rm_lt (by decide) (by decide)) (Nat.le_of_ble_eq_true rfl) dX1_post_99 ?_
        refine xd_begins (lo' := lo) hq hW hDA7 hDg hxS hz7 (by omega) (fun σ8 hDQ hF8 => ?_)
        have hq := hq.dF hxS hDA7 hF8
        have hXs : sh_ σ8 X = some (.inl 0) := (hF8.1 X).trans hXs
        have hr8 : ∀ k, k ≠ 5 → k ≠ 6 → rv_ σ8 X k = rv_ σ X k := fun k k5 k6 => (hF8.2.1 X k).trans (hr7 k k5 k6)
        have hX5 := (hF8.2.1 X 5).trans hX5
        have hX6 := (hF8.2.1 X 6).trans hX6
        have hi8 : ∀ k, iv_ σ8 X k = iv_ (pi_ σ3 X 2 fa3) X k := fun k => (hF8.2.2.2.2 X k (fun q => by unfold dF_ at q; omega)).trans (hi7 k)
        have G8 : Gw_ (fun b k => b = X ∨ ρ ≤ b) 8306 59581 σ σ8 := G7.tr (hF8.gw.mono (fun b k _ q => Or.inr (by unfold dF_ at q; omega)) (Nat.le_refl _) (Nat.le_refl _))
        have hX7 : rv_ σ8 X 7 = some (X + 2) := (hr8 7 (by decide) (by decide)).trans hX0.f7
        have hne1 : ∀ k : Int, ¬ (L.1.1 = X ∨ ρ ≤ L.1.1) := fun _ q => by
          have h1 := hS.2.2.2.2.2.1.1.2.2.2.1
          rcases q with q | q
          · rw [q, hX0.sh] at h1; cases h1
          · have := hlt _ _ h1; omega
        have hne2 : ∀ k : Int, ¬ (L.2.1 = X ∨ ρ ≤ L.2.1) := fun _ q => by
          have h1 := hS.2.2.2.2.2.2.1.1.2.2.2.1
          rcases q with q | q
          · rw [q, hX0.sh] at h1; cases h1
          · have := hlt _ _ h1; omega
        have hLp := hS.2.2.2.2.2.1.1.gw G8 hlt (fun _ q => by omega) (fun k => hne1 k)
        have hLi := hS.2.2.2.2.2.2.1.1.gw G8 hlt (fun _ q => by omega) (fun k => hne2 k)
        have n1 := hne1 0
        have n2 := hne2 0
        have s1 := hLp.2.2.2.1
        have s2 := hLi.2.2.2.1
        have a1 := hLp.1
        have a2 := hLi.1
        have x12 : (gH_ G).size ≤ L.1.1 → L.1.1 ≠ L.2.1 := hS.2.2.2.2.2.2.2.1
        have y1 : L.1.1 ≠ X + 3 := fun q => by rw [q, a2] at s1; cases s1
        have y2 : L.2.1 ≠ X + 2 := fun q => by rw [q, a1] at s2; cases s2
        have hlo1 := hS.2.2.2.2.2.1.2.1
        have hlo2 := hS.2.2.2.2.2.2.1.2.1
        refine g_lt (fun hlt8 hgz8 => ?_)
        refine g_al0 dX1_post_102 ?_
        refine f_getA 7 fk_X1_20 rfl hXs (fun _ _ => rfl) hX7 dX1_post_103 ?_
        refine g_callV0V (d' := 2) lk_X1_119 hLp.1 rfl (rm_lt (by decide) (by decide)) (Nat.le_of_ble_eq_true rfl) dX1_post_106 ?_
        refine js_clear hLp (fun σ9 hLp9 g9 => ?_)
        have l8 := hlt8 _ _ hXs
        have hXs : sh_ σ9 X = some (.inl 0) := (g9.1 X l8).trans hXs
        have e9 := fun k => g9.2.1 X k l8 (fun q => by omega)
        have hr9 : ∀ k, k ≠ 5 → k ≠ 6 → rv_ σ9 X k = rv_ σ X k := fun k k5 k6 => (e9 k).1.trans (hr8 k k5 k6)
        have hX5 := (e9 5).1.trans hX5
        have hX6 := (e9 6).1.trans hX6
        have hi9 : ∀ k, iv_ σ9 X k = iv_ (pi_ σ3 X 2 fa3) X k := fun k => (e9 k).2.trans (hi8 k)
        have hLi := hLi.gw g9 hlt8 (fun _ q => by omega) (fun _ q => by rcases q with q | q; (exact y2 q); (exact x12 q.2 q.1.symm))
        have hq := hq.gw g9 hlt8 (fun b k q => by omega) hk100
        have hDQ := hDQ.gwn g9 hlt8 (fun b k b0 b1 q => by omega)
        have hX8 : rv_ σ9 X 8 = some (X + 3) := (hr9 8 (by decide) (by decide)).trans hX0.f8
        have G8' : Gw_ (fun b _ => (X ≤ b ∧ b ≤ X + 12) ∨ lo ≤ b) 8306 59581 σ σ8 := G8.mono (fun b k _ q => by omega) (Nat.le_refl _) (Nat.le_refl _)
        have G9 := G8'.tr (g9.mono (S' := fun b k => (X ≤ b ∧ b ≤ X + 12) ∨ lo ≤ b) (fun b k _ q => by omega) (Nat.le_refl _) (Nat.le_refl _))
        refine g_lt (fun hlt9 hgz9 => ?_)
        refine g_al0 dX1_post_109 ?_
        refine f_getA 8 fk_X1_24 rfl hXs (fun _ _ => rfl) hX8 dX1_post_110 ?_
        refine g_callV0V (d' := 2) lk_X1_119 hLi.1 rfl (rm_lt (by decide) (by decide)) (Nat.le_of_ble_eq_true rfl) dX1_post_113 ?_
        refine js_clear hLi (fun σ10 hLi10 g10 => ?_)
        have l9 := hlt9 _ _ hXs
        have hXs : sh_ σ10 X = some (.inl 0) := (g10.1 X l9).trans hXs
        have e10 := fun k => g10.2.1 X k l9 (fun q => by omega)
        have hr10 : ∀ k, k ≠ 5 → k ≠ 6 → rv_ σ10 X k = rv_ σ X k := fun k k5 k6 => (e10 k).1.trans (hr9 k k5 k6)
        have hX5 := (e10 5).1.trans hX5
        have hX6 := (e10 6).1.trans hX6
        have hi10 : ∀ k, iv_ σ10 X k = iv_ (pi_ σ3 X 2 fa3) X k := fun k => (e10 k).2.trans (hi9 k)
        have hLp10 := hLp9.gw g10 hlt9 (fun _ q => by omega) (fun _ q => by rcases q with q | q; (exact y1 q); (exact x12 (by omega) q.1))
        have hq := hq.gw g10 hlt9 (fun b k q => by omega) hk100
        have hDQ := hDQ.gwn g10 hlt9 (fun b k b0 b1 q => by omega)
        have G10 := G9.tr (g10.mono (S' := fun b k => (X ≤ b ∧ b ≤ X + 12) ∨ lo ≤ b) (fun b k _ q => by omega) (Nat.le_refl _) (Nat.le_refl _))
        refine g_lt (fun hlt10 hgz10 => ?_)
        refine g_al0 dX1_post_116 ?_
        refine g_al0 dX1_post_117 ?_
        refine f_getA 5 fk_X1_104 rfl hXs (fun _ _ => rfl) hX5 dX1_post_118 ?_
        refine f_getA 4 fk_X1_122 rfl hq.1.1 (fun _ _ => rfl) hq.f4 dX1_post_121 ?_
        refine g_callV0I (d' := 2) lk_X1_127 hq.l0.1 rfl (rm_lt (by decide) (by decide)) (Nat.le_of_ble_eq_true rfl) dX1_post_124 ?_
        refine js_size hq.l0 ?_
        refine g_callV1I (d' := 2) lk_X1_69 hXs rfl (rm_lt (by decide) (by decide)) (Nat.le_of_ble_eq_true rfl) dX1_post_127 ?_
        have G10sh : ∀ b, b < ρ → sh_ σ10 b = sh_ σ b := fun b hb => G10.1 b (by omega)
        have hR10 : XR_ G X σ10 := hX0.to (fun b hb => G10sh b (by omega)) hr10
        refine xo_well hR10 ?_
        exact g_iret rfl dX1_post_130 ⟨_, rfl, by
          have l10 := hlt10 _ _ hXs
          have g11 : Gw_ (fun b k => b = X ∧ 3 ≤ k ∧ k ≤ 4) 0 0 σ10 (pi_ (pi_ σ10 X 4 0) X 3 (-1)) := (Gw_.rf.pi (fun _ => ⟨rfl, by decide, by decide⟩)).pi (fun _ => ⟨rfl, by decide, by decide⟩)
          have hq11 : PQ_ G (pi_ (pi_ σ10 X 4 0) X 3 (-1)) (X + 13) (xT_ T3 D) (iv_ γf (m + 4)) := (hq.gw g11 hlt10 (fun b k q => by omega) hk100).low (by omega)
          have hR11 : XR_ G X (pi_ (pi_ σ10 X 4 0) X 3 (-1)) := hR10.to (fun _ _ => rfl) (fun _ _ _ => rfl)
          have hDQ11 := hDQ.gwn g11 hlt10 (fun b k b0 b1 q => by omega)
          have hLp11 := hLp10.gw g11 hlt10 (fun _ q => by omega) (fun _ q => by omega)
          have hLi11 := hLi10.gw g11 hlt10 (fun _ q => by omega) (fun _ q => by omega)
          have hiX : ∀ k, k ≠ 3 → k ≠ 4 → iv_ (pi_ (pi_ σ10 X 4 0) X 3 (-1)) X k = iv_ (pi_ σ3 X 2 fa3) X k := fun k k3 k4 => by rw [iv_pi, if_neg (fun q => k3 q.2), iv_pi, if_neg (fun q => k4 q.2)]; exact hi10 k
          have hXF : XF_ G X (pi_ (pi_ σ10 X 4 0) X 3 (-1)) 0 0 (iv_ γf m 10) 0 B := ⟨⟨by rw [hiX 1 (by decide) (by decide), iv_pi, if_neg (by omega)]; exact hv1, ⟨by decide, by decide⟩, fun k k0 k1 => by omega⟩, ⟨by rw [hiX 2 (by decide) (by decide), iv_pi, if_pos ⟨rfl, rfl⟩]; exact hfl, by rw [iv_pi, if_pos ⟨rfl, rfl⟩]; rfl, by rw [iv_pi, if_neg (by omega), iv_pi, if_pos ⟨rfl, rfl⟩]⟩, (G10sh _ (by omega)).trans hS.2.2.1.2.2⟩
          have nE : ∀ e, e < ρ → (gH_ G).size ≤ e → ∀ j, j < 5 → e ≠ xE_ (xT_ T3 D) j := fun e he hg j hj q => by
            obtain ⟨n, -, -, w⟩ := hq11.ls hj
            obtain ⟨n', -, -, w'⟩ := hq.ls hj
            have q : e = xE_ T3 j := q
            omega
          exact hQ0 (by omega) q13 (xT_ T3 D) L _ hW (XS_.mk1 ⟨hR11, hX5, hq11, hXF⟩ hS.2.1 hX6 ⟨hDQ11, hxS⟩ ⟨hLp11, hlo1, fun k k0 k1 => by omega, fun _ hg => nE _ (by omega) hg⟩ ⟨hLi11, hlo2, fun k k0 k1 => by omega, fun _ hg => nE _ (by omega) hg⟩ x12 ⟨fun k k0 k1 => by omega, fun k k0 k1 => by omega, fun k j k0 k1 k2 => by omega, fun k j k0 k1 => by omega⟩) ((G10.tr (g11.mono (fun b k _ q => by omega) (Nat.le_refl _) (Nat.le_refl _))).mono (fun _ _ _ q => q) (by omega) (by omega))⟩
      cases h57
    · subst hrr
      have hfl : fa3 = iv_ γf m 9 ∧ iv_ σ3 ρ 4 = iv_ γf m 10 ∧ True := by
        rcases hfl0 with z | z
        · omega
        · exact ⟨hfa3.trans z.2.1, z.2.2.1, trivial⟩
      refine g_al3 dX1_post_56 ?_
      refine g_ifnonnull (tgt := 75) dX1_post_57 (by decide) (fun _ h57 => ?_) (fun h57 => ?_)
      · cases h57
      refine g_al0 dX1_post_60 ?_
      refine g_iconst dX1_post_61 ?_
      refine f_putI 4 fk_X1_62 rfl (nf_ rfl rfl) hXs hXg rfl dX1_post_62 ?_
      have hXs : sh_ (pi_ (pi_ σ3 X 2 fa3) X 4 4) X = some (.inl 0) := hXs
      refine g_al0 dX1_post_65 ?_
      refine g_al2 dX1_post_66 ?_
      refine g_getN (ci := 3) (k := 4) (List.Mem.tail _ (List.Mem.head _)) rfl (by decide) rfl hRs (fun _ _ => rfl) dX1_post_67 ?_
      refine f_putI 3 fk_X1_13 rfl (nf_ rfl rfl) hXs hXg rfl dX1_post_70 ?_
      refine g_iconst dX1_post_73 ?_
      exact g_iret rfl dX1_post_74 ⟨_, rfl, by
        have hv4 : iv_ (pi_ (pi_ σ3 X 2 fa3) X 4 4) ρ ((4 : Nat) : Int) = iv_ γf m 10 := by
          rw [iv_pi, if_neg (fun q => by omega), iv_pi, if_neg (fun q => by omega)]
          exact hfl.2.1
        rw [hv4]
        have hKf : KX_ X ρ σ (pi_ (pi_ (pi_ σ3 X 2 fa3) X 4 4) X 3 (iv_ γf m 10)) := ((hK.pi (by decide)).pi (by decide)).pi (by decide)
        have gf := hKf.gw (dc := 8400) (du := 60000) hρ ⟨(show sz_ σ3 ≤ _ by omega), (show us_ σ3 ≤ _ by omega)⟩
        exact hQ4 (by omega) q13 _ (hS.f4 gf hKf.2.2.1 hlt (by rw [iv_pi, if_neg (by omega), iv_pi, if_neg (by omega), iv_pi, if_neg (by omega)]; exact hv1) (by rw [iv_pi, if_neg (by omega), iv_pi, if_neg (by omega), iv_pi, if_pos ⟨rfl, rfl⟩]; exact hfl.1) (by rw [iv_pi, if_pos ⟨rfl, rfl⟩]; rfl) (by rw [iv_pi, if_neg (by omega), iv_pi, if_pos ⟨rfl, rfl⟩])) (gf.mono (fun b k _ q => by unfold xw_; omega) (Nat.le_refl _) (Nat.le_refl _))⟩
    
  refine g_al0 dX1_post_12 ?_
  refine g_iconst dX1_post_13 ?_
  refine g_callV1I (d' := 2) lk_X1_65 hXs rfl (rm_lt (by decide) (by decide)) (Nat.le_of_ble_eq_true rfl) dX1_post_14 ?_
  refine xo_refused hX0 ?_
  exact g_iret rfl dX1_post_17 ⟨_, rfl, by
    have g : Gw_ (xe_ X) 0 0 σ (pi_ (pi_ σ X 4 2) X 3 (-1)) := (Gw_.rf.pi (fun _ => Or.inr ⟨rfl, Or.inr rfl⟩)).pi (fun _ => Or.inr ⟨rfl, Or.inl rfl⟩)
    exact hQ2 (by omega) _ (hS.gx (t := 2) g (fun _ => rfl) hlt (by rw [iv_pi, if_pos ⟨rfl, rfl⟩]; rfl) (by rw [iv_pi, if_neg (by omega), iv_pi, if_pos ⟨rfl, rfl⟩])) (g.mono (fun b k _ q => by unfold xe_ xs_ at q; unfold xw_; omega) (Nat.le_refl _) (Nat.le_refl _))⟩
end
