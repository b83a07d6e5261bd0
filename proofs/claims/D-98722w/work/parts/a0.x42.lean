/-! THE COMPONENT: a reader is made. Written by mod/ma0.py -/
set_option maxRecDepth 100000
section
variable {G : JG} {m X ρ o : Nat} {σ σ' γ : JH} {T : XT} {c d : Int}
theorem LS_.ol (h : LS_ G σ) (f : OL_ ρ σ σ') (hge : (gH_ G).size ≤ ρ) : LS_ G σ' := fun i q e => by
  obtain ⟨v, ⟨s1, s2, s3, s4, s5, s6⟩, a2, a3⟩ := h i q e
  have ea := f.1 (gK_ G i) (by omega)
  have ev := f.1 v (by omega)
  exact ⟨v, ⟨ea.1.trans s1, (ea.2 0).1.trans s2, ev.1.trans s3, (ea.2 1).2.trans s4, s5, fun k k0 k1 => by rw [(ev.2 k).2]; exact s6 k k0 k1⟩, a2, a3⟩
theorem Gw_.ol {S : Nat → Int → Prop} {dc du : Nat} (f : Gw_ S dc du σ σ') (hρ : ρ ≤ sz_ σ) (hS : ∀ b k, S b k → ρ ≤ b) : OL_ ρ σ σ' := ⟨fun b hb => ⟨f.1 b (by omega), fun k => f.2.1 b k (by omega) (fun q => by have := hS b k q; omega)⟩, f.2.2.1.1, f.2.2.2.1⟩
theorem xr_init  {Q : JH → Prop} (hs : sh_ σ ρ = some (.inl 3)) (hge : (gH_ G).size ≤ ρ) (hX : X + 12 < ρ) (hsz : sz_ σ = ρ + 2) (hT0 : TS_ G m X σ γ (ρ + 1) (iv_ γ m 5)) (h3 : iv_ σ ρ 3 = 0) (h13 : iv_ (nxt_ m γ) m 13 = 0) (hPI : PI_ m (nxt_ m γ)) (hTX : TX_ m γ) (he : 0 ≤ iv_ γ m 5 ∧ iv_ γ m 5 ≤ iv_ γ m 3) (hz : ∀ k, 0 ≤ k → k < 363 → iv_ γ (m + 4) k = 0) (hL : LS_ G σ) (hE : sh_ σ (gK_ G 100) = some (.inr (3, 0))) (hk100 : gK_ G 100 < (gH_ G).size) (hr : sz_ σ + 11 ≤ lc_ G ∧ us_ σ + 60 ≤ ls_ G) (hcd : sz_ σ + 8100 + c ≤ lc_ G ∧ us_ σ + 59300 + d ≤ ls_ G)
    (hQ : ∀ σ' o T, RR_ G m X ρ σ' (nxt_ m γ) o T c d → TD_ G T → OL_ ρ σ σ' → Q σ') : CallV_ G 11 yX3_init cX3_init 2 none [A_ (some ρ), A_ (some (ρ + 1))] σ Q := by
  refine call_go [some (A_ (some ρ)), some (A_ (some (ρ + 1)))] (by decide) (Nat.le_of_ble_eq_true rfl) rfl ?_
  refine g_lt (fun hlt hgz => ?_)
  have hs3 := hs
  have hsT := hT0.1
  have hlt1 := hlt
  refine g_al0 dX3_init_0 ?_
  refine g_objInit q298 q_oi1 q_oi2 (rm_1 (by decide)) (Nat.le_of_ble_eq_true rfl) dX3_init_1 ?_
  refine g_al0 dX3_init_4 ?_
  refine g_new (ci := 5) nq_X3_9 ⟨_, rfl⟩ (by omega) dX3_init_5 ?_
  refine g_lt (fun hltP hgzP => ?_)
  refine g_dup dX3_init_8 rfl ?_
  refine g_callIN0 (d' := 5) lk_X3_11 (rm_lt (by decide) (by decide)) (Nat.le_of_ble_eq_true rfl) dX3_init_9 ?_
  refine xp_init hltP (by rw [sh_nw, if_pos rfl]) (by omega) (by rw [sz_nw, us_nw]; omega) (fun σ1 hB => ?_)
  have g0 : Gw_ (fun b _ => ρ + 2 ≤ b) 6 24 σ σ1 := ((Gw_.rf (S := fun b _ => ρ + 2 ≤ b) (σ := σ)).nw (s := .inl 5) (n := 9)).tr (hB.1.mono (fun b k _ q => (by omega : ρ + 2 ≤ b)) (Nat.le_refl _) (Nat.le_refl _))
  have g1 : Gw_ (fun b _ => b = ρ ∨ ρ + 2 ≤ b) 6 24 σ σ1 := g0.mono (fun _ _ _ q => Or.inr q) (Nat.le_refl _) (Nat.le_refl _)
  have hs3 : sh_ σ1 ρ = some (.inl 3) := (g1.1 ρ (by omega)).trans hs
  have hsT : sh_ σ1 (ρ + 1) = some (.inl 4) := (g1.1 (ρ + 1) (by omega)).trans hT0.1
  have hol1 : OL_ ρ σ σ1 := g1.ol (by omega) (fun b k q => by rcases q with q | q <;> omega)
  have hE1 : sh_ σ1 (gK_ G 100) = some (.inr (3, 0)) := (hol1.1 _ (by omega)).1.trans hE
  have hPP : PP_ G σ1 (ρ + 2) (pG_ G (sz_ σ)) (iv_ (nxt_ m γ) (m + 4)) := PP_.new hB (by rw [sh_nw, if_pos rfl]) (fun k => by rw [iv_nw, if_pos rfl]) (by rw [sz_nw]) hE1 hk100 (by omega) (by omega) (fun k k0 k1 => by rw [(nxt_f0 γ).f4]; exact hz k k0 k1)
  have hz1 := hB.sz
  rw [sz_nw, us_nw] at hz1
  have hz1 : sz_ σ1 = ρ + 8 ∧ us_ σ1 = us_ σ + 24 := ⟨by have := hz1.1; simp at this; omega, by omega⟩
  clear hB
  refine g_lt (fun hlt1 hgz1 => ?_)
  refine f_putAF 1 fk_X3_12 rfl (fin_ rfl ⟨rfl, rfl⟩) rfl hs3 hge (Or.inl ⟨_, rfl⟩) dX3_init_12 ?_
  refine g_al0 dX3_init_15 ?_
  refine g_al1 dX3_init_16 ?_
  refine f_putAF 0 fk_X3_18 rfl (fin_ rfl ⟨rfl, rfl⟩) rfl hs3 hge (Or.inl ⟨_, rfl⟩) dX3_init_17 ?_
  refine g_al0 dX3_init_20 ?_
  refine g_al1 dX3_init_21 ?_
  refine g_lt (fun hlt2' hgz2' => ?_)
  refine g_callV0A (d' := 10) lk_X3_22 hsT rfl (rm_lt (by decide) (by decide)) (Nat.le_of_ble_eq_true rfl) dX3_init_22 ?_
  have hv1 : iv_ σ1 ρ 3 = 0 := (g0.2.1 ρ 3 (by omega) (fun q => by omega)).2.trans h3
  have g2 : Gw_ (fun b _ => b = ρ ∨ ρ + 2 ≤ b) 6 24 σ (pr_ (pr_ σ1 ρ 1 (some (sz_ σ))) ρ 0 (some (ρ + 1))) := (g1.pr (fun _ => Or.inl rfl)).pr (fun _ => Or.inl rfl)
  have x2 : GX_ ρ σ1 (pr_ (pr_ σ1 ρ 1 (some (sz_ σ))) ρ 0 (some (ρ + 1))) := (GX_.rf.pr (Or.inl rfl)).pr (Or.inl rfl)
  have hs3' := hs3
  have hT2 := hT0.gw g2 hlt (fun k q => by omega) (fun k q => by omega)
  have hol2 : OL_ ρ σ (pr_ (pr_ σ1 ρ 1 (some (sz_ σ))) ρ 0 (some (ρ + 1))) := g2.ol (by omega) (fun b k q => by rcases q with q | q <;> omega)
  have hL2 := hL.ol hol2 hge
  have r0 : rv_ (pr_ (pr_ σ1 ρ 1 (some (sz_ σ))) ρ 0 (some (ρ + 1))) ρ 0 = some (ρ + 1) := by rw [rv_pr, if_pos ⟨rfl, rfl⟩]
  have r1 : rv_ (pr_ (pr_ σ1 ρ 1 (some (sz_ σ))) ρ 0 (some (ρ + 1))) ρ 1 = some (sz_ σ) := by rw [rv_pr, if_neg (by omega), rv_pr, if_pos ⟨rfl, rfl⟩]
  have hz2 : sz_ (pr_ (pr_ σ1 ρ 1 (some (sz_ σ))) ρ 0 (some (ρ + 1))) = ρ + 8 ∧ us_ (pr_ (pr_ σ1 ρ 1 (some (sz_ σ))) ρ 0 (some (ρ + 1))) = us_ σ + 24 := hz1
  have s2 : sh_ (pr_ (pr_ σ1 ρ 1 (some (sz_ σ))) ρ 0 (some (ρ + 1))) ρ = some (.inl 3) := hs3
  have v2 : iv_ (pr_ (pr_ σ1 ρ 1 (some (sz_ σ))) ρ 0 (some (ρ + 1))) ρ 3 = 0 := hv1
  generalize pr_ (pr_ σ1 ρ 1 (some (sz_ σ))) ρ 0 (some (ρ + 1)) = σ2 at *
  have hlt2 : ∀ a s, sh_ σ2 a = some s → a < sz_ σ2 := hlt2'
  refine xt_next (lo := ρ + 2) hT2 hL2 (by omega) (by omega) (fun σ3 o so pl nu wd wv n w hK hTM ho hT3 g3 => ?_)
  have hs3 : sh_ σ3 ρ = some (.inl 3) := (g3.1 ρ (by omega)).trans s2
  have hb3 := g3.2.2
  have x3 : GX_ ρ σ2 σ3 := g3.gx (fun b k _ q => Or.inr (Or.inl q.1))
  refine g_lt (fun hlt3 hgz3 => ?_)
  refine f_putA 2 fk_X3_28 rfl (nf_ rfl rfl) hs3 hge (Or.inl ⟨_, rfl⟩) dX3_init_25 ?_
  exact g_vret rfl dX3_init_28 ⟨rfl, by
    have x4 : GX_ ρ σ3 (pr_ σ3 ρ 2 (some o)) := GX_.rf.pr (Or.inl rfl)
    have no : o ≠ ρ := fun q => by omega
    have hK4 := hK.gx x4 hlt3 hs3 hT3.1 (fun q => (hK.2.2.2.2.2.2.2.2.1 q).2.2)
    have hT4 := hT3.gw (σ' := pr_ σ3 ρ 2 (some o)) (S := fun b _ => b = ρ) (Gw_.rf.pr (fun _ => rfl)) hlt3 (fun k q => by omega) (fun k q => by omega)
    have n3 : iv_ (nxt_ m γ) m 3 = iv_ γ m 3 := (nxt_f0 γ).2.2.2.2 m 3 (fun w => by unfold pf0_ at w; omega)
    have n1 : ∀ k, iv_ (nxt_ m γ) (m + 1) k = iv_ γ (m + 1) k := fun k => (nxt_f0 γ).2.2.2.2 _ _ (fun w => by unfold pf0_ at w; omega)
    have hT5 : TS_ G m X (pr_ σ3 ρ 2 (some o)) (nxt_ m γ) (ρ + 1) (iv_ (nxt_ m γ) m 5) := by
      obtain ⟨a1, a2, a3, a4, a5, a6, a7, a8, a9, a10⟩ := hT4
      exact ⟨a1, a2, a3, by rw [n3]; exact a4, a5, by rw [n3]; exact a6, a7, fun k k0 k1 => by rw [n1]; rw [n3] at k1; exact a8 k k0 k1, hPI.1, a10⟩
    have hPP4 := hPP.gx ((x2.tr x3).tr x4) hlt1 hs3' hsT hge (Nat.le_refl _)
    have hol4 : OL_ ρ σ (pr_ σ3 ρ 2 (some o)) := (hol2.tr (x3.ol (by omega))).tr (x4.ol (by omega))
    have e3 := g3.2.1 ρ
    have e0 := e3 0 (by omega) (fun q => by omega)
    have e1 := e3 1 (by omega) (fun q => by omega)
    have e33 := e3 3 (by omega) (fun q => by omega)
    refine hQ _ o (pG_ G (sz_ σ)) ⟨⟨hs3, hge, hX, ?_, ?_, ?_, hsz⟩, ⟨_, hT5, fun _ => rfl⟩, Or.inl ⟨h13, ?_⟩, ⟨so, pl, nu, wd, wv, n, w, hK4, fun _ => hTM⟩, ⟨_, hPP4, fun _ => rfl⟩, ⟨hPI, nxt_E1 hTX he⟩, hL.ol hol4 hge, ?_⟩ (TD_.new hk100 _) hol4
    · rw [rv_pr, if_neg (by omega)]; exact e0.1.trans r0
    · rw [rv_pr, if_neg (by omega)]; exact (e1.1.trans r1).trans (congrArg some hsz)
    · rw [rv_pr, if_pos ⟨rfl, rfl⟩]
    · rw [iv_pr]; exact e33.2.trans v2
    · have h5 := hPI.2.1
      have h1 := hPI.1.1
      have ea := hT5.2.2.2.2.1
      unfold RM_
      rw [ea]
      show ((sz_ σ3 : Nat) : Int) + _ + c ≤ _ ∧ ((us_ σ3 : Nat) : Int) + _ + d ≤ _
      split <;> omega⟩
end
