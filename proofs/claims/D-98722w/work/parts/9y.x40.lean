/-! THE COMPONENT: all lines are read. Written by mod/m9y.py -/
set_option maxRecDepth 100000
section
variable {G : JG} {m X ρ o : Nat} {σ σ' γ : JH} {T : XT} {c d : Int}
variable {γ0 : JH}
theorem xr_read  {Q : Option Nat → JH → Prop} (hR : RR_ G m X ρ σ γ0 o T c d) (hcd : 3 ≤ c ∧ 23 ≤ d) (hRB : RB_ G m γ0) (h0 : iv_ γ0 m 13 = 0) (hF : FW_ (iv_ γ0 (m + 4))) (hN : iv_ γ0 (m + 4) 9 = 0 ↔ iv_ γ0 (m + 4) 0 = 0) (hTD : TD_ G T) (hE : sh_ σ (gK_ G 100) = some (.inr (3, 0))) (hZ : LZ_ G σ) (hk23 : gK_ G 23 < (gH_ G).size) (hm0 : iv_ (rl_ m γ0) m 13 = 1 ∨ iv_ (rl_ m γ0) m 3 - iv_ (rl_ m γ0) m 5 < (1001 : Nat))
    (hQ : ∀ r σ' o' T', RR_ G m X ρ σ' (pe2_ m (pe1_ m (rls_ m 1001 (rl_ m γ0)))) o' T' (c - 3) (d - 23) → TD_ G T' → OL_ ρ σ σ' → ((iv_ (pe2_ m (pe1_ m (rls_ m 1001 (rl_ m γ0)))) m 13 = 0 ∧ r = some (ρ + 2)) ∨ (iv_ (pe2_ m (pe1_ m (rls_ m 1001 (rl_ m γ0)))) m 13 = 1 ∧ r = none)) → Q r σ') : CallA_ G 16 yX3_read cX3_read 1 (some (.object "WhalePost$Post")) [A_ (some ρ)] σ Q := by
  refine call_go [some (A_ (some ρ))] (by decide) (Nat.le_of_ble_eq_true rfl) rfl ?_
  have hge := hR.ge
  have hk100 : gK_ G 100 < (gH_ G).size := (hR.P h0).2.2.2.2.2.1
  refine g_lt (fun hlt0 hgz0 => ?_)
  have hρ0 := hlt0 _ _ hR.h3
  have J56 : ∀ σ' o' T', RR_ G m X ρ σ' (pe2_ m (pe1_ m (rls_ m 1001 (rl_ m γ0)))) o' T' (c - 3) (d - 23) → TD_ G T' → OL_ ρ σ σ' → GoM_ G 16 yX3_read cX3_read 1 (some (.object "WhalePost$Post")) σ (fun v σ' => ∃ x : Option Nat, v = some (A_ x) ∧ Q x σ') 56 [some (A_ (some ρ))] [] σ' := by
    intro σ' o' T' hR hTD hol
    obtain ⟨f, hP, hPf⟩ := hR.2.2.2.2.1
    have hP1 : rv_ σ' ρ 1 = some (xP_ T') := by rw [hR.1.2.2.2.2.2.2]; exact hR.1.2.2.2.2.1
    refine g_al0 dX3_read_56 ?_
    refine g_callV0I (d' := 2) lk_X3_36 hR.h3 rfl (rm_lt (by decide) (by decide)) (Nat.le_of_ble_eq_true rfl) dX3_read_57 ?_
    refine xr_isOver hR (fun z57 hz57 => ?_)
    refine g_if_eq (tgt := 67) dX3_read_60 (by decide) (by omega) (fun h60 => ?_) (fun h60 => ?_)
    · refine g_al0 dX3_read_67 ?_
      refine f_getA 1 fk_X3_12 rfl hR.h3 (fun _ _ => rfl) hP1 dX3_read_68 ?_
      exact g_aret rfl (Or.inl ⟨_, rfl⟩) dX3_read_71 ⟨_, rfl, hQ _ _ _ _ hR hTD hol (Or.inl ⟨by omega, by rw [hR.1.2.2.2.2.2.2]⟩)⟩
    refine g_null dX3_read_63 ?_
    refine g_goto (tgt := 71) dX3_read_64 (by decide) ?_
    exact g_aret rfl (Or.inl ⟨_, rfl⟩) dX3_read_71 ⟨_, rfl, hQ _ _ _ _ hR hTD hol (Or.inr ⟨by omega, rfl⟩)⟩
  have J27 : ∀ σ' o' T' δ, RR_ G m X ρ σ' (pe1_ m δ) o' T' (c - 3) (d - 23) → rls_ m 1001 (rl_ m γ0) = δ → TD_ G T' → OL_ ρ σ σ' → (iv_ δ m 13 = 0 → FW_ (iv_ δ (m + 4)) ∧ iv_ δ (m + 4) 9 = 1) → GoM_ G 16 yX3_read cX3_read 1 (some (.object "WhalePost$Post")) σ (fun v σ' => ∃ x : Option Nat, v = some (A_ x) ∧ Q x σ') 27 [some (A_ (some ρ))] [] σ' := by
    intro σ' o' T' δ hR hδ hTD hol hfw
    rw [hδ] at J56
    have h13 := hR.b13
    have hfe : iv_ (pe1_ m δ) m 13 = 0 → FW_ (iv_ (pe1_ m δ) (m + 4)) ∧ iv_ (pe1_ m δ) (m + 4) 9 = 1 := fun q => by
      unfold pe1_ at q ⊢
      by_cases w : iv_ δ m 13 = 0 ∧ iv_ δ m 6 ≠ 0
      · rw [if_pos w, wr_13 (Or.inl w.1)] at q; omega
      · rw [if_neg w] at q ⊢; exact hfw q
    generalize pe1_ m δ = δ1 at hR h13 hfe J56
    obtain ⟨f, hP, hPf⟩ := hR.2.2.2.2.1
    have hP1 : rv_ σ' ρ 1 = some (xP_ T') := by rw [hR.1.2.2.2.2.2.2]; exact hR.1.2.2.2.2.1
    have hfb := hP.2.1 0 (by decide) (by decide)
    have hfc := hP.1.l0.2.2.2.2.2.1
    refine g_al0 dX3_read_27 ?_
    refine f_getA 1 fk_X3_12 rfl hR.h3 (fun _ _ => rfl) hP1 dX3_read_28 ?_
    refine f_getv 0 fk_X3_101 rfl hP.1.sh (fun _ _ => rfl) hP.1.n0 dX3_read_31 ?_
    refine g_if_eq (tgt := 50) dX3_read_34 (by decide) (by omega) (fun h34 => ?_) (fun h34 => ?_)
    · refine g_al0 dX3_read_50 ?_
      refine g_bipush dX3_read_51 (by decide) (by decide) ?_
      refine g_callV1V (d' := 3) lk_X3_56 hR.h3 rfl (rm_lt (by decide) (by decide)) (Nat.le_of_ble_eq_true rfl) dX3_read_53 ?_
      refine xr_wrong hR (by omega) (fun σ5 hR5 hg5 => ?_)
      exact J56 σ5 _ _ (by
        have e : pe2_ m δ1 = wr_ m δ1 6 (iv_ δ1 m 4) := by
          unfold pe2_
          by_cases q : iv_ δ1 m 13 = 0
          · have w := hfe q
            have hn := w.1.n9 w.2
            have e0 := hPf q
            subst e0
            exact if_pos ⟨q, by omega⟩
          · rw [if_neg (fun w => q w.1), wr_id q]
        rw [e]
        exact hR5) hTD (hol.tr (hg5.ol (by have := hol.2; omega)))
    refine g_al0 dX3_read_37 ?_
    refine f_getA 1 fk_X3_12 rfl hR.h3 (fun _ _ => rfl) hP1 dX3_read_38 ?_
    refine f_getA 4 fk_X3_104 rfl hP.1.sh (fun _ _ => rfl) hP.1.f4 dX3_read_41 ?_
    refine g_callV0I (d' := 2) lk_X3_108 hP.1.l0.1 rfl (rm_lt (by decide) (by decide)) (Nat.le_of_ble_eq_true rfl) dX3_read_44 ?_
    refine js_isEmpty hP.1.l0 ?_
    obtain ⟨z44, hz44⟩ : ∃ z, z = (if f 4 = 0 then (1 : Int) else 0) := ⟨_, rfl⟩
    rw [← hz44]
    have hz44 : (z44 = 1 ∧ f 4 = 0) ∨ (z44 = 0 ∧ f 4 ≠ 0) := by rw [hz44]; split <;> omega
    refine g_if_eq (tgt := 56) dX3_read_47 (by decide) (by omega) (fun h47 => ?_) (fun h47 => ?_)
    · exact J56 σ' _ _ (by
        have e : pe2_ m δ1 = δ1 := by
          unfold pe2_
          by_cases q : iv_ δ1 m 13 = 0
          · have w := hfe q
            have hn := w.1.n9 w.2
            have e0 := hPf q
            subst e0
            exact if_neg (fun z => by omega)
          · exact if_neg (fun w => q w.1)
        rw [e]
        exact hR) hTD hol
    refine g_al0 dX3_read_50 ?_
    refine g_bipush dX3_read_51 (by decide) (by decide) ?_
    refine g_callV1V (d' := 3) lk_X3_56 hR.h3 rfl (rm_lt (by decide) (by decide)) (Nat.le_of_ble_eq_true rfl) dX3_read_53 ?_
    refine xr_wrong hR (by omega) (fun σ5 hR5 hg5 => ?_)
    exact J56 σ5 _ _ (by
      have e : pe2_ m δ1 = wr_ m δ1 6 (iv_ δ1 m 4) := by
        unfold pe2_
        by_cases q : iv_ δ1 m 13 = 0
        · have w := hfe q
          have hn := w.1.n9 w.2
          have e0 := hPf q
          subst e0
          exact if_pos ⟨q, by omega⟩
        · rw [if_neg (fun w => q w.1), wr_id q]
      rw [e]
      exact hR5) hTD (hol.tr (hg5.ol (by have := hol.2; omega)))
  have J11 : ∀ σ' o' T' δ, RR_ G m X ρ σ' δ o' T' (c - 3) (d - 23) → rls_ m 1001 (rl_ m γ0) = δ → TD_ G T' → OL_ ρ σ σ' → (iv_ δ m 13 = 0 → FW_ (iv_ δ (m + 4)) ∧ iv_ δ (m + 4) 9 = 1) → GoM_ G 16 yX3_read cX3_read 1 (some (.object "WhalePost$Post")) σ (fun v σ' => ∃ x : Option Nat, v = some (A_ x) ∧ Q x σ') 11 [some (A_ (some ρ))] [] σ' := by
    intro σ' o' T' δ hR hδ hTD hol hfw
    obtain ⟨so, pl, nu, wd, wv, n, w, hK, hTM0⟩ := hR.2.2.2.1
    have hKb := hK.2.2.2.2.2.2.2.2.2.1
    refine g_al0 dX3_read_11 ?_
    refine f_getA 2 fk_X3_28 rfl hR.h3 (fun _ _ => rfl) hR.1.2.2.2.2.2.1 dX3_read_12 ?_
    refine f_getv 0 fk_X3_46 rfl hK.1 (fun _ _ => rfl) hK.2.2.1 dX3_read_15 ?_
    refine g_iconst dX3_read_18 ?_
    refine g_icmp_eq (tgt := 27) dX3_read_19 (by decide) (by omega) (fun h19 => ?_) (fun h19 => ?_)
    · exact J27 σ' _ _ δ (by
        have e : pe1_ m δ = δ := by
          unfold pe1_
          by_cases q : iv_ δ m 13 = 0
          · have s := (hR.sort q (hTM0 q)).1
            exact if_neg (fun w => w.2 (by omega))
          · exact if_neg (fun w => q w.1)
        rw [e]
        exact hR) hδ hTD hol hfw
    refine g_al0 dX3_read_22 ?_
    refine g_iconst dX3_read_23 ?_
    refine g_callV1V (d' := 3) lk_X3_56 hR.h3 rfl (rm_lt (by decide) (by decide)) (Nat.le_of_ble_eq_true rfl) dX3_read_24 ?_
    refine xr_wrong hR (by omega) (fun σ5 hR5 hg5 => ?_)
    exact J27 σ5 _ _ δ (by
      have e : pe1_ m δ = wr_ m δ 1 (iv_ δ m 4) := by
        unfold pe1_
        by_cases q : iv_ δ m 13 = 0
        · have s := (hR.sort q (hTM0 q)).1
          exact if_pos ⟨q, by omega⟩
        · rw [if_neg (fun w => q w.1), wr_id q]
      rw [e]
      exact hR5) hδ hTD (hol.tr (hg5.ol (by have := hol.2; omega))) hfw
  have L0 : ∀ (fu : Nat) (F : Nat) (γ : JH) (σ' : JH) (o' : Nat) (T' : XT), (F : Int) < (fu : Int) → (RR_ G m X ρ σ' γ o' T' c d) → (RB_ G m γ) → (iv_ γ m 13 = 0) → (FW_ (iv_ γ (m + 4))) → (iv_ γ (m + 4) 9 = 0 ↔ iv_ γ (m + 4) 0 = 0) → (TD_ G T') → (OL_ ρ σ σ') → (iv_ (rl_ m γ) m 13 = 1 ∨ iv_ (rl_ m γ) m 3 - iv_ (rl_ m γ) m 5 < (F : Int)) → (rls_ m 1001 (rl_ m γ0) = rls_ m F (rl_ m γ)) → GoM_ G 16 yX3_read cX3_read 1 (some (.object "WhalePost$Post")) σ (fun v σ' => ∃ x : Option Nat, v = some (A_ x) ∧ Q x σ') 0 [some (A_ (some ρ))] [] σ' := by
    intro fu
    induction fu with
    | zero => intro F γ σ' o' T' hn hR hRB h0 hF hN hTD hol hm hFin; exact absurd hn (by omega)
    | succ fu ih =>
      intro F γ σ' o' T' hn hR hRB h0 hF hN hTD hol hm hFin
      have hE1 : sh_ σ' (gK_ G 100) = some (.inr (3, 0)) := (hol.1 _ (by omega)).1.trans hE
      have hZ1 : LZ_ G σ' := ⟨((hol.1 _ (by omega)).2 2).2.trans hZ.1, ((hol.1 _ (by omega)).2 3).2.trans hZ.2⟩
      refine g_al0 dX3_read_0 ?_
      refine g_callV0V (d' := 15) lk_X3_95 hR.h3 rfl (rm_lt (by decide) (by decide)) (Nat.le_of_ble_eq_true rfl) dX3_read_1 ?_
      refine xr_line hR hcd h0 hF hN hTD hE1 hZ1 hk23 (fun σ1 o1 T1 hR1 hTD1 hol1 => ?_)
      have hRB1 := (rl_RS hRB).1
      have hfw1 : iv_ (rl_ m γ) m 13 = 0 → FW_ (iv_ (rl_ m γ) (m + 4)) ∧ iv_ (rl_ m γ) (m + 4) 9 = 1 := fun q => ⟨rl_FW hRB h0 hF q, rl_g9 hRB h0 hF q⟩
      have hol2 := hol.tr hol1
      generalize hγ1 : rl_ m γ = γ1 at *
      have hR1 : RR_ G m X ρ σ1 γ1 o1 T1 (c - 3) (d - 23) := hR1
      have hR := hR1
      refine g_al0 dX3_read_4 ?_
      refine g_callV0I (d' := 12) lk_X3_98 hR.h3 rfl (rm_lt (by decide) (by decide)) (Nat.le_of_ble_eq_true rfl) dX3_read_5 ?_
      refine xr_eats hR1 (by omega) (fun z5 σ2 γ2 o2 hz5 hg5 => ?_)
      refine g_if_ne (tgt := 0) dX3_read_8 (by decide) (by omega) (fun h8 => ?_) (fun h8 => ?_)
      · rcases hz5 with ⟨-, q13, q6, e, hR2⟩ | ⟨z, -⟩
        · have h5 := hR1.I.2.1
          obtain ⟨F1, rfl⟩ : ∃ k, F = k + 1 := ⟨F - 1, by omega⟩
          have hon := rl_on hRB1 (F := (F1 : Int)) (by omega)
          have hs := hRB1.sn
          have hf := hfw1 q13
          have e4 : iv_ (nxt_ m γ1) (m + 4) = iv_ γ1 (m + 4) := funext fun j => (nxt_f0 γ1).f4 j
          subst e
          refine ih F1 (nxt_ m γ1) _ _ _ (by omega) (hR2.wk (by omega) (by omega)) hs.1 (by rw [(nxt_fix _).1]; exact q13) (by rw [e4]; exact hf.1) (by rw [e4]; exact hf.1.n9 hf.2) hTD1 (hol2.tr (hg5.ol (by have := hol2.2; omega))) hon (by rw [hFin]; simp only [rls_]; rw [if_pos ⟨q13, q6⟩])
        · omega
      rcases hz5 with ⟨z, -⟩ | ⟨-, q, e, hR2⟩
      · omega
      · subst e
        exact J11 σ2 _ _ γ2 hR2 (by rw [hFin]; cases F with | zero => rfl | succ F1 => (simp only [rls_]; rw [if_neg q])) hTD1 (hol2.tr (hg5.ol (by have := hol2.2; omega))) hfw1
  exact L0 1002 1001 γ0 σ o T (by omega) hR hRB h0 hF hN hTD ⟨fun _ _ => ⟨rfl, fun _ => ⟨rfl, rfl⟩⟩, Nat.le_refl _, Nat.le_refl _⟩ hm0 rfl
end
