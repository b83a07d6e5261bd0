/-! THE COMPONENT: the post's line. Written by mod/m9w.py -/
set_option maxRecDepth 100000
section
variable {G : JG} {m X ρ o : Nat} {σ σ' γ : JH} {T : XT} {c d : Int}
variable {f f' : Int → Int} {lo : Nat} {γ1 δ : JH}
theorem PP_.pst {x0 x1 x2 x3 : Int} (h : PP_ G σ lo T f) (hz : f 4 = 0 ∧ f 5 = 0 ∧ f 6 = 0 ∧ f 7 = 0 ∧ f 8 = 0) (e : f' 4 = 0 ∧ f' 5 = 0 ∧ f' 6 = 0 ∧ f' 7 = 0 ∧ f' 8 = 0) (hv : f' 0 = x0 ∧ f' 1 = x1 ∧ f' 2 = x2 ∧ f' 3 = x3) (hb : ∀ k, 0 ≤ k → k < 363 → 0 ≤ f' k ∧ f' k ≤ 9999) : PP_ G (pi_ (pi_ (pi_ (pi_ σ (xP_ T) 0 x0) (xP_ T) 1 x1) (xP_ T) 2 x2) (xP_ T) 3 x3) lo T f' := by
  obtain ⟨⟨⟨q1, q2, q3, q4, q5, q6⟩, ⟨u0, v0, w0⟩, ⟨u1, v1, w1⟩, ⟨u2, v2, w2⟩, ⟨u3, v3, w3⟩, ⟨u4, v4, w4⟩, -, -, -, -, -⟩, -, -, -, -, hk, hgl⟩ := h
  have ne : ∀ b s, sh_ σ b = some s → s ≠ .inl 5 → ∀ k, rv_ (pi_ (pi_ (pi_ (pi_ σ (xP_ T) 0 x0) (xP_ T) 1 x1) (xP_ T) 2 x2) (xP_ T) 3 x3) b k = rv_ σ b k ∧ iv_ (pi_ (pi_ (pi_ (pi_ σ (xP_ T) 0 x0) (xP_ T) 1 x1) (xP_ T) 2 x2) (xP_ T) 3 x3) b k = iv_ σ b k := fun b s hs hn k => by
    have n : b ≠ xP_ T := fun q => by rw [q, q1] at hs; exact hn (Option.some.inj hs).symm
    refine ⟨rfl, ?_⟩
    rw [iv_pi, if_neg (fun q => n q.1), iv_pi, if_neg (fun q => n q.1), iv_pi, if_neg (fun q => n q.1), iv_pi, if_neg (fun q => n q.1)]
  have ls : ∀ {a e cap : Nat} {n : Int} {g : Int → Nat}, Ls_ G σ a e cap n g → Ls_ G (pi_ (pi_ (pi_ (pi_ σ (xP_ T) 0 x0) (xP_ T) 1 x1) (xP_ T) 2 x2) (xP_ T) 3 x3) a e cap n g := fun {a e cap n g} hh => hh.pres ⟨rfl, ne _ _ hh.1 (fun q => by cases q)⟩ ⟨rfl, ne _ _ hh.2.2.2.1 (fun q => by cases q)⟩
  refine ⟨⟨⟨q1, q2, ?_, ?_, ?_, ?_⟩, ⟨u0, by rw [e.1.trans hz.1.symm]; exact ls v0, w0⟩, ⟨u1, by rw [e.2.1.trans hz.2.1.symm]; exact ls v1, w1⟩, ⟨u2, by rw [e.2.2.1.trans hz.2.2.1.symm]; exact ls v2, w2⟩, ⟨u3, by rw [e.2.2.2.1.trans hz.2.2.2.1.symm]; exact ls v3, w3⟩, ⟨u4, by rw [e.2.2.2.2.trans hz.2.2.2.2.symm]; exact ls v4, w4⟩, fun i i0 i1 => by omega, fun i i0 i1 => by omega, fun i i0 i1 => by omega, fun i i0 i1 => by omega, fun i i0 i1 => by omega⟩, hb, fun i i0 i1 => by omega, fun i i0 i1 => by omega, fun i i0 i1 => by omega, hk, hgl⟩
  · rw [hv.1, iv_pi, if_neg (by omega), iv_pi, if_neg (by omega), iv_pi, if_neg (by omega), iv_pi, if_pos ⟨rfl, rfl⟩]
  · rw [hv.2.1, iv_pi, if_neg (by omega), iv_pi, if_neg (by omega), iv_pi, if_pos ⟨rfl, rfl⟩]
  · rw [hv.2.2.1, iv_pi, if_neg (by omega), iv_pi, if_pos ⟨rfl, rfl⟩]
  · rw [hv.2.2.2, iv_pi, if_pos ⟨rfl, rfl⟩]
theorem pl1_id (h : iv_ γ m 13 ≠ 0) : E0_ m γ (pl1_ m γ) := (((E0_.rf.ps h).ps h).ps h).ps h
theorem RR_.pst {x0 x1 x2 x3 : Int} (h : RR_ G m X ρ σ γ o T c d) (h0 : iv_ γ m 13 = 0) (e : E0_ m γ δ) (hz : iv_ γ (m + 4) 4 = 0 ∧ iv_ γ (m + 4) 5 = 0 ∧ iv_ γ (m + 4) 6 = 0 ∧ iv_ γ (m + 4) 7 = 0 ∧ iv_ γ (m + 4) 8 = 0) (h4 : ∀ j, 4 ≤ j → j ≠ 9 → iv_ δ (m + 4) j = iv_ γ (m + 4) j) (h9 : iv_ δ (m + 4) 9 = 1) (hv : iv_ δ (m + 4) 0 = x0 ∧ iv_ δ (m + 4) 1 = x1 ∧ iv_ δ (m + 4) 2 = x2 ∧ iv_ δ (m + 4) 3 = x3) (hx : (0 ≤ x0 ∧ x0 ≤ 9999) ∧ (0 ≤ x1 ∧ x1 ≤ 9999) ∧ (0 ≤ x2 ∧ x2 ≤ 9999) ∧ (0 ≤ x3 ∧ x3 ≤ 9999)) : RR_ G m X ρ (pi_ (pi_ (pi_ (pi_ σ (xP_ T) 0 x0) (xP_ T) 1 x1) (xP_ T) 2 x2) (xP_ T) 3 x3) δ o T c d := by
  have hP := h.P h0
  have hs := hP.1.sh
  have ob : OB_ σ (pi_ (pi_ (pi_ (pi_ σ (xP_ T) 0 x0) (xP_ T) 1 x1) (xP_ T) 2 x2) (xP_ T) 3 x3) := fun a s ha q => by
    have n : a ≠ xP_ T := fun w => by rw [w, hs] at ha; rcases q with q | q | q | q | ⟨n, q⟩ <;> rw [q] at ha <;> cases ha
    refine ⟨ha, fun k => ⟨rfl, ?_⟩⟩
    rw [iv_pi, if_neg (fun q => n q.1), iv_pi, if_neg (fun q => n q.1), iv_pi, if_neg (fun q => n q.1), iv_pi, if_neg (fun q => n q.1)]
  have z := h.chg (dc := 0) (du := 0) (T' := T) ob ⟨Nat.le_refl _, Nat.le_refl _⟩ rfl e ⟨_, PP_.pst (f' := iv_ δ (m + 4)) hP hz ⟨by rw [h4 4 (by decide) (by decide)]; exact hz.1, by rw [h4 5 (by decide) (by decide)]; exact hz.2.1, by rw [h4 6 (by decide) (by decide)]; exact hz.2.2.1, by rw [h4 7 (by decide) (by decide)]; exact hz.2.2.2.1, by rw [h4 8 (by decide) (by decide)]; exact hz.2.2.2.2⟩ hv (fun k k0 k1 => ?_), fun _ => rfl⟩
  · exact z.wk (by omega) (by omega)
  · by_cases q : k = 9
    · rw [q, h9]; decide
    · by_cases q4 : 4 ≤ k
      · rw [h4 k q4 q]; exact hP.2.1 k k0 k1
      · have : k = 0 ∨ k = 1 ∨ k = 2 ∨ k = 3 := by omega
        rcases this with w | w | w | w <;> subst w
        · rw [hv.1]; exact hx.1
        · rw [hv.2.1]; exact hx.2.1
        · rw [hv.2.2.1]; exact hx.2.2.1
        · rw [hv.2.2.2]; exact hx.2.2.2
theorem xr_postLine  {Q : JH → Prop} (hR : RR_ G m X ρ σ γ o T c d) (hcd : 3 ≤ c ∧ 23 ≤ d) (h0 : iv_ γ m 13 = 0) (hF : FW_ (iv_ γ (m + 4))) (hN : iv_ γ (m + 4) 9 = 0 ↔ iv_ γ (m + 4) 0 = 0) (hTD : TD_ G T) (hE : sh_ σ (gK_ G 100) = some (.inr (3, 0)))
    (hQ : ∀ σ' o' T', RR_ G m X ρ σ' (pl_ m γ) o' T' (c - 3) (d - 23) → TD_ G T' → OL_ ρ σ σ' → Q σ') : CallV_ G 14 yX3_postLine cX3_postLine 5 none [A_ (some ρ)] σ Q := by
  refine call_go [some (A_ (some ρ)), none, none, none, none] (by decide) (Nat.le_of_ble_eq_true rfl) rfl ?_
  have hP := hR.P h0
  have hP1 : rv_ σ ρ 1 = some (xP_ T) := by rw [hR.1.2.2.2.2.2.2]; exact hR.1.2.2.2.2.1
  have hcn0 := hF.cn
  have hge := hR.ge
  have hk100 : gK_ G 100 < (gH_ G).size := hP.2.2.2.2.2.1
  refine g_lt (fun hlt0 hgz0 => ?_)
  have hρ0 := hlt0 _ _ hR.h3
  have hR0 := hR
  have hb00 := hP.2.1 0 (by decide) (by decide)
  have J15 : ∀ σ' δ0 o', RR_ G m X ρ σ' δ0 o' T c d → GX_ ρ σ σ' → ((δ0 = wr_ m γ 3 (iv_ γ m 4) ∧ iv_ γ (m + 4) 9 = 1) ∨ (δ0 = γ ∧ iv_ γ (m + 4) 9 ≠ 1)) → GoM_ G 14 yX3_postLine cX3_postLine 5 none σ (fun v σ' => v = none ∧ Q σ') 15 [some (A_ (some ρ)), none, none, none, none] [] σ' := by
    intro σ' δ0 o' hR hG hδ0
    refine g_al0 dX3_postLine_15 ?_
    refine g_callV0V (d' := 11) lk_X3_49 hR.h3 rfl (rm_lt (by decide) (by decide)) (Nat.le_of_ble_eq_true rfl) dX3_postLine_16 ?_
    refine xr_on hR (by omega) (fun σ' o' hR4 hg4 => ?_)
    have hG := hG.tr hg4
    have hR := hR4 c d (Or.inl ⟨Int.le_refl _, Int.le_refl _⟩)
    generalize hδ1 : onn_ m δ0 = δ1 at hR
    clear hR4
    refine g_al0 dX3_postLine_19 ?_
    refine g_ldcS (j := 30) rfl dX3_postLine_20 ?_
    refine g_iconst dX3_postLine_22 ?_
    refine g_iconst dX3_postLine_23 ?_
    refine g_callV3I (d' := 13) lk_X3_149 hR.h3 rfl (rm_lt (by decide) (by decide)) (Nat.le_of_ble_eq_true rfl) dX3_postLine_24 ?_
    obtain ⟨vL, hSL, -, -⟩ := hR.2.2.2.2.2.2.1 30 _ rfl
    refine xr_part hR (by omega) hSL (by decide) (by decide) (fun x1 σ' o' hR4 hg4 hx1 hxb1 => ?_)
    have hI0 := hR.I
    have hG := hG.tr hg4
    have hR : RR_ G m X ρ σ' (aw_ m δ1 "notes" 2 4) o' T c d := hR4
    have hok1 : iv_ (aw_ m δ1 "notes" 2 4) m 13 = 0 → iv_ δ1 m 13 = 0 ∧ x1 = awv_ m δ1 "notes" 2 4 := fun q => ⟨(aft_A0 hI0 _ _ _ _).ok q, hx1 q⟩
    have h41 : ∀ j, iv_ (aw_ m δ1 "notes" 2 4) (m + 4) j = iv_ δ1 (m + 4) j := fun j => (aft_A0 hI0 _ _ _ _).1.f4 j
    have hid1 : iv_ δ1 m 13 ≠ 0 → aw_ m δ1 "notes" 2 4 = δ1 := fun q => aw_id q
    generalize hδ2 : aw_ m δ1 "notes" 2 4 = δ2 at hR hok1 h41 hid1
    clear hR4 hx1
    refine g_is1 dX3_postLine_27 (by decide) rfl ?_
    refine g_al0 dX3_postLine_28 ?_
    refine g_ldcS (j := 31) rfl dX3_postLine_29 ?_
    refine g_iconst dX3_postLine_31 ?_
    refine g_iconst dX3_postLine_32 ?_
    refine g_callV3I (d' := 13) lk_X3_149 hR.h3 rfl (rm_lt (by decide) (by decide)) (Nat.le_of_ble_eq_true rfl) dX3_postLine_33 ?_
    obtain ⟨vL, hSL, -, -⟩ := hR.2.2.2.2.2.2.1 31 _ rfl
    refine xr_part hR (by omega) hSL (by decide) (by decide) (fun x2 σ' o' hR4 hg4 hx2 hxb2 => ?_)
    have hI0 := hR.I
    have hG := hG.tr hg4
    have hR : RR_ G m X ρ σ' (aw_ m δ2 "errors" 0 3) o' T c d := hR4
    have hok2 : iv_ (aw_ m δ2 "errors" 0 3) m 13 = 0 → iv_ δ2 m 13 = 0 ∧ x2 = awv_ m δ2 "errors" 0 3 := fun q => ⟨(aft_A0 hI0 _ _ _ _).ok q, hx2 q⟩
    have h42 : ∀ j, iv_ (aw_ m δ2 "errors" 0 3) (m + 4) j = iv_ δ2 (m + 4) j := fun j => (aft_A0 hI0 _ _ _ _).1.f4 j
    have hid2 : iv_ δ2 m 13 ≠ 0 → aw_ m δ2 "errors" 0 3 = δ2 := fun q => aw_id q
    generalize hδ3 : aw_ m δ2 "errors" 0 3 = δ3 at hR hok2 h42 hid2
    clear hR4 hx2
    refine g_is2 dX3_postLine_36 (by decide) rfl ?_
    refine g_al0 dX3_postLine_37 ?_
    refine g_ldcS (j := 32) rfl dX3_postLine_38 ?_
    refine g_iconst dX3_postLine_40 ?_
    refine g_bipush dX3_postLine_41 (by decide) (by decide) ?_
    refine g_callV3I (d' := 13) lk_X3_149 hR.h3 rfl (rm_lt (by decide) (by decide)) (Nat.le_of_ble_eq_true rfl) dX3_postLine_43 ?_
    obtain ⟨vL, hSL, -, -⟩ := hR.2.2.2.2.2.2.1 32 _ rfl
    refine xr_part hR (by omega) hSL (by decide) (by decide) (fun x3 σ' o' hR4 hg4 hx3 hxb3 => ?_)
    have hI0 := hR.I
    have hG := hG.tr hg4
    have hR : RR_ G m X ρ σ' (aw_ m δ3 "drift" 0 50) o' T c d := hR4
    have hok3 : iv_ (aw_ m δ3 "drift" 0 50) m 13 = 0 → iv_ δ3 m 13 = 0 ∧ x3 = awv_ m δ3 "drift" 0 50 := fun q => ⟨(aft_A0 hI0 _ _ _ _).ok q, hx3 q⟩
    have h43 : ∀ j, iv_ (aw_ m δ3 "drift" 0 50) (m + 4) j = iv_ δ3 (m + 4) j := fun j => (aft_A0 hI0 _ _ _ _).1.f4 j
    have hid3 : iv_ δ3 m 13 ≠ 0 → aw_ m δ3 "drift" 0 50 = δ3 := fun q => aw_id q
    generalize hδ4 : aw_ m δ3 "drift" 0 50 = δ4 at hR hok3 h43 hid3
    clear hR4 hx3
    refine g_is3 dX3_postLine_46 (by decide) rfl ?_
    refine g_al0 dX3_postLine_47 ?_
    refine g_ldcS (j := 33) rfl dX3_postLine_48 ?_
    refine g_iconst dX3_postLine_50 ?_
    refine g_bipush dX3_postLine_51 (by decide) (by decide) ?_
    refine g_callV3I (d' := 13) lk_X3_149 hR.h3 rfl (rm_lt (by decide) (by decide)) (Nat.le_of_ble_eq_true rfl) dX3_postLine_53 ?_
    obtain ⟨vL, hSL, -, -⟩ := hR.2.2.2.2.2.2.1 33 _ rfl
    refine xr_part hR (by omega) hSL (by decide) (by decide) (fun x4 σ' o' hR4 hg4 hx4 hxb4 => ?_)
    have hI0 := hR.I
    have hG := hG.tr hg4
    have hR : RR_ G m X ρ σ' (aw_ m δ4 "slip" 0 100) o' T c d := hR4
    have hok4 : iv_ (aw_ m δ4 "slip" 0 100) m 13 = 0 → iv_ δ4 m 13 = 0 ∧ x4 = awv_ m δ4 "slip" 0 100 := fun q => ⟨(aft_A0 hI0 _ _ _ _).ok q, hx4 q⟩
    have h44 : ∀ j, iv_ (aw_ m δ4 "slip" 0 100) (m + 4) j = iv_ δ4 (m + 4) j := fun j => (aft_A0 hI0 _ _ _ _).1.f4 j
    have hid4 : iv_ δ4 m 13 ≠ 0 → aw_ m δ4 "slip" 0 100 = δ4 := fun q => aw_id q
    generalize hδ5 : aw_ m δ4 "slip" 0 100 = δ5 at hR hok4 h44 hid4
    clear hR4 hx4
    have a1 := (E0_.rf (m := m) (γ := δ1)).aw (w := "notes") (lo := 2) (hi := 4)
    have b1 : E0_ m δ2 (ps_ m δ1 0 "notes" 2 4) := by rw [← hδ2]; exact E0_.p4
    have a2 := b1.aw (w := "errors") (lo := 0) (hi := 3)
    have b2 : E0_ m δ3 (ps_ m (ps_ m δ1 0 "notes" 2 4) 1 "errors" 0 3) := by rw [← hδ3]; exact a2.1.tr E0_.p4
    have a3 := b2.aw (w := "drift") (lo := 0) (hi := 50)
    have b3 : E0_ m δ4 (ps_ m (ps_ m (ps_ m δ1 0 "notes" 2 4) 1 "errors" 0 3) 2 "drift" 0 50) := by rw [← hδ4]; exact a3.1.tr E0_.p4
    have a4 := b3.aw (w := "slip") (lo := 0) (hi := 100)
    have hE5 : E0_ m δ5 (pl1_ m δ1) := by rw [← hδ5]; exact a4.1.tr E0_.p4
    have hv5 : ∀ j, iv_ (pl1_ m δ1) (m + 4) j = if j = 3 then awv_ m δ4 "slip" 0 100 else if j = 2 then awv_ m δ3 "drift" 0 50 else if j = 1 then awv_ m δ2 "errors" 0 3 else if j = 0 then awv_ m δ1 "notes" 2 4 else iv_ δ1 (m + 4) j := fun j => by
      unfold pl1_
      rw [ps_4, ps_4, ps_4, ps_4, a4.2, a3.2, a2.2]
    clear a1 a2 a3 a4 b1 b2 b3
    refine g_is4 dX3_postLine_56 (by decide) rfl ?_
    refine g_al0 dX3_postLine_58 ?_
    refine g_callV0I (d' := 2) lk_X3_36 hR.h3 rfl (rm_lt (by decide) (by decide)) (Nat.le_of_ble_eq_true rfl) dX3_postLine_59 ?_
    have hfail : iv_ δ5 m 13 ≠ 0 → RR_ G m X ρ σ' (pl_ m γ) o' T (c - 3) (d - 23) := fun w => by
      rcases hδ0 with ⟨z, q⟩ | ⟨z, q⟩
      · rw [show pl_ m γ = wr_ m γ 3 (iv_ γ m 4) from if_pos q]
        have n0 : iv_ δ0 m 13 ≠ 0 := by rw [z, wr_13 (Or.inl h0)]; decide
        have e1 : δ1 = δ0 := by rw [← hδ1]; exact onn_id n0
        have n1 : iv_ δ1 m 13 ≠ 0 := by rw [e1]; exact n0
        have e2 := hid1 n1
        have e3 := hid2 (by rw [e2]; exact n1)
        have e4 := hid3 (by rw [e3, e2]; exact n1)
        have e5 := hid4 (by rw [e4, e3, e2]; exact n1)
        rw [e5, e4, e3, e2, e1, z] at hR
        exact hR.wk (by omega) (by omega)
      · have e1 : δ1 = nxt_ m γ := by rw [← hδ1, z]; exact if_pos h0
        have n5 : iv_ (pl1_ m (nxt_ m γ)) m 13 ≠ 0 := by rw [← e1, hE5 m 13 (Or.inl rfl)]; exact w
        have e : pl_ m γ = pl1_ m (nxt_ m γ) := by
          unfold pl_
          rw [if_neg (by omega), if_neg n5]
        rw [e, ← e1]
        exact (hR.eq0 hE5 (fun q => absurd q w)).wk (by omega) (by omega)
    refine xr_isOver hR (fun z59 hz59 => ?_)
    refine g_if_eq (tgt := 66) dX3_postLine_62 (by decide) (by omega) (fun h62 => ?_) (fun h62 => ?_)
    · have h5 : iv_ δ5 m 13 = 0 := by omega
      have k4 := hok4 h5
      have k3 := hok3 k4.1
      have k2 := hok2 k3.1
      have k1 := hok1 k2.1
      have hP := hR.P h5
      have hP1 : rv_ σ' ρ 1 = some (xP_ T) := by rw [hR.1.2.2.2.2.2.2]; exact hR.1.2.2.2.2.1
      have hgP : (gH_ G).size ≤ xP_ T := by have := hP.1.1.2.1; have := hR.ge; omega
      have hq : δ0 = γ ∧ iv_ γ (m + 4) 9 ≠ 1 := by
        rcases hδ0 with ⟨z, q⟩ | ⟨z, q⟩
        · exfalso
          have n0 : iv_ δ0 m 13 ≠ 0 := by rw [z, wr_13 (Or.inl h0)]; decide
          rw [← hδ1, onn_id n0] at k1
          exact n0 k1.1
        · exact ⟨z, q⟩
      have e1 : δ1 = nxt_ m γ := by rw [← hδ1, hq.1]; exact if_pos h0
      have g41 : ∀ j, iv_ δ1 (m + 4) j = iv_ γ (m + 4) j := fun j => by rw [e1]; exact (nxt_f0 γ).f4 j
      have g45 : ∀ j, iv_ δ5 (m + 4) j = iv_ γ (m + 4) j := fun j => by rw [h44, h43, h42, h41, g41]
      have hz0 : iv_ γ (m + 4) 9 = 0 ∧ iv_ γ (m + 4) 4 = 0 ∧ iv_ γ (m + 4) 5 = 0 ∧ iv_ γ (m + 4) 6 = 0 ∧ iv_ γ (m + 4) 7 = 0 ∧ iv_ γ (m + 4) 8 = 0 := by
        rcases hF.1 with z | z
        · exact z
        · exact absurd z.1 hq.2
      have hres : pl_ m γ = pi_ (pl1_ m δ1) (m + 4) 9 1 := by
        unfold pl_
        rw [if_neg hq.2, ← e1, if_pos (by rw [hE5 m 13 (Or.inl rfl)]; exact h5)]
      have hfin := hR.pst (δ := pi_ (pl1_ m δ1) (m + 4) 9 1) (x0 := x1) (x1 := x2) (x2 := x3) (x3 := x4) h5 (hE5.tr E0_.p4) (by rw [g45, g45, g45, g45, g45]; exact hz0.2) (fun j j0 j1 => by rw [iv_pi, if_neg (fun w => j1 w.2), hv5, if_neg (by omega), if_neg (by omega), if_neg (by omega), if_neg (by omega), g45, g41]) (by rw [iv_pi, if_pos ⟨rfl, rfl⟩]) ⟨by rw [iv_pi, if_neg (fun w => by omega), hv5, if_neg (by decide), if_neg (by decide), if_neg (by decide), if_pos rfl]; exact k1.2.symm, by rw [iv_pi, if_neg (fun w => by omega), hv5, if_neg (by decide), if_neg (by decide), if_pos rfl]; exact k2.2.symm, by rw [iv_pi, if_neg (fun w => by omega), hv5, if_neg (by decide), if_pos rfl]; exact k3.2.symm, by rw [iv_pi, if_neg (fun w => by omega), hv5, if_pos rfl]; exact k4.2.symm⟩ ⟨hxb1, hxb2, hxb3, hxb4⟩
      have hxP := hR.1.2.2.2.2.2.2
      have hol := hG.ol (by have := hlt0 _ _ hR0.h3; omega)
      refine g_al0 dX3_postLine_66 ?_
      refine f_getA 1 fk_X3_12 rfl hR.h3 (fun _ _ => rfl) hP1 dX3_postLine_67 ?_
      refine g_il1 dX3_postLine_70 ?_
      refine f_putI 0 fk_X3_101 rfl (nf_ rfl rfl) hP.1.sh hgP rfl dX3_postLine_71 ?_
      refine g_al0 dX3_postLine_74 ?_
      refine f_getA 1 fk_X3_12 rfl hR.h3 (fun _ _ => rfl) hP1 dX3_postLine_75 ?_
      refine g_il2 dX3_postLine_78 ?_
      refine f_putI 1 fk_X3_159 rfl (nf_ rfl rfl) hP.1.sh hgP rfl dX3_postLine_79 ?_
      refine g_al0 dX3_postLine_82 ?_
      refine f_getA 1 fk_X3_12 rfl hR.h3 (fun _ _ => rfl) hP1 dX3_postLine_83 ?_
      refine g_il3 dX3_postLine_86 ?_
      refine f_putI 2 fk_X3_161 rfl (nf_ rfl rfl) hP.1.sh hgP rfl dX3_postLine_87 ?_
      refine g_al0 dX3_postLine_90 ?_
      refine f_getA 1 fk_X3_12 rfl hR.h3 (fun _ _ => rfl) hP1 dX3_postLine_91 ?_
      refine g_il4 dX3_postLine_94 ?_
      refine f_putI 3 fk_X3_163 rfl (nf_ rfl rfl) hP.1.sh hgP rfl dX3_postLine_96 ?_
      exact g_vret rfl dX3_postLine_99 ⟨rfl, hQ _ _ T (by rw [hres]; exact hfin.wk (by omega) (by omega)) hTD (hol.tr ⟨fun b hb => ⟨rfl, fun k => ⟨rfl, by rw [iv_pi, if_neg (by omega), iv_pi, if_neg (by omega), iv_pi, if_neg (by omega), iv_pi, if_neg (by omega)]⟩⟩, Nat.le_refl _, Nat.le_refl _⟩)⟩
    exact g_vret rfl dX3_postLine_65 ⟨rfl, hQ _ _ T (hfail (by omega)) hTD (hG.ol (by have := hlt0 _ _ hR0.h3; omega))⟩
  refine g_al0 dX3_postLine_0 ?_
  refine f_getA 1 fk_X3_12 rfl hR.h3 (fun _ _ => rfl) hP1 dX3_postLine_1 ?_
  refine f_getv 0 fk_X3_101 rfl hP.1.sh (fun _ _ => rfl) hP.1.n0 dX3_postLine_4 ?_
  refine g_if_le (tgt := 15) dX3_postLine_7 (by decide) (by omega) (fun h7 => ?_) (fun h7 => ?_)
  · exact J15 σ γ _ hR GX_.rf (Or.inr ⟨rfl, fun q => by rcases hF.1 with z | z; (omega); (have := z.2.1.1; omega)⟩)
  refine g_al0 dX3_postLine_10 ?_
  refine g_iconst dX3_postLine_11 ?_
  refine g_callV1V (d' := 3) lk_X3_56 hR.h3 rfl (rm_lt (by decide) (by decide)) (Nat.le_of_ble_eq_true rfl) dX3_postLine_12 ?_
  refine xr_wrong hR (by omega) (fun σ' hR4 hg4 => ?_)
  exact J15 σ' _ _ hR4 hg4 (Or.inl ⟨rfl, by rcases hF.1 with z | z; (have := hN.mp z.1; omega); (exact z.1)⟩)
end
