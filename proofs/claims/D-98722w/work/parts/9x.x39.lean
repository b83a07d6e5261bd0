/-! THE COMPONENT: a line; all lines. Written by mod/m9x.py -/
set_option maxRecDepth 100000
section
variable {G : JG} {m X ρ o : Nat} {σ σ' γ : JH} {T : XT} {c d : Int}
theorem rl_ln : (ln_ m γ = 0 → rl_ m γ = pl_ m γ) ∧ (ln_ m γ = 1 → rl_ m γ = il_ m (bgs_ m γ (ca1_ (iv_ γ (m + 4) 4) 7))) ∧ (ln_ m γ = 2 → rl_ m γ = wl_ m (bgs_ m γ (ca1_ (iv_ γ (m + 4) 5) 12))) ∧ (ln_ m γ = 3 → rl_ m γ = hl_ m (bgs_ m γ (ca1_ (iv_ γ (m + 4) 6) 5))) ∧ (ln_ m γ = 4 → rl_ m γ = bl2_ m (bgs_ m γ (ca1_ (iv_ γ (m + 4) 7) 8))) ∧ (ln_ m γ = 5 → rl_ m γ = sl_ m (bgs_ m γ (ca1_ (iv_ γ (m + 4) 8) 8))) ∧ (ln_ m γ = -1 → rl_ m γ = wr_ m γ 1 (iv_ γ m 4)) := by
  unfold ln_ rl_
  by_cases w0 : iw_ m γ (("post".length : Nat) : Int) (tx_ "post") = true
  · rw [if_pos w0, if_pos w0]
    exact ⟨fun _ => rfl, fun h => by omega, fun h => by omega, fun h => by omega, fun h => by omega, fun h => by omega, fun h => by omega⟩
  rw [if_neg w0, if_neg w0]
  by_cases w1 : iw_ m γ (("island".length : Nat) : Int) (tx_ "island") = true
  · rw [if_pos w1, if_pos w1]
    exact ⟨fun h => by omega, fun _ => rfl, fun h => by omega, fun h => by omega, fun h => by omega, fun h => by omega, fun h => by omega⟩
  rw [if_neg w1, if_neg w1]
  by_cases w2 : iw_ m γ (("way".length : Nat) : Int) (tx_ "way") = true
  · rw [if_pos w2, if_pos w2]
    exact ⟨fun h => by omega, fun h => by omega, fun _ => rfl, fun h => by omega, fun h => by omega, fun h => by omega, fun h => by omega⟩
  rw [if_neg w2, if_neg w2]
  by_cases w3 : iw_ m γ (("whale".length : Nat) : Int) (tx_ "whale") = true
  · rw [if_pos w3, if_pos w3]
    exact ⟨fun h => by omega, fun h => by omega, fun h => by omega, fun _ => rfl, fun h => by omega, fun h => by omega, fun h => by omega⟩
  rw [if_neg w3, if_neg w3]
  by_cases w4 : iw_ m γ (("box".length : Nat) : Int) (tx_ "box") = true
  · rw [if_pos w4, if_pos w4]
    exact ⟨fun h => by omega, fun h => by omega, fun h => by omega, fun h => by omega, fun _ => rfl, fun h => by omega, fun h => by omega⟩
  rw [if_neg w4, if_neg w4]
  by_cases w5 : iw_ m γ (("spout".length : Nat) : Int) (tx_ "spout") = true
  · rw [if_pos w5, if_pos w5]
    exact ⟨fun h => by omega, fun h => by omega, fun h => by omega, fun h => by omega, fun h => by omega, fun _ => rfl, fun h => by omega⟩
  rw [if_neg w5, if_neg w5]
  exact ⟨fun h => by omega, fun h => by omega, fun h => by omega, fun h => by omega, fun h => by omega, fun h => by omega, fun _ => rfl⟩
theorem FW_.n9 {f : Int → Int} (h : FW_ f) (h9 : f 9 = 1) : f 9 = 0 ↔ f 0 = 0 := by
  have := (h.rx h9).1
  omega
theorem rl_g9 (h : RB_ G m γ) (h0 : iv_ γ m 13 = 0) (hF : FW_ (iv_ γ (m + 4))) (q : iv_ (rl_ m γ) m 13 = 0) : iv_ (rl_ m γ) (m + 4) 9 = 1 := by
  have hF' := rl_FW h h0 hF q
  rcases hF'.1 with z | z
  · exfalso
    have hc := hF.cn
    have hl := rl_ln (m := m) (γ := γ)
    have hr : -1 ≤ ln_ m γ ∧ ln_ m γ ≤ 5 := by
      unfold ln_
      split
      · omega
      · split
        · omega
        · split
          · omega
          · split
            · omega
            · split
              · omega
              · split <;> omega
    have key : ∀ {k b : Int}, iv_ (bgs_ m γ (ca1_ (iv_ γ (m + 4) k) b)) m 13 = 0 → iv_ (bgs_ m γ (ca1_ (iv_ γ (m + 4) k) b)) (m + 4) k < b := fun {k b} hb => bgs_lt h0 rfl hb
    have hs : ln_ m γ = -1 ∨ ln_ m γ = 0 ∨ ln_ m γ = 1 ∨ ln_ m γ = 2 ∨ ln_ m γ = 3 ∨ ln_ m γ = 4 ∨ ln_ m γ = 5 := by omega
    rcases hs with w | w | w | w | w | w | w
    · rw [hl.2.2.2.2.2.2 w] at q
      exact wr_no h.2.1.2.2.1 q
    · rw [hl.1 w] at q z
      have e := (pl_ok h h0 q).2.2
      rw [e, iv_pi, if_pos ⟨rfl, rfl⟩] at z
      omega
    · rw [hl.2.1 w] at q z
      have r := bgs_RS h (ca1_ (iv_ γ (m + 4) 4) 7)
      have qb := (il_RS r.1 (bgs_lt h0 rfl)).2.ok q
      obtain ⟨-, z1, L, -, -, e⟩ := il_ok r.1 qb q
      rw [e 4, if_pos rfl, bgs_4] at z
      omega
    · rw [hl.2.2.1 w] at q z
      have r := bgs_RS h (ca1_ (iv_ γ (m + 4) 5) 12)
      have qb := (wl_RS r.1 (bgs_lt h0 rfl)).2.ok q
      obtain ⟨a, b, d, o, -, -, -, -, -, -, e⟩ := wl_ok r.1 qb q
      rw [e 5, if_pos rfl, bgs_4] at z
      omega
    · rw [hl.2.2.2.1 w] at q z
      have r := bgs_RS h (ca1_ (iv_ γ (m + 4) 6) 5)
      have qb := (hl_RS r.1 (bgs_lt h0 rfl)).2.ok q
      obtain ⟨-, k, a, e', l, -, -, -, -, -, e⟩ := hl_ok r.1 qb (key qb) q
      rw [e 6, if_pos rfl, bgs_4] at z
      omega
    · rw [hl.2.2.2.2.1 w] at q z
      have r := bgs_RS h (ca1_ (iv_ γ (m + 4) 7) 8)
      have qb := (bl2_RS r.1 (bgs_lt h0 rfl)).2.ok q
      obtain ⟨-, a, b, w', d, -, -, -, -, e⟩ := bl2_ok r.1 qb (key qb) q
      rw [e 7, if_pos rfl, bgs_4] at z
      omega
    · rw [hl.2.2.2.2.2.1 w] at q z
      have r := bgs_RS h (ca1_ (iv_ γ (m + 4) 8) 8)
      have qb := (sl_RS r.1 (bgs_lt h0 rfl)).2.ok q
      obtain ⟨w', i, d, -, -, -, e⟩ := sl_ok r.1 qb (key qb) q
      rw [e 8, if_pos rfl, bgs_4] at z
      omega
  · exact z.1
theorem xr_line  {Q : JH → Prop} (hR : RR_ G m X ρ σ γ o T c d) (hcd : 3 ≤ c ∧ 23 ≤ d) (h0 : iv_ γ m 13 = 0) (hF : FW_ (iv_ γ (m + 4))) (hN : iv_ γ (m + 4) 9 = 0 ↔ iv_ γ (m + 4) 0 = 0) (hTD : TD_ G T) (hE : sh_ σ (gK_ G 100) = some (.inr (3, 0))) (hZ : LZ_ G σ) (hk23 : gK_ G 23 < (gH_ G).size)
    (hQ : ∀ σ' o' T', RR_ G m X ρ σ' (rl_ m γ) o' T' (c - 3) (d - 23) → TD_ G T' → OL_ ρ σ σ' → Q σ') : CallV_ G 15 yX3_line cX3_line 3 none [A_ (some ρ)] σ Q := by
  refine call_go [some (A_ (some ρ)), none, none] (by decide) (Nat.le_of_ble_eq_true rfl) rfl ?_
  have hP := hR.P h0
  have hP1 : rv_ σ ρ 1 = some (xP_ T) := by rw [hR.1.2.2.2.2.2.2]; exact hR.1.2.2.2.2.1
  have hcn0 := hF.cn
  have hge := hR.ge
  have hk100 : gK_ G 100 < (gH_ G).size := hP.2.2.2.2.2.1
  refine g_lt (fun hlt0 hgz0 => ?_)
  have hρ0 := hlt0 _ _ hR.h3
  obtain ⟨so, pl, nu, wd, wv, n, w, hK, hTM0⟩ := hR.2.2.2.1
  have hKb := hK.2.2.2.2.2.2.2.2.2.1
  have J169 : ∀ σ' v1 (idx : Int), RR_ G m X ρ σ' γ o T c d → GX_ ρ σ σ' → (-1 ≤ idx ∧ idx ≤ 5) → ln_ m γ = idx → GoM_ G 15 yX3_line cX3_line 3 none σ (fun v σ' => v = none ∧ Q σ') 169 [some (A_ (some ρ)), v1, some (I_ idx)] [] σ' := by
    intro σ' v1 idx hR hG hix hidx
    have hl := rl_ln (m := m) (γ := γ)
    have hol : OL_ ρ σ σ' := hG.ol (by omega)
    have hE1 : sh_ σ' (gK_ G 100) = some (.inr (3, 0)) := (hol.1 _ (by omega)).1.trans hE
    have hZ1 : LZ_ G σ' := ⟨((hol.1 _ (by omega)).2 2).2.trans hZ.1, ((hol.1 _ (by omega)).2 3).2.trans hZ.2⟩
    refine g_il2 dX3_line_169 ?_
    by_cases c170_0 : idx = 0
    · refine g_tabIn (tgt := 208) dX3_line_170 (by omega) (by omega) (by rw [c170_0]; rfl) (by decide) ?_
      refine g_al0 dX3_line_208 ?_
      refine g_callV0V (d' := 14) lk_X3_134 hR.h3 rfl (rm_lt (by decide) (by decide)) (Nat.le_of_ble_eq_true rfl) dX3_line_209 ?_
      refine xr_postLine hR hcd h0 hF hN hTD hE1 (fun σ5 o5 T5 hR5 hTD5 hol5 => ?_)
      rw [← hl.1 (by omega)] at hR5
      refine g_goto (tgt := 255) dX3_line_212 (by decide) ?_
      exact g_vret rfl dX3_line_255 ⟨rfl, hQ _ _ _ hR5 hTD5 (hol.tr hol5)⟩
    by_cases c170_1 : idx = 1
    · refine g_tabIn (tgt := 215) dX3_line_170 (by omega) (by omega) (by rw [c170_1]; rfl) (by decide) ?_
      refine g_al0 dX3_line_215 ?_
      refine g_callV0V (d' := 13) lk_X3_137 hR.h3 rfl (rm_lt (by decide) (by decide)) (Nat.le_of_ble_eq_true rfl) dX3_line_216 ?_
      refine xr_islandLine hR hcd h0 hF hN hTD hE1 (fun σ5 o5 T5 hR5 hTD5 hol5 => ?_)
      rw [← hl.2.1 (by omega)] at hR5
      refine g_goto (tgt := 255) dX3_line_219 (by decide) ?_
      exact g_vret rfl dX3_line_255 ⟨rfl, hQ _ _ _ hR5 hTD5 (hol.tr hol5)⟩
    by_cases c170_2 : idx = 2
    · refine g_tabIn (tgt := 222) dX3_line_170 (by omega) (by omega) (by rw [c170_2]; rfl) (by decide) ?_
      refine g_al0 dX3_line_222 ?_
      refine g_callV0V (d' := 14) lk_X3_140 hR.h3 rfl (rm_lt (by decide) (by decide)) (Nat.le_of_ble_eq_true rfl) dX3_line_223 ?_
      refine xr_way hR hcd h0 hF hN hTD hE1 (fun σ5 o5 T5 hR5 hTD5 hol5 => ?_)
      rw [← hl.2.2.1 (by omega)] at hR5
      refine g_goto (tgt := 255) dX3_line_226 (by decide) ?_
      exact g_vret rfl dX3_line_255 ⟨rfl, hQ _ _ _ hR5 hTD5 (hol.tr hol5)⟩
    by_cases c170_3 : idx = 3
    · refine g_tabIn (tgt := 229) dX3_line_170 (by omega) (by omega) (by rw [c170_3]; rfl) (by decide) ?_
      refine g_al0 dX3_line_229 ?_
      refine g_callV0V (d' := 14) lk_X3_142 hR.h3 rfl (rm_lt (by decide) (by decide)) (Nat.le_of_ble_eq_true rfl) dX3_line_230 ?_
      refine xr_whale hR hcd h0 hF hN hTD hE1 hZ1 hk23 (fun σ5 o5 T5 hR5 hTD5 hol5 => ?_)
      rw [← hl.2.2.2.1 (by omega)] at hR5
      refine g_goto (tgt := 255) dX3_line_233 (by decide) ?_
      exact g_vret rfl dX3_line_255 ⟨rfl, hQ _ _ _ hR5 hTD5 (hol.tr hol5)⟩
    by_cases c170_4 : idx = 4
    · refine g_tabIn (tgt := 236) dX3_line_170 (by omega) (by omega) (by rw [c170_4]; rfl) (by decide) ?_
      refine g_al0 dX3_line_236 ?_
      refine g_callV0V (d' := 14) lk_X3_144 hR.h3 rfl (rm_lt (by decide) (by decide)) (Nat.le_of_ble_eq_true rfl) dX3_line_237 ?_
      refine xr_box hR hcd h0 hF hN hTD hE1 (fun σ5 o5 T5 hR5 hTD5 hol5 => ?_)
      rw [← hl.2.2.2.2.1 (by omega)] at hR5
      refine g_goto (tgt := 255) dX3_line_240 (by decide) ?_
      exact g_vret rfl dX3_line_255 ⟨rfl, hQ _ _ _ hR5 hTD5 (hol.tr hol5)⟩
    by_cases c170_5 : idx = 5
    · refine g_tabIn (tgt := 243) dX3_line_170 (by omega) (by omega) (by rw [c170_5]; rfl) (by decide) ?_
      refine g_al0 dX3_line_243 ?_
      refine g_callV0V (d' := 14) lk_X3_146 hR.h3 rfl (rm_lt (by decide) (by decide)) (Nat.le_of_ble_eq_true rfl) dX3_line_244 ?_
      refine xr_spout hR hcd h0 hF hN hTD hE1 (fun σ5 o5 T5 hR5 hTD5 hol5 => ?_)
      rw [← hl.2.2.2.2.2.1 (by omega)] at hR5
      refine g_goto (tgt := 255) dX3_line_247 (by decide) ?_
      exact g_vret rfl dX3_line_255 ⟨rfl, hQ _ _ _ hR5 hTD5 (hol.tr hol5)⟩
    refine g_tabOut (tgt := 250) dX3_line_170 (by omega) (by omega) (by decide) ?_
    refine g_al0 dX3_line_250 ?_
    refine g_iconst dX3_line_251 ?_
    refine g_callV1V (d' := 3) lk_X3_56 hR.h3 rfl (rm_lt (by decide) (by decide)) (Nat.le_of_ble_eq_true rfl) dX3_line_252 ?_
    refine xr_wrong hR (by omega) (fun σ5 hR5 hg5 => ?_)
    rw [← hl.2.2.2.2.2.2 (by omega)] at hR5
    have hR5 := hR5.wk (c' := c - 3) (d' := d - 23) (by omega) (by omega)
    have hTD5 := hTD
    have hol5 : OL_ ρ σ' σ5 := hg5.ol (by have := hG.2.2; omega)
    exact g_vret rfl dX3_line_255 ⟨rfl, hQ _ _ _ hR5 hTD5 (hol.tr hol5)⟩
  refine g_lt (fun hlt hgz => ?_)
  refine g_al0 dX3_line_0 ?_
  refine f_getA 2 fk_X3_28 rfl hR.h3 (fun _ _ => rfl) hR.1.2.2.2.2.2.1 dX3_line_1 ?_
  refine f_getv 0 fk_X3_46 rfl hK.1 (fun _ _ => rfl) hK.2.2.1 dX3_line_4 ?_
  refine g_iconst dX3_line_7 ?_
  refine g_icmp_ne (tgt := 21) dX3_line_8 (by decide) (by omega) (fun h8 => ?_) (fun h8 => ?_)
  · obtain ⟨v0, hS0, hk0, hv0⟩ := hR.2.2.2.2.2.2.1 23 _ rfl
    refine g_ldcS (j := 23) rfl dX3_line_21 ?_
    refine g_as1 dX3_line_23 (by decide) rfl ?_
    refine g_iconst dX3_line_24 ?_
    refine g_is2 dX3_line_25 (by decide) rfl ?_
    refine g_al1 dX3_line_26 ?_
    refine g_callV0I (d' := 5) lk_X3_115 hS0.1 rfl (rm_lt (by decide) (by decide)) (Nat.le_of_ble_eq_true rfl) dX3_line_27 ?_
    refine js_hash0 hS0.1 hZ.1 hZ.2 ?_
    refine g_look (z := 0) dX3_line_30 (by decide) (by decide) (off := 139) (by decide) (tgt := 169) (by decide) ?_
    exact J169 σ _ (-1) hR GX_.rf (by decide) (((hTM0 h0).nw h0 (by omega)).2)
  refine g_al0 dX3_line_11 ?_
  refine f_getA 2 fk_X3_28 rfl hR.h3 (fun _ _ => rfl) hR.1.2.2.2.2.2.1 dX3_line_12 ?_
  refine f_getA 3 fk_X3_78 rfl hK.1 (fun _ _ => rfl) hK.2.2.2.2.2.1 dX3_line_15 ?_
  refine g_goto (tgt := 23) dX3_line_18 (by decide) ?_
  refine g_as1 dX3_line_23 (by decide) rfl ?_
  refine g_iconst dX3_line_24 ?_
  refine g_is2 dX3_line_25 (by decide) rfl ?_
  refine g_al1 dX3_line_26 ?_
  refine g_callV0I (d' := 5) lk_X3_115 hK.2.2.2.2.2.2.1.1 rfl (rm_lt (by decide) (by decide)) (Nat.le_of_ble_eq_true rfl) dX3_line_27 ?_
  have h2 : so = 2 := by omega
  have h9 := hK.2.2.2.2.2.2.2.2.1 h2
  refine js_hash hK.2.2.2.2.2.2.1 (by have := hR.ge; omega) h9.2.2 (fun σ1 hF hH => ?_)
  obtain ⟨hR, hG, hK⟩ := hR.hsh hK hTM0 hF (fun q => absurd h2 q) (fun _ => hH) hlt
  have hS := hK.2.2.2.2.2.2.1
  by_cases c72 : w32_ (hsh_ w n) = -1179387371
  · refine g_look (z := -1179387371) dX3_line_30 (by decide) (by rw [w32_id]; exact c72) rfl (tgt := 102) (by decide) ?_
    refine g_al1 dX3_line_102 ?_
    refine g_ldcS (j := 25) rfl dX3_line_103 ?_
    refine g_callV1I (d' := 3) lk_X3_121 hS.1 rfl (rm_lt (by decide) (by decide)) (Nat.le_of_ble_eq_true rfl) dX3_line_105 ?_
    obtain ⟨vl, hSl, -, -⟩ := hR.2.2.2.2.2.2.1 25 _ rfl
    refine js_equals hS hSl (fun z hz => ?_)
    refine g_if_eq (tgt := 169) dX3_line_108 (by decide) (by omega) (fun h108 => ?_) (fun h108 => ?_)
    · exact J169 σ1 _ (-1) hR hG (by decide) (by rw [(hTM0 h0).ln h0 h2]; exact (by unfold lnq_; rw [if_neg (by rw [kh_post (by rw [c72]; decide)]; decide)]; rw [if_neg (by rw [wq_no (by rcases hz with z | z; (omega); (exact z.2))]; decide)]; rw [if_neg (by rw [kh_way (by rw [c72]; decide)]; decide)]; rw [if_neg (by rw [kh_whale (by rw [c72]; decide)]; decide)]; rw [if_neg (by rw [kh_box (by rw [c72]; decide)]; decide)]; rw [if_neg (by rw [kh_spout (by rw [c72]; decide)]; decide)]))
    refine g_iconst dX3_line_111 ?_
    refine g_is2 dX3_line_112 (by decide) rfl ?_
    refine g_goto (tgt := 169) dX3_line_113 (by decide) ?_
    exact J169 σ1 _ 1 hR hG (by decide) (by rw [(hTM0 h0).ln h0 h2]; exact (by unfold lnq_; rw [if_neg (by rw [kh_post (by rw [c72]; decide)]; decide)]; rw [if_pos (wq_iff.mpr (by rcases hz with z | z; (exact z.2); (omega)))]))
  by_cases c114 : w32_ (hsh_ w n) = 97739
  · refine g_look (z := 97739) dX3_line_30 (by decide) (by rw [w32_id]; exact c114) rfl (tgt := 144) (by decide) ?_
    refine g_al1 dX3_line_144 ?_
    refine g_ldcS (j := 28) rfl dX3_line_145 ?_
    refine g_callV1I (d' := 3) lk_X3_121 hS.1 rfl (rm_lt (by decide) (by decide)) (Nat.le_of_ble_eq_true rfl) dX3_line_147 ?_
    obtain ⟨vl, hSl, -, -⟩ := hR.2.2.2.2.2.2.1 28 _ rfl
    refine js_equals hS hSl (fun z hz => ?_)
    refine g_if_eq (tgt := 169) dX3_line_150 (by decide) (by omega) (fun h150 => ?_) (fun h150 => ?_)
    · exact J169 σ1 _ (-1) hR hG (by decide) (by rw [(hTM0 h0).ln h0 h2]; exact (by unfold lnq_; rw [if_neg (by rw [kh_post (by rw [c114]; decide)]; decide)]; rw [if_neg (by rw [kh_island (by rw [c114]; decide)]; decide)]; rw [if_neg (by rw [kh_way (by rw [c114]; decide)]; decide)]; rw [if_neg (by rw [kh_whale (by rw [c114]; decide)]; decide)]; rw [if_neg (by rw [wq_no (by rcases hz with z | z; (omega); (exact z.2))]; decide)]; rw [if_neg (by rw [kh_spout (by rw [c114]; decide)]; decide)]))
    refine g_iconst dX3_line_153 ?_
    refine g_is2 dX3_line_154 (by decide) rfl ?_
    refine g_goto (tgt := 169) dX3_line_155 (by decide) ?_
    exact J169 σ1 _ 4 hR hG (by decide) (by rw [(hTM0 h0).ln h0 h2]; exact (by unfold lnq_; rw [if_neg (by rw [kh_post (by rw [c114]; decide)]; decide)]; rw [if_neg (by rw [kh_island (by rw [c114]; decide)]; decide)]; rw [if_neg (by rw [kh_way (by rw [c114]; decide)]; decide)]; rw [if_neg (by rw [kh_whale (by rw [c114]; decide)]; decide)]; rw [if_pos (wq_iff.mpr (by rcases hz with z | z; (exact z.2); (omega)))]))
  by_cases c86 : w32_ (hsh_ w n) = 117487
  · refine g_look (z := 117487) dX3_line_30 (by decide) (by rw [w32_id]; exact c86) rfl (tgt := 116) (by decide) ?_
    refine g_al1 dX3_line_116 ?_
    refine g_ldcS (j := 26) rfl dX3_line_117 ?_
    refine g_callV1I (d' := 3) lk_X3_121 hS.1 rfl (rm_lt (by decide) (by decide)) (Nat.le_of_ble_eq_true rfl) dX3_line_119 ?_
    obtain ⟨vl, hSl, -, -⟩ := hR.2.2.2.2.2.2.1 26 _ rfl
    refine js_equals hS hSl (fun z hz => ?_)
    refine g_if_eq (tgt := 169) dX3_line_122 (by decide) (by omega) (fun h122 => ?_) (fun h122 => ?_)
    · exact J169 σ1 _ (-1) hR hG (by decide) (by rw [(hTM0 h0).ln h0 h2]; exact (by unfold lnq_; rw [if_neg (by rw [kh_post (by rw [c86]; decide)]; decide)]; rw [if_neg (by rw [kh_island (by rw [c86]; decide)]; decide)]; rw [if_neg (by rw [wq_no (by rcases hz with z | z; (omega); (exact z.2))]; decide)]; rw [if_neg (by rw [kh_whale (by rw [c86]; decide)]; decide)]; rw [if_neg (by rw [kh_box (by rw [c86]; decide)]; decide)]; rw [if_neg (by rw [kh_spout (by rw [c86]; decide)]; decide)]))
    refine g_iconst dX3_line_125 ?_
    refine g_is2 dX3_line_126 (by decide) rfl ?_
    refine g_goto (tgt := 169) dX3_line_127 (by decide) ?_
    exact J169 σ1 _ 2 hR hG (by decide) (by rw [(hTM0 h0).ln h0 h2]; exact (by unfold lnq_; rw [if_neg (by rw [kh_post (by rw [c86]; decide)]; decide)]; rw [if_neg (by rw [kh_island (by rw [c86]; decide)]; decide)]; rw [if_pos (wq_iff.mpr (by rcases hz with z | z; (exact z.2); (omega)))]))
  by_cases c58 : w32_ (hsh_ w n) = 3446944
  · refine g_look (z := 3446944) dX3_line_30 (by decide) (by rw [w32_id]; exact c58) rfl (tgt := 88) (by decide) ?_
    refine g_al1 dX3_line_88 ?_
    refine g_ldcS (j := 24) rfl dX3_line_89 ?_
    refine g_callV1I (d' := 3) lk_X3_121 hS.1 rfl (rm_lt (by decide) (by decide)) (Nat.le_of_ble_eq_true rfl) dX3_line_91 ?_
    obtain ⟨vl, hSl, -, -⟩ := hR.2.2.2.2.2.2.1 24 _ rfl
    refine js_equals hS hSl (fun z hz => ?_)
    refine g_if_eq (tgt := 169) dX3_line_94 (by decide) (by omega) (fun h94 => ?_) (fun h94 => ?_)
    · exact J169 σ1 _ (-1) hR hG (by decide) (by rw [(hTM0 h0).ln h0 h2]; exact (by unfold lnq_; rw [if_neg (by rw [wq_no (by rcases hz with z | z; (omega); (exact z.2))]; decide)]; rw [if_neg (by rw [kh_island (by rw [c58]; decide)]; decide)]; rw [if_neg (by rw [kh_way (by rw [c58]; decide)]; decide)]; rw [if_neg (by rw [kh_whale (by rw [c58]; decide)]; decide)]; rw [if_neg (by rw [kh_box (by rw [c58]; decide)]; decide)]; rw [if_neg (by rw [kh_spout (by rw [c58]; decide)]; decide)]))
    refine g_iconst dX3_line_97 ?_
    refine g_is2 dX3_line_98 (by decide) rfl ?_
    refine g_goto (tgt := 169) dX3_line_99 (by decide) ?_
    exact J169 σ1 _ 0 hR hG (by decide) (by rw [(hTM0 h0).ln h0 h2]; exact (by unfold lnq_; rw [if_pos (wq_iff.mpr (by rcases hz with z | z; (exact z.2); (omega)))]))
  by_cases c128 : w32_ (hsh_ w n) = 109651921
  · refine g_look (z := 109651921) dX3_line_30 (by decide) (by rw [w32_id]; exact c128) rfl (tgt := 158) (by decide) ?_
    refine g_al1 dX3_line_158 ?_
    refine g_ldcS (j := 29) rfl dX3_line_159 ?_
    refine g_callV1I (d' := 3) lk_X3_121 hS.1 rfl (rm_lt (by decide) (by decide)) (Nat.le_of_ble_eq_true rfl) dX3_line_161 ?_
    obtain ⟨vl, hSl, -, -⟩ := hR.2.2.2.2.2.2.1 29 _ rfl
    refine js_equals hS hSl (fun z hz => ?_)
    refine g_if_eq (tgt := 169) dX3_line_164 (by decide) (by omega) (fun h164 => ?_) (fun h164 => ?_)
    · exact J169 σ1 _ (-1) hR hG (by decide) (by rw [(hTM0 h0).ln h0 h2]; exact (by unfold lnq_; rw [if_neg (by rw [kh_post (by rw [c128]; decide)]; decide)]; rw [if_neg (by rw [kh_island (by rw [c128]; decide)]; decide)]; rw [if_neg (by rw [kh_way (by rw [c128]; decide)]; decide)]; rw [if_neg (by rw [kh_whale (by rw [c128]; decide)]; decide)]; rw [if_neg (by rw [kh_box (by rw [c128]; decide)]; decide)]; rw [if_neg (by rw [wq_no (by rcases hz with z | z; (omega); (exact z.2))]; decide)]))
    refine g_iconst dX3_line_167 ?_
    refine g_is2 dX3_line_168 (by decide) rfl ?_
    exact J169 σ1 _ 5 hR hG (by decide) (by rw [(hTM0 h0).ln h0 h2]; exact (by unfold lnq_; rw [if_neg (by rw [kh_post (by rw [c128]; decide)]; decide)]; rw [if_neg (by rw [kh_island (by rw [c128]; decide)]; decide)]; rw [if_neg (by rw [kh_way (by rw [c128]; decide)]; decide)]; rw [if_neg (by rw [kh_whale (by rw [c128]; decide)]; decide)]; rw [if_neg (by rw [kh_box (by rw [c128]; decide)]; decide)]; rw [if_pos (wq_iff.mpr (by rcases hz with z | z; (exact z.2); (omega)))]))
  by_cases c100 : w32_ (hsh_ w n) = 113093929
  · refine g_look (z := 113093929) dX3_line_30 (by decide) (by rw [w32_id]; exact c100) rfl (tgt := 130) (by decide) ?_
    refine g_al1 dX3_line_130 ?_
    refine g_ldcS (j := 27) rfl dX3_line_131 ?_
    refine g_callV1I (d' := 3) lk_X3_121 hS.1 rfl (rm_lt (by decide) (by decide)) (Nat.le_of_ble_eq_true rfl) dX3_line_133 ?_
    obtain ⟨vl, hSl, -, -⟩ := hR.2.2.2.2.2.2.1 27 _ rfl
    refine js_equals hS hSl (fun z hz => ?_)
    refine g_if_eq (tgt := 169) dX3_line_136 (by decide) (by omega) (fun h136 => ?_) (fun h136 => ?_)
    · exact J169 σ1 _ (-1) hR hG (by decide) (by rw [(hTM0 h0).ln h0 h2]; exact (by unfold lnq_; rw [if_neg (by rw [kh_post (by rw [c100]; decide)]; decide)]; rw [if_neg (by rw [kh_island (by rw [c100]; decide)]; decide)]; rw [if_neg (by rw [kh_way (by rw [c100]; decide)]; decide)]; rw [if_neg (by rw [wq_no (by rcases hz with z | z; (omega); (exact z.2))]; decide)]; rw [if_neg (by rw [kh_box (by rw [c100]; decide)]; decide)]; rw [if_neg (by rw [kh_spout (by rw [c100]; decide)]; decide)]))
    refine g_iconst dX3_line_139 ?_
    refine g_is2 dX3_line_140 (by decide) rfl ?_
    refine g_goto (tgt := 169) dX3_line_141 (by decide) ?_
    exact J169 σ1 _ 3 hR hG (by decide) (by rw [(hTM0 h0).ln h0 h2]; exact (by unfold lnq_; rw [if_neg (by rw [kh_post (by rw [c100]; decide)]; decide)]; rw [if_neg (by rw [kh_island (by rw [c100]; decide)]; decide)]; rw [if_neg (by rw [kh_way (by rw [c100]; decide)]; decide)]; rw [if_pos (wq_iff.mpr (by rcases hz with z | z; (exact z.2); (omega)))]))
  refine g_look (z := w32_ (hsh_ w n)) dX3_line_30 (by decide) (w32_id _) (off := 139) (by simp only [Op.lookupswitch.offset]; rw [if_neg (Ne.symm c72)]; rw [if_neg (Ne.symm c114)]; rw [if_neg (Ne.symm c86)]; rw [if_neg (Ne.symm c58)]; rw [if_neg (Ne.symm c128)]; rw [if_neg (Ne.symm c100)]) (tgt := 169) (by decide) ?_
  exact J169 σ1 _ (-1) hR hG (by decide) (by rw [(hTM0 h0).ln h0 h2]; exact (by unfold lnq_; rw [if_neg (by rw [kh_post c58]; decide)]; rw [if_neg (by rw [kh_island c72]; decide)]; rw [if_neg (by rw [kh_way c86]; decide)]; rw [if_neg (by rw [kh_whale c100]; decide)]; rw [if_neg (by rw [kh_box c114]; decide)]; rw [if_neg (by rw [kh_spout c128]; decide)]))
end
