/-! THE COMPONENT: words that choose; a whale's kind. Written by mod/m9s.py -/
set_option maxRecDepth 100000
/-- the literal "" has its hash -/
def LZ_ (G : JG) (σ : JH) : Prop := iv_ σ (gK_ G 23) 2 = 0 ∧ iv_ σ (gK_ G 23) 3 = 1
def kdq_ (n : Int) (w : Int → Int) : Int := if wq_ n w "calf" = true then 0 else if wq_ n w "cow" = true then 1 else if wq_ n w "bull" = true then 2 else if wq_ n w "old" = true then 3 else -1
def lnq_ (n : Int) (w : Int → Int) : Int := if wq_ n w "post" = true then 0 else if wq_ n w "island" = true then 1 else if wq_ n w "way" = true then 2 else if wq_ n w "whale" = true then 3 else if wq_ n w "box" = true then 4 else if wq_ n w "spout" = true then 5 else -1
def ln_ (m : Nat) (γ : JH) : Int := if iw_ m γ (("post".length : Nat) : Int) (tx_ "post") = true then 0 else if iw_ m γ (("island".length : Nat) : Int) (tx_ "island") = true then 1 else if iw_ m γ (("way".length : Nat) : Int) (tx_ "way") = true then 2 else if iw_ m γ (("whale".length : Nat) : Int) (tx_ "whale") = true then 3 else if iw_ m γ (("box".length : Nat) : Int) (tx_ "box") = true then 4 else if iw_ m γ (("spout".length : Nat) : Int) (tx_ "spout") = true then 5 else -1
section
variable {G : JG} {m X ρ o : Nat} {σ σ' γ : JH} {T : XT} {c d : Int}
theorem TM_.kd {so pl nu : Int} {n : Nat} {w : Int → Int} (h : TM_ m γ so pl nu n w) (h0 : iv_ γ m 13 = 0) (h2 : so = 2) : kd_ m γ = kdq_ n w := by
  unfold kd_ kdq_
  rw [h.iw _ h0 h2, h.iw _ h0 h2, h.iw _ h0 h2, h.iw _ h0 h2]
theorem TM_.ln {so pl nu : Int} {n : Nat} {w : Int → Int} (h : TM_ m γ so pl nu n w) (h0 : iv_ γ m 13 = 0) (h2 : so = 2) : ln_ m γ = lnq_ n w := by
  unfold ln_ lnq_
  rw [h.iw _ h0 h2, h.iw _ h0 h2, h.iw _ h0 h2, h.iw _ h0 h2, h.iw _ h0 h2, h.iw _ h0 h2]
theorem TM_.nw {so pl nu : Int} {n : Nat} {w : Int → Int} (h : TM_ m γ so pl nu n w) (h0 : iv_ γ m 13 = 0) (h2 : so ≠ 2) : kd_ m γ = -1 ∧ ln_ m γ = -1 := by
  have e : ∀ s : String, ¬ iw_ m γ ((s.length : Nat) : Int) (tx_ s) = true := fun s q => h2 ((h.iwg h0).mp q).1
  unfold kd_ ln_
  constructor
  · rw [if_neg (e _), if_neg (e _), if_neg (e _), if_neg (e _)]
  · rw [if_neg (e _), if_neg (e _), if_neg (e _), if_neg (e _), if_neg (e _), if_neg (e _)]
def kdg_ (m : Nat) (γ : JH) : JH := if kd_ m γ < 0 then wr_ m γ 1 (iv_ γ m 4) else γ
theorem kdg_ok (h : iv_ γ m 13 = 0 → 0 ≤ kd_ m γ) : kdg_ m γ = γ := by
  unfold kdg_
  split
  · exact wr_id (fun q => by have := h q; omega)
  · rfl
theorem kdg_no (h : iv_ γ m 13 = 0 → kd_ m γ < 0) : kdg_ m γ = wr_ m γ 1 (iv_ γ m 4) := by
  unfold kdg_
  split
  · rfl
  · exact (wr_id (fun q => by have := h q; omega)).symm
theorem kh_calf {n : Nat} {w : Int → Int} (h : w32_ (hsh_ w n) ≠ 3045976) : wq_ n w "calf" = false := by
  cases e : wq_ n w "calf" with
  | false => rfl
  | true => exact absurd ((wq_hash e).trans (by decide +kernel)) h
theorem kh_cow {n : Nat} {w : Int → Int} (h : w32_ (hsh_ w n) ≠ 98699) : wq_ n w "cow" = false := by
  cases e : wq_ n w "cow" with
  | false => rfl
  | true => exact absurd ((wq_hash e).trans (by decide +kernel)) h
theorem kh_bull {n : Nat} {w : Int → Int} (h : w32_ (hsh_ w n) ≠ 3035411) : wq_ n w "bull" = false := by
  cases e : wq_ n w "bull" with
  | false => rfl
  | true => exact absurd ((wq_hash e).trans (by decide +kernel)) h
theorem kh_old {n : Nat} {w : Int → Int} (h : w32_ (hsh_ w n) ≠ 110119) : wq_ n w "old" = false := by
  cases e : wq_ n w "old" with
  | false => rfl
  | true => exact absurd ((wq_hash e).trans (by decide +kernel)) h
theorem xr_kind {wn : Nat} {Q : Option Nat → JH → Prop} (hR : RR_ G m X ρ σ γ o T c d) (hcd : 1 ≤ c ∧ 4 ≤ d) (hZ : LZ_ G σ)
    (hQ : ∀ σ' b κ, κ < 4 → RR_ G m X ρ σ' (kdg_ m γ) o T (c - 1) (d - 4) → BT_ σ' T b (11 + κ) (some wn) (fun _ => 0) → GX_ ρ σ σ' → (sz_ σ ≤ b ∧ (gH_ G).size ≤ b) → (iv_ γ m 13 = 0 → 0 ≤ kd_ m γ → kd_ m γ = (κ : Int)) → Q (some b) σ') : CallA_ G 6 yX3_kind cX3_kind 4 (some (.object "WhalePost$Whale")) [A_ (some ρ), A_ (some wn)] σ Q := by
  refine call_go [some (A_ (some ρ)), some (A_ (some wn)), none, none] (by decide) (Nat.le_of_ble_eq_true rfl) rfl ?_
  obtain ⟨so, pl, nu, wd, wv, n, w, hK, hTM0⟩ := hR.2.2.2.1
  have hKb := hK.2.2.2.2.2.2.2.2.2.1
  have J125 : ∀ σ' v2 (idx : Int), RR_ G m X ρ σ' γ o T c d → GX_ ρ σ σ' → (-1 ≤ idx ∧ idx ≤ 3) → (iv_ γ m 13 = 0 → kd_ m γ = idx) → GoM_ G 6 yX3_kind cX3_kind 4 (some (.object "WhalePost$Whale")) σ (fun v σ' => ∃ x : Option Nat, v = some (A_ x) ∧ Q x σ') 125 [some (A_ (some ρ)), some (A_ (some wn)), v2, some (I_ idx)] [] σ' := by
    intro σ' v2 idx hR hG hix hidx
    refine g_il3 dX3_kind_125 ?_
    by_cases c126_0 : idx = 0
    · refine g_tabIn (tgt := 156) dX3_kind_126 (by omega) (by omega) (by rw [c126_0]; rfl) (by decide) ?_
      refine g_lt (fun hlt hgz => ?_)
      refine g_new (ci := 11) nq_X3_237 ⟨_, rfl⟩ (by have := hR.rm0; omega) dX3_kind_156 ?_
      have hnw := BT_.new (cb := 11) (n := 4) hR hlt
      have hBT := hnw.2.1
      have hbz : sz_ σ ≤ sz_ σ' := hG.2.2.1
      have hR := hnw.1
      have hG := hG.tr (hnw.2.2.gx (fun _ _ _ q => q.elim))
      have hgb := hgz
      generalize nw_ σ' (.inl 11) 4 = σn at hBT hR hG ⊢
      generalize sz_ σ' = b at hBT hbz hgb ⊢
      refine g_dup dX3_kind_159 rfl ?_
      refine g_al1 dX3_kind_160 ?_
      refine g_callI1 (d' := 3) lk_X3_239 (rm_lt (by decide) (by decide)) (Nat.le_of_ble_eq_true rfl) dX3_kind_161 ?_
      refine xi_calf hBT.1 hgb ?_
      have hpi := hBT.pr (x := some wn) (by decide) hR
      have hG := hG.pr (a := b) (k := 0) (r := some wn) (Or.inr (Or.inr hbz))
      exact g_aret rfl (Or.inl ⟨_, rfl⟩) dX3_kind_164 ⟨_, rfl, hQ _ b 0 (by decide) (by rw [kdg_ok (fun q => by have := hidx q; omega)]; exact hpi.1.wk (by omega) (by omega)) hpi.2.1 hG ⟨hbz, hgb⟩ (fun q => by have := hidx q; omega)⟩
    by_cases c126_1 : idx = 1
    · refine g_tabIn (tgt := 165) dX3_kind_126 (by omega) (by omega) (by rw [c126_1]; rfl) (by decide) ?_
      refine g_lt (fun hlt hgz => ?_)
      refine g_new (ci := 12) nq_X3_241 ⟨_, rfl⟩ (by have := hR.rm0; omega) dX3_kind_165 ?_
      have hnw := BT_.new (cb := 12) (n := 4) hR hlt
      have hBT := hnw.2.1
      have hbz : sz_ σ ≤ sz_ σ' := hG.2.2.1
      have hR := hnw.1
      have hG := hG.tr (hnw.2.2.gx (fun _ _ _ q => q.elim))
      have hgb := hgz
      generalize nw_ σ' (.inl 12) 4 = σn at hBT hR hG ⊢
      generalize sz_ σ' = b at hBT hbz hgb ⊢
      refine g_dup dX3_kind_168 rfl ?_
      refine g_al1 dX3_kind_169 ?_
      refine g_callI1 (d' := 2) lk_X3_243 (rm_lt (by decide) (by decide)) (Nat.le_of_ble_eq_true rfl) dX3_kind_170 ?_
      refine xi_whale1 hBT.1 hgb ?_
      have hpi := hBT.pr (x := some wn) (by decide) hR
      have hG := hG.pr (a := b) (k := 0) (r := some wn) (Or.inr (Or.inr hbz))
      exact g_aret rfl (Or.inl ⟨_, rfl⟩) dX3_kind_173 ⟨_, rfl, hQ _ b 1 (by decide) (by rw [kdg_ok (fun q => by have := hidx q; omega)]; exact hpi.1.wk (by omega) (by omega)) hpi.2.1 hG ⟨hbz, hgb⟩ (fun q => by have := hidx q; omega)⟩
    by_cases c126_2 : idx = 2
    · refine g_tabIn (tgt := 174) dX3_kind_126 (by omega) (by omega) (by rw [c126_2]; rfl) (by decide) ?_
      refine g_lt (fun hlt hgz => ?_)
      refine g_new (ci := 13) nq_X3_244 ⟨_, rfl⟩ (by have := hR.rm0; omega) dX3_kind_174 ?_
      have hnw := BT_.new (cb := 13) (n := 4) hR hlt
      have hBT := hnw.2.1
      have hbz : sz_ σ ≤ sz_ σ' := hG.2.2.1
      have hR := hnw.1
      have hG := hG.tr (hnw.2.2.gx (fun _ _ _ q => q.elim))
      have hgb := hgz
      generalize nw_ σ' (.inl 13) 4 = σn at hBT hR hG ⊢
      generalize sz_ σ' = b at hBT hbz hgb ⊢
      refine g_dup dX3_kind_177 rfl ?_
      refine g_al1 dX3_kind_178 ?_
      refine g_callI1 (d' := 3) lk_X3_246 (rm_lt (by decide) (by decide)) (Nat.le_of_ble_eq_true rfl) dX3_kind_179 ?_
      refine xi_bull hBT.1 hgb ?_
      have hpi := hBT.pr (x := some wn) (by decide) hR
      have hG := hG.pr (a := b) (k := 0) (r := some wn) (Or.inr (Or.inr hbz))
      exact g_aret rfl (Or.inl ⟨_, rfl⟩) dX3_kind_182 ⟨_, rfl, hQ _ b 2 (by decide) (by rw [kdg_ok (fun q => by have := hidx q; omega)]; exact hpi.1.wk (by omega) (by omega)) hpi.2.1 hG ⟨hbz, hgb⟩ (fun q => by have := hidx q; omega)⟩
    by_cases c126_3 : idx = 3
    · refine g_tabIn (tgt := 183) dX3_kind_126 (by omega) (by omega) (by rw [c126_3]; rfl) (by decide) ?_
      refine g_lt (fun hlt hgz => ?_)
      refine g_new (ci := 14) nq_X3_247 ⟨_, rfl⟩ (by have := hR.rm0; omega) dX3_kind_183 ?_
      have hnw := BT_.new (cb := 14) (n := 4) hR hlt
      have hBT := hnw.2.1
      have hbz : sz_ σ ≤ sz_ σ' := hG.2.2.1
      have hR := hnw.1
      have hG := hG.tr (hnw.2.2.gx (fun _ _ _ q => q.elim))
      have hgb := hgz
      generalize nw_ σ' (.inl 14) 4 = σn at hBT hR hG ⊢
      generalize sz_ σ' = b at hBT hbz hgb ⊢
      refine g_dup dX3_kind_186 rfl ?_
      refine g_al1 dX3_kind_187 ?_
      refine g_callI1 (d' := 3) lk_X3_249 (rm_lt (by decide) (by decide)) (Nat.le_of_ble_eq_true rfl) dX3_kind_188 ?_
      refine xi_old hBT.1 hgb ?_
      have hpi := hBT.pr (x := some wn) (by decide) hR
      have hG := hG.pr (a := b) (k := 0) (r := some wn) (Or.inr (Or.inr hbz))
      exact g_aret rfl (Or.inl ⟨_, rfl⟩) dX3_kind_191 ⟨_, rfl, hQ _ b 3 (by decide) (by rw [kdg_ok (fun q => by have := hidx q; omega)]; exact hpi.1.wk (by omega) (by omega)) hpi.2.1 hG ⟨hbz, hgb⟩ (fun q => by have := hidx q; omega)⟩
    refine g_tabOut (tgt := 192) dX3_kind_126 (by omega) (by omega) (by decide) ?_
    refine g_al0 dX3_kind_192 ?_
    refine g_iconst dX3_kind_193 ?_
    refine g_callV1V (d' := 3) lk_X3_56 hR.h3 rfl (rm_lt (by decide) (by decide)) (Nat.le_of_ble_eq_true rfl) dX3_kind_194 ?_
    refine xr_wrong hR (by omega) (fun σ' hR4 hg4 => ?_)
    have hR := hR4
    have hG := hG.tr hg4
    refine g_lt (fun hlt hgz => ?_)
    refine g_new (ci := 12) nq_X3_241 ⟨_, rfl⟩ (by have := hR.rm0; omega) dX3_kind_197 ?_
    have hnw := BT_.new (cb := 12) (n := 4) hR hlt
    have hBT := hnw.2.1
    have hbz : sz_ σ ≤ sz_ σ' := hG.2.2.1
    have hR := hnw.1
    have hG := hG.tr (hnw.2.2.gx (fun _ _ _ q => q.elim))
    have hgb := hgz
    generalize nw_ σ' (.inl 12) 4 = σn at hBT hR hG ⊢
    generalize sz_ σ' = b at hBT hbz hgb ⊢
    refine g_dup dX3_kind_200 rfl ?_
    refine g_al1 dX3_kind_201 ?_
    refine g_callI1 (d' := 2) lk_X3_243 (rm_lt (by decide) (by decide)) (Nat.le_of_ble_eq_true rfl) dX3_kind_202 ?_
    refine xi_whale1 hBT.1 hgb ?_
    have hpi := hBT.pr (x := some wn) (by decide) hR
    have hG := hG.pr (a := b) (k := 0) (r := some wn) (Or.inr (Or.inr hbz))
    exact g_aret rfl (Or.inl ⟨_, rfl⟩) dX3_kind_205 ⟨_, rfl, hQ _ b 1 (by decide) (by rw [kdg_no (fun q => by have := hidx q; omega)]; exact hpi.1.wk (by omega) (by omega)) hpi.2.1 hG ⟨hbz, hgb⟩ (fun q => by have := hidx q; omega)⟩
  refine g_lt (fun hlt hgz => ?_)
  refine g_al0 dX3_kind_0 ?_
  refine f_getA 2 fk_X3_28 rfl hR.h3 (fun _ _ => rfl) hR.1.2.2.2.2.2.1 dX3_kind_1 ?_
  refine f_getv 0 fk_X3_46 rfl hK.1 (fun _ _ => rfl) hK.2.2.1 dX3_kind_4 ?_
  refine g_iconst dX3_kind_7 ?_
  refine g_icmp_ne (tgt := 21) dX3_kind_8 (by decide) (by omega) (fun h8 => ?_) (fun h8 => ?_)
  · obtain ⟨v0, hS0, hk0, hv0⟩ := hR.2.2.2.2.2.2.1 23 _ rfl
    refine g_ldcS (j := 23) rfl dX3_kind_21 ?_
    refine g_as2 dX3_kind_23 (by decide) rfl ?_
    refine g_iconst dX3_kind_24 ?_
    refine g_is3 dX3_kind_25 (by decide) rfl ?_
    refine g_al2 dX3_kind_26 ?_
    refine g_callV0I (d' := 5) lk_X3_115 hS0.1 rfl (rm_lt (by decide) (by decide)) (Nat.le_of_ble_eq_true rfl) dX3_kind_27 ?_
    refine js_hash0 hS0.1 hZ.1 hZ.2 ?_
    refine g_look (z := 0) dX3_kind_30 (by decide) (by decide) (off := 95) (by decide) (tgt := 125) (by decide) ?_
    exact J125 σ _ (-1) hR GX_.rf (by decide) (fun q => ((hTM0 q).nw q (by omega)).1)
  refine g_al0 dX3_kind_11 ?_
  refine f_getA 2 fk_X3_28 rfl hR.h3 (fun _ _ => rfl) hR.1.2.2.2.2.2.1 dX3_kind_12 ?_
  refine f_getA 3 fk_X3_78 rfl hK.1 (fun _ _ => rfl) hK.2.2.2.2.2.1 dX3_kind_15 ?_
  refine g_goto (tgt := 23) dX3_kind_18 (by decide) ?_
  refine g_as2 dX3_kind_23 (by decide) rfl ?_
  refine g_iconst dX3_kind_24 ?_
  refine g_is3 dX3_kind_25 (by decide) rfl ?_
  refine g_al2 dX3_kind_26 ?_
  refine g_callV0I (d' := 5) lk_X3_115 hK.2.2.2.2.2.2.1.1 rfl (rm_lt (by decide) (by decide)) (Nat.le_of_ble_eq_true rfl) dX3_kind_27 ?_
  have h2 : so = 2 := by omega
  have h9 := hK.2.2.2.2.2.2.2.2.1 h2
  refine js_hash hK.2.2.2.2.2.2.1 (by have := hR.ge; omega) h9.2.2 (fun σ1 hF hH => ?_)
  obtain ⟨hR, hG, hK⟩ := hR.hsh hK hTM0 hF (fun q => absurd h2 q) (fun _ => hH) hlt
  have hS := hK.2.2.2.2.2.2.1
  by_cases c56 : w32_ (hsh_ w n) = 98699
  · refine g_look (z := 98699) dX3_kind_30 (by decide) (by rw [w32_id]; exact c56) rfl (tgt := 86) (by decide) ?_
    refine g_al2 dX3_kind_86 ?_
    refine g_ldcS (j := 37) rfl dX3_kind_87 ?_
    refine g_callV1I (d' := 3) lk_X3_121 hS.1 rfl (rm_lt (by decide) (by decide)) (Nat.le_of_ble_eq_true rfl) dX3_kind_89 ?_
    obtain ⟨vl, hSl, -, -⟩ := hR.2.2.2.2.2.2.1 37 _ rfl
    refine js_equals hS hSl (fun z hz => ?_)
    refine g_if_eq (tgt := 125) dX3_kind_92 (by decide) (by omega) (fun h92 => ?_) (fun h92 => ?_)
    · exact J125 σ1 _ (-1) hR hG (by decide) (fun q => by rw [(hTM0 q).kd q h2]; exact (by unfold kdq_; rw [if_neg (by rw [kh_calf (by rw [c56]; decide)]; decide)]; rw [if_neg (by rw [wq_no (by rcases hz with z | z; (omega); (exact z.2))]; decide)]; rw [if_neg (by rw [kh_bull (by rw [c56]; decide)]; decide)]; rw [if_neg (by rw [kh_old (by rw [c56]; decide)]; decide)]))
    refine g_iconst dX3_kind_95 ?_
    refine g_is3 dX3_kind_96 (by decide) rfl ?_
    refine g_goto (tgt := 125) dX3_kind_97 (by decide) ?_
    exact J125 σ1 _ 1 hR hG (by decide) (fun q => by rw [(hTM0 q).kd q h2]; exact (by unfold kdq_; rw [if_neg (by rw [kh_calf (by rw [c56]; decide)]; decide)]; rw [if_pos (wq_iff.mpr (by rcases hz with z | z; (exact z.2); (omega)))]))
  by_cases c84 : w32_ (hsh_ w n) = 110119
  · refine g_look (z := 110119) dX3_kind_30 (by decide) (by rw [w32_id]; exact c84) rfl (tgt := 114) (by decide) ?_
    refine g_al2 dX3_kind_114 ?_
    refine g_ldcS (j := 39) rfl dX3_kind_115 ?_
    refine g_callV1I (d' := 3) lk_X3_121 hS.1 rfl (rm_lt (by decide) (by decide)) (Nat.le_of_ble_eq_true rfl) dX3_kind_117 ?_
    obtain ⟨vl, hSl, -, -⟩ := hR.2.2.2.2.2.2.1 39 _ rfl
    refine js_equals hS hSl (fun z hz => ?_)
    refine g_if_eq (tgt := 125) dX3_kind_120 (by decide) (by omega) (fun h120 => ?_) (fun h120 => ?_)
    · exact J125 σ1 _ (-1) hR hG (by decide) (fun q => by rw [(hTM0 q).kd q h2]; exact (by unfold kdq_; rw [if_neg (by rw [kh_calf (by rw [c84]; decide)]; decide)]; rw [if_neg (by rw [kh_cow (by rw [c84]; decide)]; decide)]; rw [if_neg (by rw [kh_bull (by rw [c84]; decide)]; decide)]; rw [if_neg (by rw [wq_no (by rcases hz with z | z; (omega); (exact z.2))]; decide)]))
    refine g_iconst dX3_kind_123 ?_
    refine g_is3 dX3_kind_124 (by decide) rfl ?_
    exact J125 σ1 _ 3 hR hG (by decide) (fun q => by rw [(hTM0 q).kd q h2]; exact (by unfold kdq_; rw [if_neg (by rw [kh_calf (by rw [c84]; decide)]; decide)]; rw [if_neg (by rw [kh_cow (by rw [c84]; decide)]; decide)]; rw [if_neg (by rw [kh_bull (by rw [c84]; decide)]; decide)]; rw [if_pos (wq_iff.mpr (by rcases hz with z | z; (exact z.2); (omega)))]))
  by_cases c70 : w32_ (hsh_ w n) = 3035411
  · refine g_look (z := 3035411) dX3_kind_30 (by decide) (by rw [w32_id]; exact c70) rfl (tgt := 100) (by decide) ?_
    refine g_al2 dX3_kind_100 ?_
    refine g_ldcS (j := 38) rfl dX3_kind_101 ?_
    refine g_callV1I (d' := 3) lk_X3_121 hS.1 rfl (rm_lt (by decide) (by decide)) (Nat.le_of_ble_eq_true rfl) dX3_kind_103 ?_
    obtain ⟨vl, hSl, -, -⟩ := hR.2.2.2.2.2.2.1 38 _ rfl
    refine js_equals hS hSl (fun z hz => ?_)
    refine g_if_eq (tgt := 125) dX3_kind_106 (by decide) (by omega) (fun h106 => ?_) (fun h106 => ?_)
    · exact J125 σ1 _ (-1) hR hG (by decide) (fun q => by rw [(hTM0 q).kd q h2]; exact (by unfold kdq_; rw [if_neg (by rw [kh_calf (by rw [c70]; decide)]; decide)]; rw [if_neg (by rw [kh_cow (by rw [c70]; decide)]; decide)]; rw [if_neg (by rw [wq_no (by rcases hz with z | z; (omega); (exact z.2))]; decide)]; rw [if_neg (by rw [kh_old (by rw [c70]; decide)]; decide)]))
    refine g_iconst dX3_kind_109 ?_
    refine g_is3 dX3_kind_110 (by decide) rfl ?_
    refine g_goto (tgt := 125) dX3_kind_111 (by decide) ?_
    exact J125 σ1 _ 2 hR hG (by decide) (fun q => by rw [(hTM0 q).kd q h2]; exact (by unfold kdq_; rw [if_neg (by rw [kh_calf (by rw [c70]; decide)]; decide)]; rw [if_neg (by rw [kh_cow (by rw [c70]; decide)]; decide)]; rw [if_pos (wq_iff.mpr (by rcases hz with z | z; (exact z.2); (omega)))]))
  by_cases c42 : w32_ (hsh_ w n) = 3045976
  · refine g_look (z := 3045976) dX3_kind_30 (by decide) (by rw [w32_id]; exact c42) rfl (tgt := 72) (by decide) ?_
    refine g_al2 dX3_kind_72 ?_
    refine g_ldcS (j := 36) rfl dX3_kind_73 ?_
    refine g_callV1I (d' := 3) lk_X3_121 hS.1 rfl (rm_lt (by decide) (by decide)) (Nat.le_of_ble_eq_true rfl) dX3_kind_75 ?_
    obtain ⟨vl, hSl, -, -⟩ := hR.2.2.2.2.2.2.1 36 _ rfl
    refine js_equals hS hSl (fun z hz => ?_)
    refine g_if_eq (tgt := 125) dX3_kind_78 (by decide) (by omega) (fun h78 => ?_) (fun h78 => ?_)
    · exact J125 σ1 _ (-1) hR hG (by decide) (fun q => by rw [(hTM0 q).kd q h2]; exact (by unfold kdq_; rw [if_neg (by rw [wq_no (by rcases hz with z | z; (omega); (exact z.2))]; decide)]; rw [if_neg (by rw [kh_cow (by rw [c42]; decide)]; decide)]; rw [if_neg (by rw [kh_bull (by rw [c42]; decide)]; decide)]; rw [if_neg (by rw [kh_old (by rw [c42]; decide)]; decide)]))
    refine g_iconst dX3_kind_81 ?_
    refine g_is3 dX3_kind_82 (by decide) rfl ?_
    refine g_goto (tgt := 125) dX3_kind_83 (by decide) ?_
    exact J125 σ1 _ 0 hR hG (by decide) (fun q => by rw [(hTM0 q).kd q h2]; exact (by unfold kdq_; rw [if_pos (wq_iff.mpr (by rcases hz with z | z; (exact z.2); (omega)))]))
  refine g_look (z := w32_ (hsh_ w n)) dX3_kind_30 (by decide) (w32_id _) (off := 95) (by simp only [Op.lookupswitch.offset]; rw [if_neg (Ne.symm c56)]; rw [if_neg (Ne.symm c84)]; rw [if_neg (Ne.symm c70)]; rw [if_neg (Ne.symm c42)]) (tgt := 125) (by decide) ?_
  exact J125 σ1 _ (-1) hR hG (by decide) (fun q => by rw [(hTM0 q).kd q h2]; exact (by unfold kdq_; rw [if_neg (by rw [kh_calf c42]; decide)]; rw [if_neg (by rw [kh_cow c56]; decide)]; rw [if_neg (by rw [kh_bull c70]; decide)]; rw [if_neg (by rw [kh_old c84]; decide)]))
end
