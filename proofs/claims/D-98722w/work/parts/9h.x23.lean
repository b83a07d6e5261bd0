/-! THE COMPONENT: the reader's words and numbers. Written by mod/m9h.py -/
set_option maxRecDepth 100000
section
variable {G : JG} {m X ρ o : Nat} {σ σ' γ : JH} {T : XT} {c d : Int}
/-- a word is a literal -/
def wq_ (n : Int) (w : Int → Int) (s : String) : Bool := decide (n = ((s.length : Nat) : Int)) && al_ (fun k => decide (w k = tx_ s k)) n
theorem wq_iff {n : Nat} {w : Int → Int} {s : String} : wq_ n w s = true ↔ n = s.length ∧ ∀ k, 0 ≤ k → k < (n : Int) → w k = tx_ s k := by
  unfold wq_
  rw [Bool.and_eq_true, decide_eq_true_eq, al_iff (by omega)]
  constructor
  · rintro ⟨h1, h2⟩
    exact ⟨by omega, fun k k0 k1 => of_decide_eq_true (h2 k k0 k1)⟩
  · rintro ⟨h1, h2⟩
    exact ⟨by omega, fun k k0 k1 => decide_eq_true (h2 k k0 k1)⟩
theorem wq_no {n : Nat} {w : Int → Int} {s : String} (h : ¬ (n = s.length ∧ ∀ k, 0 ≤ k → k < (n : Int) → w k = tx_ s k)) : wq_ n w s = false := by
  cases e : wq_ n w s with
  | false => rfl
  | true => exact absurd (wq_iff.mp e) h
theorem wq_hash {n : Nat} {w : Int → Int} {s : String} (h : wq_ n w s = true) : w32_ (hsh_ w n) = w32_ (hsh_ (tx_ s) ((s.length : Nat) : Int)) := by
  obtain ⟨h1, h2⟩ := wq_iff.mp h
  rw [hsh_cg h2, h1]
theorem w32_id (x : Int) : (Int32.ofInt (w32_ x)).toInt = w32_ x := by unfold w32_; rw [Int32.ofInt_toInt]
/-- it is a word of the tongue -/
def kwc_ (n : Int) (w : Int → Int) : Bool := wq_ n w "post" || wq_ n w "island" || wq_ n w "way" || wq_ n w "whale" || wq_ n w "box" || wq_ n w "spout"
theorem kwc_no {n : Int} {w : Int → Int} (h0 : wq_ n w "post" = false) (h1 : wq_ n w "island" = false) (h2 : wq_ n w "way" = false) (h3 : wq_ n w "whale" = false) (h4 : wq_ n w "box" = false) (h5 : wq_ n w "spout" = false) : kwc_ n w = false := by
  unfold kwc_
  rw [h0, h1, h2, h3, h4, h5]
  rfl
theorem kwc_yes {n : Int} {w : Int → Int} (h : wq_ n w "post" = true ∨ wq_ n w "island" = true ∨ wq_ n w "way" = true ∨ wq_ n w "whale" = true ∨ wq_ n w "box" = true ∨ wq_ n w "spout" = true) : kwc_ n w = true := by
  unfold kwc_
  rcases h with h | h | h | h | h | h <;> simp [h]
theorem kh_post {n : Nat} {w : Int → Int} (h : w32_ (hsh_ w n) ≠ 3446944) : wq_ n w "post" = false := by
  cases e : wq_ n w "post" with
  | false => rfl
  | true => exact absurd ((wq_hash e).trans (by decide +kernel)) h
theorem kh_island {n : Nat} {w : Int → Int} (h : w32_ (hsh_ w n) ≠ -1179387371) : wq_ n w "island" = false := by
  cases e : wq_ n w "island" with
  | false => rfl
  | true => exact absurd ((wq_hash e).trans (by decide +kernel)) h
theorem kh_way {n : Nat} {w : Int → Int} (h : w32_ (hsh_ w n) ≠ 117487) : wq_ n w "way" = false := by
  cases e : wq_ n w "way" with
  | false => rfl
  | true => exact absurd ((wq_hash e).trans (by decide +kernel)) h
theorem kh_whale {n : Nat} {w : Int → Int} (h : w32_ (hsh_ w n) ≠ 113093929) : wq_ n w "whale" = false := by
  cases e : wq_ n w "whale" with
  | false => rfl
  | true => exact absurd ((wq_hash e).trans (by decide +kernel)) h
theorem kh_box {n : Nat} {w : Int → Int} (h : w32_ (hsh_ w n) ≠ 97739) : wq_ n w "box" = false := by
  cases e : wq_ n w "box" with
  | false => rfl
  | true => exact absurd ((wq_hash e).trans (by decide +kernel)) h
theorem kh_spout {n : Nat} {w : Int → Int} (h : w32_ (hsh_ w n) ≠ 109651921) : wq_ n w "spout" = false := by
  cases e : wq_ n w "spout" with
  | false => rfl
  | true => exact absurd ((wq_hash e).trans (by decide +kernel)) h
theorem TM_.iwg {so pl nu : Int} {n n' : Nat} {w c' : Int → Int} (h : TM_ m γ so pl nu n w) (h0 : iv_ γ m 13 = 0) : iw_ m γ (n' : Int) c' = true ↔ so = 2 ∧ n = n' ∧ ∀ k, 0 ≤ k → k < (n : Int) → w k = c' k := by
  unfold iw_
  rw [Bool.and_eq_true, decide_eq_true_eq, al_iff (by omega)]
  constructor
  · rintro ⟨⟨-, h1, h2⟩, h3⟩
    rcases h.2 with q | q | q | q | q
    · omega
    · omega
    · refine ⟨q.2.1, by omega, fun k k0 k1 => ?_⟩
      rw [q.2.2.2 k k0 k1]
      exact of_decide_eq_true (h3 k k0 (by omega))
    · omega
    · omega
  · rintro ⟨h1, h2, h3⟩
    rcases h.2 with q | q | q | q | q
    · omega
    · omega
    · refine ⟨⟨h0, q.1, by omega⟩, fun k k0 k1 => decide_eq_true ?_⟩
      rw [← q.2.2.2 k k0 (by omega)]
      exact h3 k k0 (by omega)
    · omega
    · omega
theorem TM_.iw {so pl nu : Int} {n : Nat} {w : Int → Int} (s : String) (h : TM_ m γ so pl nu n w) (h0 : iv_ γ m 13 = 0) (h2 : so = 2) : iw_ m γ ((s.length : Nat) : Int) (tx_ s) = wq_ n w s := by
  rw [Bool.eq_iff_iff, h.iwg h0, wq_iff]
  constructor
  · rintro ⟨-, q⟩; exact q
  · exact fun q => ⟨h2, q⟩
theorem TM_.kw {so pl nu : Int} {n : Nat} {w : Int → Int} (h : TM_ m γ so pl nu n w) (h0 : iv_ γ m 13 = 0) (h2 : so = 2) : kw_ m γ = kwc_ n w := by
  unfold kw_ kwc_
  rw [h.iw _ h0 h2, h.iw _ h0 h2, h.iw _ h0 h2, h.iw _ h0 h2, h.iw _ h0 h2, h.iw _ h0 h2]
theorem TM_.isn {so pl nu : Int} {n : Nat} {w : Int → Int} (h : TM_ m γ so pl nu n w) (h0 : iv_ γ m 13 = 0) : isn_ m γ ↔ (so = 2 ∧ kwc_ n w = false) := by
  have hs : so = 2 ↔ iv_ γ m 6 = 2 := by rcases h.2 with q | q | q | q | q <;> omega
  constructor
  · rintro ⟨q1, q2⟩
    have h2 := hs.mpr q1
    exact ⟨h2, by rw [← h.kw h0 h2]; exact q2⟩
  · rintro ⟨q1, q2⟩
    exact ⟨hs.mp q1, by rw [h.kw h0 q1]; exact q2⟩
theorem xt_is {lo wd wv n : Nat} {so pl nu : Int} {w : Int → Int} {b v n' : Nat} {c' : Int → Int} {Q : Int → JH → Prop} (hK : TK_ G σ lo o so pl nu wd wv n w) (hS : Str_ σ b v n' c')
    (hQ : ∀ z : Int, (z = 1 ∧ (so = 2 ∧ n = n' ∧ ∀ k, 0 ≤ k → k < (n : Int) → w k = c' k)) ∨ (z = 0 ∧ ¬ (so = 2 ∧ n = n' ∧ ∀ k, 0 ≤ k → k < (n : Int) → w k = c' k)) → Q z σ) : CallI_ G 4 yX6_is cX6_is 2 (some .boolean) [A_ (some o), A_ (some b)] σ Q := by
  refine call_go [some (A_ (some o)), some (A_ (some b))] (by decide) (Nat.le_of_ble_eq_true rfl) rfl ?_
  refine g_al0 dX6_is_0 ?_
  refine f_getv 0 fk_X6_7 rfl hK.1 (fun _ _ => rfl) hK.2.2.1 dX6_is_1 ?_
  refine g_iconst dX6_is_4 ?_
  have hKb := hK.2.2.2.2.2.2.2.2.2.1
  refine g_icmp_ne (tgt := 23) dX6_is_5 (by decide) (by omega) (fun h5 => ?_) (fun h5 => ?_)
  · refine g_iconst dX6_is_23 ?_
    exact g_zret rfl (by omega) dX6_is_24 ⟨_, rfl, hQ _ (Or.inr ⟨rfl, fun q => by omega⟩)⟩
  refine g_al0 dX6_is_8 ?_
  refine f_getA 3 fk_X6_19 rfl hK.1 (fun _ _ => rfl) hK.2.2.2.2.2.1 dX6_is_9 ?_
  refine g_al1 dX6_is_12 ?_
  refine g_callV1I (d' := 3) lk_X6_23 hK.2.2.2.2.2.2.1.1 rfl (rm_lt (by decide) (by decide)) (Nat.le_of_ble_eq_true rfl) dX6_is_13 ?_
  refine js_equals hK.2.2.2.2.2.2.1 hS (fun z hz => ?_)
  refine g_if_eq (tgt := 23) dX6_is_16 (by decide) (by omega) (fun h16 => ?_) (fun h16 => ?_)
  · refine g_iconst dX6_is_23 ?_
    exact g_zret rfl (by omega) dX6_is_24 ⟨_, rfl, hQ _ (Or.inr ⟨rfl, fun q => by rcases hz with z | z; (omega); (exact z.2 q.2)⟩)⟩
  refine g_iconst dX6_is_19 ?_
  refine g_goto (tgt := 24) dX6_is_20 (by decide) ?_
  exact g_zret rfl (by omega) dX6_is_24 ⟨_, rfl, hQ _ (Or.inl ⟨rfl, by omega, by rcases hz with z | z; (exact z.2); (omega)⟩)⟩
theorem Str_.fh {a v n b : Nat} {w : Int → Int} (h : Str_ σ a v n w) (f : Fr_ (fun b' k => b' = b ∧ (k = 2 ∨ k = 3)) σ σ') (hb : sh_ σ b = some (.inl 8)) : Str_ σ' a v n w := by
  obtain ⟨h1, h2, h3, h4, h5, h6⟩ := h
  have n1 : v ≠ b := fun q => by rw [q, hb] at h3; cases h3
  exact ⟨(f.1 _).trans h1, (f.2.1 _ _).trans h2, (f.1 _).trans h3, (f.2.2.2.2 _ _ (fun q => by omega)).trans h4, h5, fun k k0 k1 => by rw [f.2.2.2.2 _ _ (fun q => n1 q.1)]; exact h6 k k0 k1⟩
theorem LS_.fh {b : Nat} (h : LS_ G σ) (f : Fr_ (fun b' k => b' = b ∧ (k = 2 ∨ k = 3)) σ σ') (hb : sh_ σ b = some (.inl 8)) : LS_ G σ' := fun i q e => by
  obtain ⟨v, h1, h2, h3⟩ := h i q e
  exact ⟨v, h1.fh f hb, h2, h3⟩
theorem xt_isName {lo wd wv n : Nat} {so pl nu : Int} {w : Int → Int} {Q : Int → JH → Prop} (hK : TK_ G σ lo o so pl nu wd wv n w) (hL : LS_ G σ) (hlo : (gH_ G).size ≤ lo)
    (hQ : ∀ (z : Int) σ', Fr_ (fun b k => b = wd ∧ (k = 2 ∨ k = 3)) σ σ' → (so ≠ 2 → σ' = σ) → (so = 2 → HS_ σ' wd (w32_ (hsh_ w n))) → (z = 1 ∧ (so = 2 ∧ kwc_ n w = false)) ∨ (z = 0 ∧ ¬ (so = 2 ∧ kwc_ n w = false)) → Q z σ') : CallI_ G 6 yX6_isName cX6_isName 3 (some .boolean) [A_ (some o)] σ Q := by
  refine call_go [some (A_ (some o)), none, none] (by decide) (Nat.le_of_ble_eq_true rfl) rfl ?_
  refine g_al0 dX6_isName_0 ?_
  refine f_getv 0 fk_X6_7 rfl hK.1 (fun _ _ => rfl) hK.2.2.1 dX6_isName_1 ?_
  refine g_iconst dX6_isName_4 ?_
  have hKb := hK.2.2.2.2.2.2.2.2.2.1
  refine g_icmp_eq (tgt := 10) dX6_isName_5 (by decide) (by omega) (fun h5 => ?_) (fun h5 => ?_)
  · refine g_al0 dX6_isName_10 ?_
    refine f_getA 3 fk_X6_19 rfl hK.1 (fun _ _ => rfl) hK.2.2.2.2.2.1 dX6_isName_11 ?_
    refine g_as1 dX6_isName_14 (by decide) rfl ?_
    refine g_iconst dX6_isName_15 ?_
    refine g_is2 dX6_isName_16 (by decide) rfl ?_
    refine g_al1 dX6_isName_17 ?_
    refine g_callV0I (d' := 5) lk_X6_29 hK.2.2.2.2.2.2.1.1 rfl (rm_lt (by decide) (by decide)) (Nat.le_of_ble_eq_true rfl) dX6_isName_18 ?_
    have h2 : so = 2 := h5
    have h9 := hK.2.2.2.2.2.2.2.2.1 h2
    refine js_hash hK.2.2.2.2.2.2.1 (by omega) h9.2.2 (fun σ' hF hH => ?_)
    have hS := hK.2.2.2.2.2.2.1.fh hF hK.2.2.2.2.2.2.1.1
    have hL' := hL.fh hF hK.2.2.2.2.2.2.1.1
    have J161 : ∀ idx : Int, (idx = -1 ∧ kwc_ n w = false) ∨ ((0 ≤ idx ∧ idx ≤ 5) ∧ kwc_ n w = true) → GoM_ G 6 yX6_isName cX6_isName 3 (some .boolean) σ (fun v σ' => ∃ x : Int, v = some (I_ x) ∧ Q x σ') 161 [some (A_ (some o)), some (A_ (some wd)), some (I_ idx)] [] σ' := by
      intro idx hidx
      refine g_il2 dX6_isName_161 ?_
      by_cases c162_0 : idx = 0
      · refine g_tabIn (tgt := 200) dX6_isName_162 (by omega) (by omega) (by rw [c162_0]; rfl) (by decide) ?_
        refine g_iconst dX6_isName_200 ?_
        exact g_zret rfl (by omega) dX6_isName_201 ⟨_, rfl, hQ _ _ hF (fun q => absurd h5 q) (fun _ => hH) (Or.inr ⟨rfl, fun q => by rcases hidx with h | h; (omega); (rw [h.2] at q; exact absurd q.2 (by decide))⟩)⟩
      by_cases c162_1 : idx = 1
      · refine g_tabIn (tgt := 200) dX6_isName_162 (by omega) (by omega) (by rw [c162_1]; rfl) (by decide) ?_
        refine g_iconst dX6_isName_200 ?_
        exact g_zret rfl (by omega) dX6_isName_201 ⟨_, rfl, hQ _ _ hF (fun q => absurd h5 q) (fun _ => hH) (Or.inr ⟨rfl, fun q => by rcases hidx with h | h; (omega); (rw [h.2] at q; exact absurd q.2 (by decide))⟩)⟩
      by_cases c162_2 : idx = 2
      · refine g_tabIn (tgt := 200) dX6_isName_162 (by omega) (by omega) (by rw [c162_2]; rfl) (by decide) ?_
        refine g_iconst dX6_isName_200 ?_
        exact g_zret rfl (by omega) dX6_isName_201 ⟨_, rfl, hQ _ _ hF (fun q => absurd h5 q) (fun _ => hH) (Or.inr ⟨rfl, fun q => by rcases hidx with h | h; (omega); (rw [h.2] at q; exact absurd q.2 (by decide))⟩)⟩
      by_cases c162_3 : idx = 3
      · refine g_tabIn (tgt := 200) dX6_isName_162 (by omega) (by omega) (by rw [c162_3]; rfl) (by decide) ?_
        refine g_iconst dX6_isName_200 ?_
        exact g_zret rfl (by omega) dX6_isName_201 ⟨_, rfl, hQ _ _ hF (fun q => absurd h5 q) (fun _ => hH) (Or.inr ⟨rfl, fun q => by rcases hidx with h | h; (omega); (rw [h.2] at q; exact absurd q.2 (by decide))⟩)⟩
      by_cases c162_4 : idx = 4
      · refine g_tabIn (tgt := 200) dX6_isName_162 (by omega) (by omega) (by rw [c162_4]; rfl) (by decide) ?_
        refine g_iconst dX6_isName_200 ?_
        exact g_zret rfl (by omega) dX6_isName_201 ⟨_, rfl, hQ _ _ hF (fun q => absurd h5 q) (fun _ => hH) (Or.inr ⟨rfl, fun q => by rcases hidx with h | h; (omega); (rw [h.2] at q; exact absurd q.2 (by decide))⟩)⟩
      by_cases c162_5 : idx = 5
      · refine g_tabIn (tgt := 200) dX6_isName_162 (by omega) (by omega) (by rw [c162_5]; rfl) (by decide) ?_
        refine g_iconst dX6_isName_200 ?_
        exact g_zret rfl (by omega) dX6_isName_201 ⟨_, rfl, hQ _ _ hF (fun q => absurd h5 q) (fun _ => hH) (Or.inr ⟨rfl, fun q => by rcases hidx with h | h; (omega); (rw [h.2] at q; exact absurd q.2 (by decide))⟩)⟩
      refine g_tabOut (tgt := 202) dX6_isName_162 (by omega) (by omega) (by decide) ?_
      refine g_iconst dX6_isName_202 ?_
      exact g_zret rfl (by omega) dX6_isName_203 ⟨_, rfl, hQ _ _ hF (fun q => absurd h5 q) (fun _ => hH) (Or.inl ⟨rfl, h5, by rcases hidx with h | h; (exact h.2); (omega)⟩)⟩
    by_cases c73 : w32_ (hsh_ w n) = -1179387371
    · refine g_look (z := -1179387371) dX6_isName_21 (by decide) (by rw [w32_id]; exact c73) rfl (tgt := 94) (by decide) ?_
      refine g_al1 dX6_isName_94 ?_
      refine g_ldcS (j := 49) rfl dX6_isName_95 ?_
      refine g_callV1I (d' := 3) lk_X6_23 hS.1 rfl (rm_lt (by decide) (by decide)) (Nat.le_of_ble_eq_true rfl) dX6_isName_97 ?_
      obtain ⟨vl, hSl, -, -⟩ := hL' 49 _ rfl
      refine js_equals hS hSl (fun z hz => ?_)
      refine g_if_eq (tgt := 161) dX6_isName_100 (by decide) (by omega) (fun h100 => ?_) (fun h100 => ?_)
      · exact J161 _ (Or.inl ⟨rfl, kwc_no (kh_post (by rw [c73]; decide)) (wq_no (by rcases hz with z | z; (omega); (exact z.2))) (kh_way (by rw [c73]; decide)) (kh_whale (by rw [c73]; decide)) (kh_box (by rw [c73]; decide)) (kh_spout (by rw [c73]; decide))⟩)
      refine g_iconst dX6_isName_103 ?_
      refine g_is2 dX6_isName_104 (by decide) rfl ?_
      refine g_goto (tgt := 161) dX6_isName_105 (by decide) ?_
      exact J161 _ (Or.inr ⟨by omega, kwc_yes (Or.inr (Or.inl (wq_iff.mpr (by rcases hz with z | z; (exact z.2); (omega)))))⟩)
    by_cases c115 : w32_ (hsh_ w n) = 97739
    · refine g_look (z := 97739) dX6_isName_21 (by decide) (by rw [w32_id]; exact c115) rfl (tgt := 136) (by decide) ?_
      refine g_al1 dX6_isName_136 ?_
      refine g_ldcS (j := 52) rfl dX6_isName_137 ?_
      refine g_callV1I (d' := 3) lk_X6_23 hS.1 rfl (rm_lt (by decide) (by decide)) (Nat.le_of_ble_eq_true rfl) dX6_isName_139 ?_
      obtain ⟨vl, hSl, -, -⟩ := hL' 52 _ rfl
      refine js_equals hS hSl (fun z hz => ?_)
      refine g_if_eq (tgt := 161) dX6_isName_142 (by decide) (by omega) (fun h142 => ?_) (fun h142 => ?_)
      · exact J161 _ (Or.inl ⟨rfl, kwc_no (kh_post (by rw [c115]; decide)) (kh_island (by rw [c115]; decide)) (kh_way (by rw [c115]; decide)) (kh_whale (by rw [c115]; decide)) (wq_no (by rcases hz with z | z; (omega); (exact z.2))) (kh_spout (by rw [c115]; decide))⟩)
      refine g_iconst dX6_isName_145 ?_
      refine g_is2 dX6_isName_146 (by decide) rfl ?_
      refine g_goto (tgt := 161) dX6_isName_147 (by decide) ?_
      exact J161 _ (Or.inr ⟨by omega, kwc_yes (Or.inr (Or.inr (Or.inr (Or.inr (Or.inl (wq_iff.mpr (by rcases hz with z | z; (exact z.2); (omega))))))))⟩)
    by_cases c87 : w32_ (hsh_ w n) = 117487
    · refine g_look (z := 117487) dX6_isName_21 (by decide) (by rw [w32_id]; exact c87) rfl (tgt := 108) (by decide) ?_
      refine g_al1 dX6_isName_108 ?_
      refine g_ldcS (j := 50) rfl dX6_isName_109 ?_
      refine g_callV1I (d' := 3) lk_X6_23 hS.1 rfl (rm_lt (by decide) (by decide)) (Nat.le_of_ble_eq_true rfl) dX6_isName_111 ?_
      obtain ⟨vl, hSl, -, -⟩ := hL' 50 _ rfl
      refine js_equals hS hSl (fun z hz => ?_)
      refine g_if_eq (tgt := 161) dX6_isName_114 (by decide) (by omega) (fun h114 => ?_) (fun h114 => ?_)
      · exact J161 _ (Or.inl ⟨rfl, kwc_no (kh_post (by rw [c87]; decide)) (kh_island (by rw [c87]; decide)) (wq_no (by rcases hz with z | z; (omega); (exact z.2))) (kh_whale (by rw [c87]; decide)) (kh_box (by rw [c87]; decide)) (kh_spout (by rw [c87]; decide))⟩)
      refine g_iconst dX6_isName_117 ?_
      refine g_is2 dX6_isName_118 (by decide) rfl ?_
      refine g_goto (tgt := 161) dX6_isName_119 (by decide) ?_
      exact J161 _ (Or.inr ⟨by omega, kwc_yes (Or.inr (Or.inr (Or.inl (wq_iff.mpr (by rcases hz with z | z; (exact z.2); (omega))))))⟩)
    by_cases c59 : w32_ (hsh_ w n) = 3446944
    · refine g_look (z := 3446944) dX6_isName_21 (by decide) (by rw [w32_id]; exact c59) rfl (tgt := 80) (by decide) ?_
      refine g_al1 dX6_isName_80 ?_
      refine g_ldcS (j := 48) rfl dX6_isName_81 ?_
      refine g_callV1I (d' := 3) lk_X6_23 hS.1 rfl (rm_lt (by decide) (by decide)) (Nat.le_of_ble_eq_true rfl) dX6_isName_83 ?_
      obtain ⟨vl, hSl, -, -⟩ := hL' 48 _ rfl
      refine js_equals hS hSl (fun z hz => ?_)
      refine g_if_eq (tgt := 161) dX6_isName_86 (by decide) (by omega) (fun h86 => ?_) (fun h86 => ?_)
      · exact J161 _ (Or.inl ⟨rfl, kwc_no (wq_no (by rcases hz with z | z; (omega); (exact z.2))) (kh_island (by rw [c59]; decide)) (kh_way (by rw [c59]; decide)) (kh_whale (by rw [c59]; decide)) (kh_box (by rw [c59]; decide)) (kh_spout (by rw [c59]; decide))⟩)
      refine g_iconst dX6_isName_89 ?_
      refine g_is2 dX6_isName_90 (by decide) rfl ?_
      refine g_goto (tgt := 161) dX6_isName_91 (by decide) ?_
      exact J161 _ (Or.inr ⟨by omega, kwc_yes (Or.inl (wq_iff.mpr (by rcases hz with z | z; (exact z.2); (omega))))⟩)
    by_cases c129 : w32_ (hsh_ w n) = 109651921
    · refine g_look (z := 109651921) dX6_isName_21 (by decide) (by rw [w32_id]; exact c129) rfl (tgt := 150) (by decide) ?_
      refine g_al1 dX6_isName_150 ?_
      refine g_ldcS (j := 53) rfl dX6_isName_151 ?_
      refine g_callV1I (d' := 3) lk_X6_23 hS.1 rfl (rm_lt (by decide) (by decide)) (Nat.le_of_ble_eq_true rfl) dX6_isName_153 ?_
      obtain ⟨vl, hSl, -, -⟩ := hL' 53 _ rfl
      refine js_equals hS hSl (fun z hz => ?_)
      refine g_if_eq (tgt := 161) dX6_isName_156 (by decide) (by omega) (fun h156 => ?_) (fun h156 => ?_)
      · exact J161 _ (Or.inl ⟨rfl, kwc_no (kh_post (by rw [c129]; decide)) (kh_island (by rw [c129]; decide)) (kh_way (by rw [c129]; decide)) (kh_whale (by rw [c129]; decide)) (kh_box (by rw [c129]; decide)) (wq_no (by rcases hz with z | z; (omega); (exact z.2)))⟩)
      refine g_iconst dX6_isName_159 ?_
      refine g_is2 dX6_isName_160 (by decide) rfl ?_
      exact J161 _ (Or.inr ⟨by omega, kwc_yes (Or.inr (Or.inr (Or.inr (Or.inr (Or.inr ((wq_iff.mpr (by rcases hz with z | z; (exact z.2); (omega)))))))))⟩)
    by_cases c101 : w32_ (hsh_ w n) = 113093929
    · refine g_look (z := 113093929) dX6_isName_21 (by decide) (by rw [w32_id]; exact c101) rfl (tgt := 122) (by decide) ?_
      refine g_al1 dX6_isName_122 ?_
      refine g_ldcS (j := 51) rfl dX6_isName_123 ?_
      refine g_callV1I (d' := 3) lk_X6_23 hS.1 rfl (rm_lt (by decide) (by decide)) (Nat.le_of_ble_eq_true rfl) dX6_isName_125 ?_
      obtain ⟨vl, hSl, -, -⟩ := hL' 51 _ rfl
      refine js_equals hS hSl (fun z hz => ?_)
      refine g_if_eq (tgt := 161) dX6_isName_128 (by decide) (by omega) (fun h128 => ?_) (fun h128 => ?_)
      · exact J161 _ (Or.inl ⟨rfl, kwc_no (kh_post (by rw [c101]; decide)) (kh_island (by rw [c101]; decide)) (kh_way (by rw [c101]; decide)) (wq_no (by rcases hz with z | z; (omega); (exact z.2))) (kh_box (by rw [c101]; decide)) (kh_spout (by rw [c101]; decide))⟩)
      refine g_iconst dX6_isName_131 ?_
      refine g_is2 dX6_isName_132 (by decide) rfl ?_
      refine g_goto (tgt := 161) dX6_isName_133 (by decide) ?_
      exact J161 _ (Or.inr ⟨by omega, kwc_yes (Or.inr (Or.inr (Or.inr (Or.inl (wq_iff.mpr (by rcases hz with z | z; (exact z.2); (omega)))))))⟩)
    refine g_look (z := w32_ (hsh_ w n)) dX6_isName_21 (by decide) (w32_id _) (off := 140) (by simp only [Op.lookupswitch.offset]; rw [if_neg (Ne.symm c73)]; rw [if_neg (Ne.symm c115)]; rw [if_neg (Ne.symm c87)]; rw [if_neg (Ne.symm c59)]; rw [if_neg (Ne.symm c129)]; rw [if_neg (Ne.symm c101)]) (tgt := 161) (by decide) ?_
    exact J161 _ (Or.inl ⟨rfl, kwc_no (kh_post c59) (kh_island c73) (kh_way c87) (kh_whale c101) (kh_box c115) (kh_spout c129)⟩)
  refine g_iconst dX6_isName_8 ?_
  exact g_zret rfl (by omega) dX6_isName_9 ⟨_, rfl, hQ _ _ Fr_.rf (fun _ => rfl) (fun q => absurd q h5) (Or.inr ⟨rfl, fun q => h5 q.1⟩)⟩
theorem Fr_.hgx {wd : Nat} (f : Fr_ (fun b k => b = wd ∧ (k = 2 ∨ k = 3)) σ σ') (hw : ρ ≤ wd ∨ (∀ b k, iv_ σ' b k = iv_ σ b k)) (hs : sh_ σ wd = some (.inl 8)) : GX_ ρ σ σ' := by
  refine ⟨fun b _ => f.1 b, fun b k _ h1 h2 h3 => ⟨f.2.1 b k, ?_⟩, Nat.le_of_eq f.2.2.1.symm, Nat.le_of_eq f.2.2.2.1.symm⟩
  rcases hw with hw | hw
  · exact f.2.2.2.2 b k (fun q => h3 ⟨by rw [q.1]; exact hw, by rw [q.1]; exact hs, q.2⟩)
  · exact hw b k
theorem RR_.hsh {so pl nu : Int} {wd wv n : Nat} {w : Int → Int} (h : RR_ G m X ρ σ γ o T c d) (hK : TK_ G σ (ρ + 2) o so pl nu wd wv n w) (hTM : iv_ γ m 13 = 0 → TM_ m γ so pl nu n w) (f : Fr_ (fun b k => b = wd ∧ (k = 2 ∨ k = 3)) σ σ') (hn : so ≠ 2 → σ' = σ) (hH : so = 2 → HS_ σ' wd (w32_ (hsh_ w n))) (hlt : ∀ a s, sh_ σ a = some s → a < sz_ σ) :
    RR_ G m X ρ σ' γ o T c d ∧ GX_ ρ σ σ' ∧ TK_ G σ' (ρ + 2) o so pl nu wd wv n w := by
  by_cases h2 : so = 2
  · have hs := hK.2.2.2.2.2.2.1.1
    have hwd := (hK.2.2.2.2.2.2.2.2.1 h2).1
    have g : GX_ ρ σ σ' := f.hgx (Or.inl (by omega)) hs
    have e3 := h.h3
    have e4 := h.h4
    have hge := h.ge
    have hKg := hK.gx g hlt e3 e4 hH
    have lr := hlt _ _ e3
    obtain ⟨⟨b1, b2, b3, b4, b5, b6, b7⟩, ⟨a, t1, t2⟩, h13, -, ⟨f0, p1, p2⟩, hI, hL, hM⟩ := h
    have n3 : ρ ≠ wd := fun q => by rw [q, hs] at e3; cases e3
    have n4 : ρ + 1 ≠ wd := fun q => by rw [q, hs] at e4; cases e4
    have nx : X + 1 ≠ wd := fun q => by have := t1.2.2.2.2.2.2.1; rw [q, hs] at this; cases this
    have no : o ≠ wd := fun q => by have := hK.1; rw [q, hs] at this; cases this
    have ev := fun b k (q : ¬ (b = wd ∧ (k = 2 ∨ k = 3))) => f.2.2.2.2 b k q
    refine ⟨⟨⟨(f.1 _).trans b1, b2, b3, (f.2.1 _ _).trans b4, (f.2.1 _ _).trans b5, (f.2.1 _ _).trans b6, b7⟩, ⟨a, t1.gw f.gw hlt (fun k q => n4 q.1) (fun k q => nx q.1), t2⟩, by rw [ev _ _ (fun q => n3 q.1), ev _ _ (fun q => n3 q.1)]; exact h13, ⟨so, pl, nu, wd, wv, n, w, hKg, hTM⟩, ⟨f0, p1.gx g hlt e3 e4 hge (Nat.le_refl _), p2⟩, hI, hL.gx g hlt e3 e4, ?_⟩, g, hKg⟩
    unfold RM_ at *
    rw [ev _ _ (fun q => n4 q.1), ev _ _ (fun q => no q.1), f.2.2.1, f.2.2.2.1]
    exact hM
  · rw [hn h2]
    exact ⟨h, GX_.rf, hK⟩
end
