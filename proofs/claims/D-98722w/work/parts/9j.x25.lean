/-! THE COMPONENT: names in a post; islands, new names. Written by mod/m9j.py -/
set_option maxRecDepth 100000
section
variable {G : JG} {m X ρ o : Nat} {σ σ' γ : JH} {T : XT} {c d : Int}
/-- the name of the number j is the word -/
def nmq_ (f : Int → Int) (n : Int) (w : Int → Int) (j : Int) : Bool := decide (f (183 + j) = n) && al_ (fun k => decide (f (203 + 8 * j + k) = w k)) n
theorem nmq_iff {f w : Int → Int} {n : Nat} {j : Int} : nmq_ f n w j = true ↔ f (183 + j) = (n : Int) ∧ ∀ k, 0 ≤ k → k < (n : Int) → f (203 + 8 * j + k) = w k := by
  unfold nmq_
  rw [Bool.and_eq_true, decide_eq_true_eq, al_iff (by omega)]
  constructor
  · rintro ⟨h1, h2⟩
    exact ⟨h1, fun k k0 k1 => of_decide_eq_true (h2 k k0 k1)⟩
  · rintro ⟨h1, h2⟩
    exact ⟨h1, fun k k0 k1 => decide_eq_true (h2 k k0 k1)⟩
theorem wtyA_ {κ : Nat} (h : κ < 4) (x : Int) (r : Option Nat) : tv_ (cty_ (11 + κ) 0) x r = av_ (A_ r) := by
  match κ, h with
  | 0, _ => rfl
  | 1, _ => rfl
  | 2, _ => rfl
  | 3, _ => rfl
theorem nmq_z {f w : Int → Int} {n n' : Nat} {j z : Int} {cc : Int → Int} (hn : (n' : Int) = f (183 + j)) (hc : ∀ k, cc k = f (203 + 8 * j + k)) (hz : (z = 1 ∧ (n' = n ∧ ∀ k, 0 ≤ k → k < (n' : Int) → cc k = w k)) ∨ (z = 0 ∧ ¬ (n' = n ∧ ∀ k, 0 ≤ k → k < (n' : Int) → cc k = w k))) : (z = 1 ∧ nmq_ f n w j = true) ∨ (z = 0 ∧ nmq_ f n w j = false) := by
  rcases hz with ⟨h1, h2, h3⟩ | ⟨h1, h2⟩
  · refine Or.inl ⟨h1, nmq_iff.mpr ⟨by omega, fun k k0 k1 => ?_⟩⟩
    rw [← hc k]
    exact h3 k k0 (by omega)
  · refine Or.inr ⟨h1, ?_⟩
    cases e : nmq_ f n w j with
    | false => rfl
    | true =>
      obtain ⟨q1, q2⟩ := nmq_iff.mp e
      exact absurd ⟨by omega, fun k k0 k1 => by rw [hc k]; exact q2 k k0 (by omega)⟩ h2
section
variable {f w : Int → Int} {lo a v n : Nat}
theorem xp_island  {Q : Int → JH → Prop} (hP : PP_ G σ lo T f) (hS : Str_ σ a v n w)
    (hQ : Q (fI_ (nmq_ f n w) (f 4)) σ) : CallI_ G 5 yX5_island cX5_island 3 (some .int) [A_ (some (xP_ T)), A_ (some a)] σ Q := by
  refine call_go [some (A_ (some (xP_ T))), some (A_ (some a)), none] (by decide) (Nat.le_of_ble_eq_true rfl) rfl ?_
  have hfc := hP.1.l0.2.2.2.2.2.1
  have hfw := hP.1.l2.2.2.2.2.2.1
  have hcp := hP.1.l0.2.2.2.2.2.2.1
  have hcw := hP.1.l2.2.2.2.2.2.2.1
  have L2 : ∀ (fu : Nat) (k : Int), f 4 - k < (fu : Int) → (0 ≤ k) → (k ≤ f 4) → (∀ j, 0 ≤ j → j < k → nmq_ f n w j = false) → GoM_ G 5 yX5_island cX5_island 3 (some .int) σ (fun v σ' => ∃ x : Int, v = some (I_ x) ∧ Q x σ') 2 [some (A_ (some (xP_ T))), some (A_ (some a)), some (I_ k)] [] σ := by
    intro fu
    induction fu with
    | zero => intro k hn k0 k1 hq; exact absurd hn (by omega)
    | succ fu ih =>
      intro k hn k0 k1 hq
      refine g_il2 dX5_island_2 ?_
      refine g_al0 dX5_island_3 ?_
      refine f_getA 4 fk_X5_12 rfl hP.1.sh (fun _ _ => rfl) hP.1.f4 dX5_island_4 ?_
      refine g_callV0I (d' := 2) lk_X5_30 hP.1.l0.1 rfl (rm_lt (by decide) (by decide)) (Nat.le_of_ble_eq_true rfl) dX5_island_7 ?_
      refine js_size hP.1.l0 ?_
      refine g_icmp_ge (tgt := 42) dX5_island_10 (by decide) (by omega) (fun h10 => ?_) (fun h10 => ?_)
      · refine g_iconst dX5_island_42 ?_
        exact g_iret rfl dX5_island_43 ⟨_, rfl, by rw [show fI_ (nmq_ f n w) (f 4) = -1 from fI_none (fun j j0 j1 => hq j j0 (by omega))] at hQ; exact hQ⟩
      refine g_al0 dX5_island_13 ?_
      refine f_getA 4 fk_X5_12 rfl hP.1.sh (fun _ _ => rfl) hP.1.f4 dX5_island_14 ?_
      refine g_il2 dX5_island_17 ?_
      refine g_callV1A (d' := 4) lk_X5_34 hP.1.l0.1 rfl (rm_lt (by decide) (by decide)) (Nat.le_of_ble_eq_true rfl) dX5_island_18 ?_
      refine js_get hP.1.l0 (by omega) ?_
      have hIs := hP.1.isl (i := k) (by omega) (by omega)
      obtain ⟨nd, nv, nn, hn1, hn2, hn3, hn4, hn5⟩ := hP.2.2.1 k (by omega) (by omega)
      refine g_cast q759 hIs.1 (Or.inl rfl) dX5_island_21 ?_
      refine f_getA 0 fk_X5_40 rfl hIs.1 (fun _ _ => rfl) hn1 dX5_island_24 ?_
      refine g_al1 dX5_island_27 ?_
      refine g_callV1I (d' := 3) lk_X5_44 hn2.1 rfl (rm_lt (by decide) (by decide)) (Nat.le_of_ble_eq_true rfl) dX5_island_28 ?_
      refine js_equals hn2 hS (fun z hz0 => ?_)
      have hz := nmq_z (f := f) (j := k) hn3 (fun q => rfl) hz0
      refine g_if_eq (tgt := 36) dX5_island_31 (by decide) (by omega) (fun h31 => ?_) (fun h31 => ?_)
      · refine g_inc2 dX5_island_36 (by decide) rfl ?_
        refine g_goto (tgt := 2) dX5_island_39 (by decide) ?_
        refine ih (k + 1) (by omega) (by omega) (by omega) (fun j j0 j1 => ?_)
        by_cases hj : j = k
        · rw [hj]; rcases hz with z | z; (omega); (exact z.2)
        · exact hq j j0 (by omega)
      refine g_il2 dX5_island_34 ?_
      exact g_iret rfl dX5_island_35 ⟨_, rfl, by rw [show fI_ (nmq_ f n w) (f 4) = k from fI_hit k0 (by omega) (by rcases hz with z | z; (exact z.2); (omega)) hq] at hQ; exact hQ⟩
  refine g_iconst dX5_island_0 ?_
  refine g_is2 dX5_island_1 (by decide) rfl ?_
  exact L2 ((f 4).toNat + 1) 0 (by omega) (by omega) (by omega) (fun j j0 j1 => by omega)
theorem xp_whale  {Q : Int → JH → Prop} (hP : PP_ G σ lo T f) (hS : Str_ σ a v n w)
    (hQ : Q (fI_ (fun k => nmq_ f n w (7 + k)) (f 6)) σ) : CallI_ G 5 yX5_whale cX5_whale 3 (some .int) [A_ (some (xP_ T)), A_ (some a)] σ Q := by
  refine call_go [some (A_ (some (xP_ T))), some (A_ (some a)), none] (by decide) (Nat.le_of_ble_eq_true rfl) rfl ?_
  have hfc := hP.1.l0.2.2.2.2.2.1
  have hfw := hP.1.l2.2.2.2.2.2.1
  have hcp := hP.1.l0.2.2.2.2.2.2.1
  have hcw := hP.1.l2.2.2.2.2.2.2.1
  have L2 : ∀ (fu : Nat) (k : Int), f 6 - k < (fu : Int) → (0 ≤ k) → (k ≤ f 6) → (∀ j, 0 ≤ j → j < k → nmq_ f n w (7 + j) = false) → GoM_ G 5 yX5_whale cX5_whale 3 (some .int) σ (fun v σ' => ∃ x : Int, v = some (I_ x) ∧ Q x σ') 2 [some (A_ (some (xP_ T))), some (A_ (some a)), some (I_ k)] [] σ := by
    intro fu
    induction fu with
    | zero => intro k hn k0 k1 hq; exact absurd hn (by omega)
    | succ fu ih =>
      intro k hn k0 k1 hq
      refine g_il2 dX5_whale_2 ?_
      refine g_al0 dX5_whale_3 ?_
      refine f_getA 6 fk_X5_21 rfl hP.1.sh (fun _ _ => rfl) hP.1.f6 dX5_whale_4 ?_
      refine g_callV0I (d' := 2) lk_X5_30 hP.1.l2.1 rfl (rm_lt (by decide) (by decide)) (Nat.le_of_ble_eq_true rfl) dX5_whale_7 ?_
      refine js_size hP.1.l2 ?_
      refine g_icmp_ge (tgt := 42) dX5_whale_10 (by decide) (by omega) (fun h10 => ?_) (fun h10 => ?_)
      · refine g_iconst dX5_whale_42 ?_
        exact g_iret rfl dX5_whale_43 ⟨_, rfl, by rw [show fI_ (fun k => nmq_ f n w (7 + k)) (f 6) = -1 from fI_none (fun j j0 j1 => hq j j0 (by omega))] at hQ; exact hQ⟩
      refine g_al0 dX5_whale_13 ?_
      refine f_getA 6 fk_X5_21 rfl hP.1.sh (fun _ _ => rfl) hP.1.f6 dX5_whale_14 ?_
      refine g_il2 dX5_whale_17 ?_
      refine g_callV1A (d' := 4) lk_X5_34 hP.1.l2.1 rfl (rm_lt (by decide) (by decide)) (Nat.le_of_ble_eq_true rfl) dX5_whale_18 ?_
      refine js_get hP.1.l2 (by omega) ?_
      obtain ⟨⟨κ, hκ, hkd, hsw⟩, hw2⟩ := hP.1.whl (w := k) (by omega) (by omega)
      obtain ⟨nd, nv, nn, hn1, hn2, hn3, hn4, hn5⟩ := hP.2.2.2.1 k (by omega) (by omega)
      refine g_cast q764 hsw (wcast_ hκ) dX5_whale_21 ?_
      refine f_getA 0 (fk_X5_52 _ hκ) rfl hsw (wtyA_ hκ) hn1 dX5_whale_24 ?_
      refine g_al1 dX5_whale_27 ?_
      refine g_callV1I (d' := 3) lk_X5_44 hn2.1 rfl (rm_lt (by decide) (by decide)) (Nat.le_of_ble_eq_true rfl) dX5_whale_28 ?_
      refine js_equals hn2 hS (fun z hz0 => ?_)
      have hz := nmq_z (f := f) (j := (7 + k)) (by rw [hn3, show 183 + (7 + k) = 190 + k by omega]) (fun q => by rw [show 203 + 8 * (7 + k) + q = 259 + 8 * k + q by omega]) hz0
      refine g_if_eq (tgt := 36) dX5_whale_31 (by decide) (by omega) (fun h31 => ?_) (fun h31 => ?_)
      · refine g_inc2 dX5_whale_36 (by decide) rfl ?_
        refine g_goto (tgt := 2) dX5_whale_39 (by decide) ?_
        refine ih (k + 1) (by omega) (by omega) (by omega) (fun j j0 j1 => ?_)
        by_cases hj : j = k
        · rw [hj]; rcases hz with z | z; (omega); (exact z.2)
        · exact hq j j0 (by omega)
      refine g_il2 dX5_whale_34 ?_
      exact g_iret rfl dX5_whale_35 ⟨_, rfl, by rw [show fI_ (fun k => nmq_ f n w (7 + k)) (f 6) = k from fI_hit k0 (by omega) (by rcases hz with z | z; (exact z.2); (omega)) hq] at hQ; exact hQ⟩
  refine g_iconst dX5_whale_0 ?_
  refine g_is2 dX5_whale_1 (by decide) rfl ?_
  exact L2 ((f 6).toNat + 1) 0 (by omega) (by omega) (by omega) (fun j j0 j1 => by omega)
/-- no such name -/
def NoN_ (f : Int → Int) (n : Int) (w : Int → Int) : Prop := (∀ i, 0 ≤ i → i < f 4 → nmq_ f n w i = false) ∧ (∀ i, 0 ≤ i → i < f 6 → nmq_ f n w (7 + i) = false) ∧ (∀ i, 0 ≤ i → i < f 7 → nmq_ f n w (12 + i) = false)
theorem xp_isName  {Q : Int → JH → Prop} (hP : PP_ G σ lo T f) (hS : Str_ σ a v n w)
    (hQ : ∀ z : Int, (z = 1 ∧ ¬ NoN_ f n w) ∨ (z = 0 ∧ NoN_ f n w) → Q z σ) : CallI_ G 6 yX5_isName cX5_isName 3 (some .boolean) [A_ (some (xP_ T)), A_ (some a)] σ Q := by
  refine call_go [some (A_ (some (xP_ T))), some (A_ (some a)), none] (by decide) (Nat.le_of_ble_eq_true rfl) rfl ?_
  have hfc := hP.1.l0.2.2.2.2.2.1
  have hfw := hP.1.l2.2.2.2.2.2.1
  have hfb := hP.1.l3.2.2.2.2.2.1
  have hcp := hP.1.l0.2.2.2.2.2.2.1
  have hcw := hP.1.l2.2.2.2.2.2.2.1
  have hcb := hP.1.l3.2.2.2.2.2.2.1
  have L2 : ∀ (fu : Nat) (k : Int), f 7 - k < (fu : Int) → (0 ≤ k) → (k ≤ f 7) → (∀ j, 0 ≤ j → j < k → nmq_ f n w (12 + j) = false) → GoM_ G 6 yX5_isName cX5_isName 3 (some .boolean) σ (fun v σ' => ∃ x : Int, v = some (I_ x) ∧ Q x σ') 2 [some (A_ (some (xP_ T))), some (A_ (some a)), some (I_ k)] [] σ := by
    intro fu
    induction fu with
    | zero => intro k hn k0 k1 hq; exact absurd hn (by omega)
    | succ fu ih =>
      intro k hn k0 k1 hq
      refine g_il2 dX5_isName_2 ?_
      refine g_al0 dX5_isName_3 ?_
      refine f_getA 7 fk_X5_24 rfl hP.1.sh (fun _ _ => rfl) hP.1.f7 dX5_isName_4 ?_
      refine g_callV0I (d' := 2) lk_X5_30 hP.1.l3.1 rfl (rm_lt (by decide) (by decide)) (Nat.le_of_ble_eq_true rfl) dX5_isName_7 ?_
      refine js_size hP.1.l3 ?_
      refine g_icmp_ge (tgt := 42) dX5_isName_10 (by decide) (by omega) (fun h10 => ?_) (fun h10 => ?_)
      · refine g_al0 dX5_isName_42 ?_
        refine g_al1 dX5_isName_43 ?_
        refine g_callV1I (d' := 5) lk_X5_56 hP.1.sh rfl (rm_lt (by decide) (by decide)) (Nat.le_of_ble_eq_true rfl) dX5_isName_44 ?_
        refine xp_island hP hS ?_
        have hi := fI_spec (nmq_ f n w) (n := f 4) (by omega)
        refine g_iconst dX5_isName_47 ?_
        refine g_icmp_ne (tgt := 60) dX5_isName_48 (by decide) (by omega) (fun h48 => ?_) (fun h48 => ?_)
        · refine g_iconst dX5_isName_60 ?_
          refine g_goto (tgt := 65) dX5_isName_61 (by decide) ?_
          exact g_zret rfl (by omega) dX5_isName_65 ⟨_, rfl, hQ _ (Or.inl ⟨rfl, fun q => by rcases hi with z | z; (omega); (have := q.1 _ z.1 z.2.1; rw [z.2.2.1] at this; cases this)⟩)⟩
        refine g_al0 dX5_isName_51 ?_
        refine g_al1 dX5_isName_52 ?_
        refine g_callV1I (d' := 5) lk_X5_60 hP.1.sh rfl (rm_lt (by decide) (by decide)) (Nat.le_of_ble_eq_true rfl) dX5_isName_53 ?_
        refine xp_whale hP hS ?_
        have hwh := fI_spec (fun k => nmq_ f n w (7 + k)) (n := f 6) (by omega)
        refine g_iconst dX5_isName_56 ?_
        refine g_icmp_eq (tgt := 64) dX5_isName_57 (by decide) (by omega) (fun h57 => ?_) (fun h57 => ?_)
        · refine g_iconst dX5_isName_64 ?_
          exact g_zret rfl (by omega) dX5_isName_65 ⟨_, rfl, hQ _ (Or.inr ⟨rfl, ⟨by rcases hi with z | z; (exact z.2); (omega), by rcases hwh with z | z; (exact z.2); (omega), fun j j0 j1 => hq j j0 (by omega)⟩⟩)⟩
        refine g_iconst dX5_isName_60 ?_
        refine g_goto (tgt := 65) dX5_isName_61 (by decide) ?_
        exact g_zret rfl (by omega) dX5_isName_65 ⟨_, rfl, hQ _ (Or.inl ⟨rfl, fun q => by rcases hwh with z | z; (omega); (have := q.2.1 _ z.1 z.2.1; have e := z.2.2.1; (try dsimp only at e); rw [e] at this; cases this)⟩)⟩
      refine g_al0 dX5_isName_13 ?_
      refine f_getA 7 fk_X5_24 rfl hP.1.sh (fun _ _ => rfl) hP.1.f7 dX5_isName_14 ?_
      refine g_il2 dX5_isName_17 ?_
      refine g_callV1A (d' := 4) lk_X5_34 hP.1.l3.1 rfl (rm_lt (by decide) (by decide)) (Nat.le_of_ble_eq_true rfl) dX5_isName_18 ?_
      refine js_get hP.1.l3 (by omega) ?_
      have hBx := hP.1.box (b := k) (by omega) (by omega)
      obtain ⟨nd, nv, nn, hn1, hn2, hn3, hn4, hn5⟩ := hP.2.2.2.2.1 k (by omega) (by omega)
      refine g_cast q753 hBx.1 (Or.inl rfl) dX5_isName_21 ?_
      refine f_getA 0 fk_X5_55 rfl hBx.1 (fun _ _ => rfl) hn1 dX5_isName_24 ?_
      refine g_al1 dX5_isName_27 ?_
      refine g_callV1I (d' := 3) lk_X5_44 hn2.1 rfl (rm_lt (by decide) (by decide)) (Nat.le_of_ble_eq_true rfl) dX5_isName_28 ?_
      refine js_equals hn2 hS (fun z hz0 => ?_)
      have hz := nmq_z (f := f) (j := (12 + k)) (by rw [hn3, show 183 + (12 + k) = 195 + k by omega]) (fun q => by rw [show 203 + 8 * (12 + k) + q = 299 + 8 * k + q by omega]) hz0
      refine g_if_eq (tgt := 36) dX5_isName_31 (by decide) (by omega) (fun h31 => ?_) (fun h31 => ?_)
      · refine g_inc2 dX5_isName_36 (by decide) rfl ?_
        refine g_goto (tgt := 2) dX5_isName_39 (by decide) ?_
        refine ih (k + 1) (by omega) (by omega) (by omega) (fun j j0 j1 => ?_)
        by_cases hj : j = k
        · rw [hj]; rcases hz with z | z; (omega); (exact z.2)
        · exact hq j j0 (by omega)
      refine g_iconst dX5_isName_34 ?_
      exact g_zret rfl (by omega) dX5_isName_35 ⟨_, rfl, hQ _ (Or.inl ⟨rfl, fun q => by have := q.2.2 k k0 (by omega); rcases hz with z | z; (rw [z.2] at this; cases this); (omega)⟩)⟩
  refine g_iconst dX5_isName_0 ?_
  refine g_is2 dX5_isName_1 (by decide) rfl ?_
  exact L2 ((f 7).toNat + 1) 0 (by omega) (by omega) (by omega) (fun j j0 j1 => by omega)
theorem xp_isWay  {x y : Int} {Q : Int → JH → Prop} (hP : PP_ G σ lo T f) (hx : 0 ≤ x ∧ x ≤ 100) (hy : 0 ≤ y ∧ y ≤ 100) (hbw : ∀ k, 0 ≤ k → k < f 5 → (0 ≤ f (59 + 4 * k) ∧ f (59 + 4 * k) < 100) ∧ (0 ≤ f (60 + 4 * k) ∧ f (60 + 4 * k) < 100))
    (hQ : ∀ z : Int, (z = 1 ∧ ∃ k, 0 ≤ k ∧ k < f 5 ∧ jn_ f k x y) ∨ (z = 0 ∧ ∀ k, 0 ≤ k → k < f 5 → ¬ jn_ f k x y) → Q z σ) : CallI_ G 5 yX5_isWay cX5_isWay 4 (some .boolean) [A_ (some (xP_ T)), I_ x, I_ y] σ Q := by
  refine call_go [some (A_ (some (xP_ T))), some (I_ x), some (I_ y), none] (by decide) (Nat.le_of_ble_eq_true rfl) rfl ?_
  have hfc := hP.1.l1.2.2.2.2.2.1
  have hcp := hP.1.l1.2.2.2.2.2.2.1
  have L2 : ∀ (fu : Nat) (k : Int), f 5 - k < (fu : Int) → (0 ≤ k) → (k ≤ f 5) → (∀ j, 0 ≤ j → j < k → ¬ jn_ f j x y) → GoM_ G 5 yX5_isWay cX5_isWay 4 (some .boolean) σ (fun v σ' => ∃ x : Int, v = some (I_ x) ∧ Q x σ') 2 [some (A_ (some (xP_ T))), some (I_ x), some (I_ y), some (I_ k)] [] σ := by
    intro fu
    induction fu with
    | zero => intro k hn k0 k1 hq; exact absurd hn (by omega)
    | succ fu ih =>
      intro k hn k0 k1 hq
      refine g_il3 dX5_isWay_2 ?_
      refine g_al0 dX5_isWay_3 ?_
      refine f_getA 5 fk_X5_18 rfl hP.1.sh (fun _ _ => rfl) hP.1.f5 dX5_isWay_4 ?_
      refine g_callV0I (d' := 2) lk_X5_30 hP.1.l1.1 rfl (rm_lt (by decide) (by decide)) (Nat.le_of_ble_eq_true rfl) dX5_isWay_7 ?_
      refine js_size hP.1.l1 ?_
      refine g_icmp_ge (tgt := 40) dX5_isWay_10 (by decide) (by omega) (fun h10 => ?_) (fun h10 => ?_)
      · refine g_iconst dX5_isWay_40 ?_
        exact g_zret rfl (by omega) dX5_isWay_41 ⟨_, rfl, hQ _ (Or.inr ⟨rfl, fun j j0 j1 => hq j j0 (by omega)⟩)⟩
      refine g_al0 dX5_isWay_13 ?_
      refine f_getA 5 fk_X5_18 rfl hP.1.sh (fun _ _ => rfl) hP.1.f5 dX5_isWay_14 ?_
      refine g_il3 dX5_isWay_17 ?_
      refine g_callV1A (d' := 4) lk_X5_34 hP.1.l1.1 rfl (rm_lt (by decide) (by decide)) (Nat.le_of_ble_eq_true rfl) dX5_isWay_18 ?_
      refine js_get hP.1.l1 (by omega) ?_
      have hWy := hP.1.way (k := k) (by omega) (by omega)
      have hbw := hbw k (by omega) (by omega)
      refine g_cast q892 hWy.1 (Or.inl rfl) dX5_isWay_21 ?_
      refine g_il1 dX5_isWay_24 ?_
      refine g_il2 dX5_isWay_25 ?_
      refine g_callV2I (d' := 2) lk_X5_65 hWy.1 rfl (rm_lt (by decide) (by decide)) (Nat.le_of_ble_eq_true rfl) dX5_isWay_26 ?_
      refine xw_is hWy.1 hWy.2.2.1 hWy.2.2.2.1 (by omega) (by omega) (by omega) (by omega) (fun z hz => ?_)
      refine g_if_eq (tgt := 34) dX5_isWay_29 (by decide) (by omega) (fun h29 => ?_) (fun h29 => ?_)
      · refine g_inc3 dX5_isWay_34 (by decide) rfl ?_
        refine g_goto (tgt := 2) dX5_isWay_37 (by decide) ?_
        refine ih (k + 1) (by omega) (by omega) (by omega) (fun j j0 j1 => ?_)
        by_cases hj : j = k
        · rw [hj]; rcases hz with q | q; (omega); (exact q.2)
        · exact hq j j0 (by omega)
      refine g_iconst dX5_isWay_32 ?_
      exact g_zret rfl (by omega) dX5_isWay_33 ⟨_, rfl, hQ _ (Or.inl ⟨rfl, k, k0, by omega, by rcases hz with q | q; (exact q.2); (omega)⟩)⟩
  refine g_iconst dX5_isWay_0 ?_
  refine g_is3 dX5_isWay_1 (by decide) rfl ?_
  exact L2 ((f 5).toNat + 1) 0 (by omega) (by omega) (by omega) (fun j j0 j1 => by omega)
theorem xp_lastSpout  {x : Int} {Q : Int → JH → Prop} (hP : PP_ G σ lo T f) (hx : 0 ≤ x ∧ x ≤ 100)
    (hQ : Q (iI_ (fun k a => if f (159 + 3 * k) = x then f (161 + 3 * k) else a) (-1) (f 8)) σ) : CallI_ G 5 yX5_lastSpout cX5_lastSpout 4 (some .int) [A_ (some (xP_ T)), I_ x] σ Q := by
  refine call_go [some (A_ (some (xP_ T))), some (I_ x), none, none] (by decide) (Nat.le_of_ble_eq_true rfl) rfl ?_
  have hfc := hP.1.l4.2.2.2.2.2.1
  have hcp := hP.1.l4.2.2.2.2.2.2.1
  have L4 : ∀ (fu : Nat) (k : Int), f 8 - k < (fu : Int) → (0 ≤ k) → (k ≤ f 8) → GoM_ G 5 yX5_lastSpout cX5_lastSpout 4 (some .int) σ (fun v σ' => ∃ x : Int, v = some (I_ x) ∧ Q x σ') 4 [some (A_ (some (xP_ T))), some (I_ x), some (I_ (iI_ (fun k a => if f (159 + 3 * k) = x then f (161 + 3 * k) else a) (-1) k)), some (I_ k)] [] σ := by
    intro fu
    induction fu with
    | zero => intro k hn k0 k1; exact absurd hn (by omega)
    | succ fu ih =>
      intro k hn k0 k1
      refine g_il3 dX5_lastSpout_4 ?_
      refine g_al0 dX5_lastSpout_5 ?_
      refine f_getA 8 fk_X5_27 rfl hP.1.sh (fun _ _ => rfl) hP.1.f8 dX5_lastSpout_6 ?_
      refine g_callV0I (d' := 2) lk_X5_30 hP.1.l4.1 rfl (rm_lt (by decide) (by decide)) (Nat.le_of_ble_eq_true rfl) dX5_lastSpout_9 ?_
      refine js_size hP.1.l4 ?_
      refine g_icmp_ge (tgt := 54) dX5_lastSpout_12 (by decide) (by omega) (fun h12 => ?_) (fun h12 => ?_)
      · refine g_il2 dX5_lastSpout_54 ?_
        exact g_iret rfl dX5_lastSpout_55 ⟨_, rfl, by rw [show k = f 8 by omega]; exact hQ⟩
      refine g_al0 dX5_lastSpout_15 ?_
      refine f_getA 8 fk_X5_27 rfl hP.1.sh (fun _ _ => rfl) hP.1.f8 dX5_lastSpout_16 ?_
      refine g_il3 dX5_lastSpout_19 ?_
      refine g_callV1A (d' := 4) lk_X5_34 hP.1.l4.1 rfl (rm_lt (by decide) (by decide)) (Nat.le_of_ble_eq_true rfl) dX5_lastSpout_20 ?_
      refine js_get hP.1.l4 (by omega) ?_
      have hSp := hP.1.spt (k := k) (by omega) (by omega)
      have hb1 := hP.2.1 (159 + 3 * k) (by omega) (by omega)
      refine g_cast q1043 hSp.1 (Or.inl rfl) dX5_lastSpout_23 ?_
      refine f_getv 0 fk_X5_71 rfl hSp.1 (fun _ _ => rfl) hSp.2.2.1 dX5_lastSpout_26 ?_
      refine g_il1 dX5_lastSpout_29 ?_
      refine g_icmp_ne (tgt := 48) dX5_lastSpout_30 (by decide) (by omega) (fun h30 => ?_) (fun h30 => ?_)
      · refine g_inc3 dX5_lastSpout_48 (by decide) rfl ?_
        refine g_goto (tgt := 4) dX5_lastSpout_51 (by decide) ?_
        have h := ih (k + 1) (by omega) (by omega) (by omega)
        rw [iI_s _ _ k0, if_neg (by omega)] at h
        exact h
      refine g_al0 dX5_lastSpout_33 ?_
      refine f_getA 8 fk_X5_27 rfl hP.1.sh (fun _ _ => rfl) hP.1.f8 dX5_lastSpout_34 ?_
      refine g_il3 dX5_lastSpout_37 ?_
      refine g_callV1A (d' := 4) lk_X5_34 hP.1.l4.1 rfl (rm_lt (by decide) (by decide)) (Nat.le_of_ble_eq_true rfl) dX5_lastSpout_38 ?_
      refine js_get hP.1.l4 (by omega) ?_
      have hSp := hP.1.spt (k := k) (by omega) (by omega)
      refine g_cast q1043 hSp.1 (Or.inl rfl) dX5_lastSpout_41 ?_
      refine f_getv 2 fk_X5_74 rfl hSp.1 (fun _ _ => rfl) hSp.2.2.2.2 dX5_lastSpout_44 ?_
      refine g_is2 dX5_lastSpout_47 (by decide) rfl ?_
      refine g_inc3 dX5_lastSpout_48 (by decide) rfl ?_
      refine g_goto (tgt := 4) dX5_lastSpout_51 (by decide) ?_
      have h := ih (k + 1) (by omega) (by omega) (by omega)
      rw [iI_s _ _ k0, if_pos (by omega)] at h
      exact h
  refine g_iconst dX5_lastSpout_0 ?_
  refine g_is2 dX5_lastSpout_1 (by decide) rfl ?_
  refine g_iconst dX5_lastSpout_2 ?_
  refine g_is3 dX5_lastSpout_3 (by decide) rfl ?_
  exact L4 ((f 8).toNat + 1) 0 (by omega) (by omega) (by omega)
end
theorem TM_.nm1 {so pl nu : Int} {n : Nat} {w : Int → Int} (h : TM_ m γ so pl nu n w) (h2 : so = 2) (hn : 1 ≤ n) (j : Int) : nm1_ m γ j = nmq_ (iv_ γ (m + 4)) n w j := by
  have hq : iv_ γ m 6 = 2 ∧ (n : Int) = iv_ γ m 8 ∧ ∀ k, 0 ≤ k → k < (n : Int) → w k = iv_ γ (m + 2) k := by rcases h.2 with q | q | q | q | q <;> first | omega | exact ⟨q.1, q.2.2.1, q.2.2.2⟩
  rw [Bool.eq_iff_iff, nmq_iff]
  unfold nm1_
  rw [Bool.and_eq_true, decide_eq_true_eq, al_iff (by omega)]
  constructor
  · rintro ⟨⟨h1, h3⟩, h4⟩
    exact ⟨by omega, fun k k0 k1 => by rw [hq.2.2 k k0 k1]; exact of_decide_eq_true (h4 k k0 (by omega))⟩
  · rintro ⟨h1, h3⟩
    exact ⟨⟨by omega, by omega⟩, fun k k0 k1 => decide_eq_true (by rw [h3 k k0 (by omega)]; exact hq.2.2 k k0 (by omega))⟩
/-- an island of the name -/
theorem fd_isl {so pl nu : Int} {n : Nat} {w : Int → Int} (h : TM_ m γ so pl nu n w) (h2 : so = 2) (hn : 1 ≤ n) (hc : 0 ≤ iv_ γ (m + 4) 4 ∧ iv_ γ (m + 4) 4 ≤ 7) (hz : ∀ i, iv_ γ (m + 4) 4 ≤ i → i < 7 → iv_ γ (m + 4) (183 + i) = 0) :
    (fI_ (nmq_ (iv_ γ (m + 4)) n w) (iv_ γ (m + 4) 4) = -1 ∧ ¬ (0 ≤ fd_ m γ ∧ fd_ m γ ≤ 6)) ∨ (fI_ (nmq_ (iv_ γ (m + 4)) n w) (iv_ γ (m + 4) 4) = fd_ m γ ∧ 0 ≤ fd_ m γ ∧ fd_ m γ < iv_ γ (m + 4) 4) := by
  rcases fI_spec (nmq_ (iv_ γ (m + 4)) n w) (n := iv_ γ (m + 4) 4) hc.1 with ⟨q1, q2⟩ | ⟨q1, q2, q3, q4⟩
  · left
    refine ⟨q1, fun ⟨a, b⟩ => ?_⟩
    have e := (fd_hit a).2.1
    by_cases c : fd_ m γ < iv_ γ (m + 4) 4
    · rw [h.nm1 h2 hn, q2 _ a c] at e; cases e
    · have := nm1_sz e
      have := hz _ (by omega) (show fd_ m γ < 7 by omega)
      omega
  · right
    have e : fd_ m γ = fI_ (nmq_ (iv_ γ (m + 4)) n w) (iv_ γ (m + 4) 4) := fI_hit q1 (by omega) (by rw [h.nm1 h2 hn]; exact q3) (fun j j0 j1 => by rw [h.nm1 h2 hn]; exact q4 j j0 j1)
    exact ⟨e.symm, by omega, by omega⟩
/-- a whale of the name -/
theorem fd_whl {so pl nu : Int} {n : Nat} {w : Int → Int} (h : TM_ m γ so pl nu n w) (h2 : so = 2) (hn : 1 ≤ n) (hF : FW_ (iv_ γ (m + 4))) :
    (fI_ (fun k => nmq_ (iv_ γ (m + 4)) n w (7 + k)) (iv_ γ (m + 4) 6) = -1 ∧ ¬ (7 ≤ fd_ m γ ∧ fd_ m γ ≤ 11)) ∨ (fI_ (fun k => nmq_ (iv_ γ (m + 4)) n w (7 + k)) (iv_ γ (m + 4) 6) = fd_ m γ - 7 ∧ 7 ≤ fd_ m γ ∧ fd_ m γ < 7 + iv_ γ (m + 4) 6) := by
  have hc := hF.cn
  rcases fI_spec (fun k => nmq_ (iv_ γ (m + 4)) n w (7 + k)) (n := iv_ γ (m + 4) 6) hc.2.2.1.1 with ⟨q1, q2⟩ | ⟨q1, q2, q3, q4⟩
  · left
    refine ⟨q1, fun ⟨a, b⟩ => ?_⟩
    have e := (fd_hit (show 0 ≤ fd_ m γ by omega)).2.1
    by_cases c : fd_ m γ - 7 < iv_ γ (m + 4) 6
    · have e2 := q2 (fd_ m γ - 7) (by omega) c
      (try dsimp only at e2)
      rw [show 7 + (fd_ m γ - 7) = fd_ m γ by omega, ← h.nm1 h2 hn, e] at e2
      cases e2
    · have e1 := nm1_sz e
      have e2 := hF.2.2.2.1 (fd_ m γ - 7) (by omega) (by omega)
      rw [show 190 + (fd_ m γ - 7) = 183 + fd_ m γ by omega] at e2
      omega
  · right
    (try dsimp only at q3 q4)
    generalize fI_ (fun k => nmq_ (iv_ γ (m + 4)) n w (7 + k)) (iv_ γ (m + 4) 6) = x at *
    have hi : ∀ j, 0 ≤ j → j < 7 → nm1_ m γ j = false := fun j j0 j1 => by
      cases e : nm1_ m γ j with
      | false => rfl
      | true =>
        exfalso
        have e1 := nm1_sz e
        by_cases c : j < iv_ γ (m + 4) 4
        · refine hF.2.2.2.2.2.1 j x j0 c q1 q2 ?_
          rw [h.nm1 h2 hn] at e
          obtain ⟨a1, a2⟩ := nmq_iff.mp e
          obtain ⟨b1, b2⟩ := nmq_iff.mp q3
          exact ⟨by omega, fun k k0 k1 => by rw [a2 k k0 (by omega), b2 k k0 (by omega)]⟩
        · have := hF.2.2.1 j (by omega) j1
          omega
    have e : fd_ m γ = 7 + x := fI_hit (by omega) (by omega) (by rw [h.nm1 h2 hn]; exact q3) (fun j j0 j1 => by
      by_cases c : j < 7
      · exact hi j j0 c
      · have := q4 (j - 7) (by omega) (by omega)
        rw [show 7 + (j - 7) = j by omega] at this
        rw [h.nm1 h2 hn]
        exact this)
    exact ⟨by omega, by omega, by omega⟩
/-- no name at all -/
theorem fd_non {so pl nu : Int} {n : Nat} {w : Int → Int} (h : TM_ m γ so pl nu n w) (h2 : so = 2) (hn : 1 ≤ n) (hF : FW_ (iv_ γ (m + 4))) : NoN_ (iv_ γ (m + 4)) n w ↔ ¬ 0 ≤ fd_ m γ := by
  constructor
  · rintro ⟨a1, a2, a3⟩ q
    obtain ⟨q1, q2, -⟩ := fd_hit q
    have e1 := nm1_sz q2
    rw [h.nm1 h2 hn] at q2
    by_cases c1 : fd_ m γ < 7
    · by_cases c : fd_ m γ < iv_ γ (m + 4) 4
      · rw [a1 _ q c] at q2; cases q2
      · have := hF.2.2.1 _ (show iv_ γ (m + 4) 4 ≤ fd_ m γ by omega) c1
        omega
    · by_cases c2 : fd_ m γ < 12
      · by_cases c : fd_ m γ - 7 < iv_ γ (m + 4) 6
        · have := a2 (fd_ m γ - 7) (by omega) c
          rw [show 7 + (fd_ m γ - 7) = fd_ m γ by omega, q2] at this
          cases this
        · have e2 := hF.2.2.2.1 (fd_ m γ - 7) (by omega) (by omega)
          rw [show 190 + (fd_ m γ - 7) = 183 + fd_ m γ by omega] at e2
          omega
      · by_cases c : fd_ m γ - 12 < iv_ γ (m + 4) 7
        · have := a3 (fd_ m γ - 12) (by omega) c
          rw [show 12 + (fd_ m γ - 12) = fd_ m γ by omega, q2] at this
          cases this
        · have e2 := hF.2.2.2.2.1 (fd_ m γ - 12) (by omega) (by omega)
          rw [show 195 + (fd_ m γ - 12) = 183 + fd_ m γ by omega] at e2
          omega
  · intro q
    have hc := hF.cn
    have hm : fd_ m γ = -1 := by rcases fd_in (m := m) γ with z | z <;> omega
    have hall := fd_no hm
    refine ⟨fun i i0 i1 => ?_, fun i i0 i1 => ?_, fun i i0 i1 => ?_⟩
    · rw [← h.nm1 h2 hn]; exact hall i i0 (by omega)
    · rw [← h.nm1 h2 hn]; exact hall (7 + i) (by omega) (by omega)
    · rw [← h.nm1 h2 hn]; exact hall (12 + i) (by omega) (by omega)
/-- what a name was found to be, and the ghost's 'named' -/
theorem kno_isl {so pl nu : Int} {n : Nat} {w : Int → Int} {f : Int → Int} (h : iv_ γ m 13 = 0 → TM_ m γ so pl nu n w) (hn : so = 2 → 1 ≤ n) (hf : iv_ γ m 13 = 0 → f = iv_ γ (m + 4)) (hc : iv_ γ m 13 = 0 → (0 ≤ iv_ γ (m + 4) 4 ∧ iv_ γ (m + 4) 4 ≤ 7) ∧ ∀ i, iv_ γ (m + 4) 4 ≤ i → i < 7 → iv_ γ (m + 4) (183 + i) = 0) :
    kno_ m γ (fI_ (nmq_ f n w) (f 4)) = ndd_ m γ 0 6 ∧ (iv_ (ndd_ m γ 0 6) m 13 = 0 → fI_ (nmq_ f n w) (f 4) = ndv_ m γ 0 6) := by
  unfold kno_ ndd_ ndv_
  by_cases h0 : iv_ γ m 13 = 0
  · rw [if_pos h0, if_pos h0]
    by_cases hi : isn_ m γ
    · rw [if_pos hi, if_pos hi]
      have h2 := (((h h0).isn h0).mp hi).1
      have q := fd_isl (h h0) h2 (hn h2) (hc h0).1 (hc h0).2
      rw [hf h0]
      have hb := (hc h0).1
      rcases q with q | q
      · rw [if_pos q.1, if_neg q.2]
        refine ⟨rfl, fun w => ?_⟩
        rw [wr_13 (Or.inl h0)] at w
        omega
      · rw [if_neg (by omega), if_pos (by omega)]
        refine ⟨rfl, fun _ => ?_⟩
        rw [if_pos ⟨h0, hi, by omega, by omega⟩]
        omega
    · rw [if_neg hi, if_neg hi]
      refine ⟨rfl, fun w => ?_⟩
      rw [wr_13 (Or.inl h0)] at w
      omega
  · rw [if_neg h0, if_neg h0]
    exact ⟨rfl, fun w => absurd w h0⟩
theorem kno_whl {so pl nu : Int} {n : Nat} {w : Int → Int} {f : Int → Int} (h : iv_ γ m 13 = 0 → TM_ m γ so pl nu n w) (hn : so = 2 → 1 ≤ n) (hf : iv_ γ m 13 = 0 → f = iv_ γ (m + 4)) (hc : iv_ γ m 13 = 0 → FW_ (iv_ γ (m + 4))) :
    kno_ m γ (fI_ (fun k => nmq_ f n w (7 + k)) (f 6)) = ndd_ m γ 7 11 ∧ (iv_ (ndd_ m γ 7 11) m 13 = 0 → fI_ (fun k => nmq_ f n w (7 + k)) (f 6) = ndv_ m γ 7 11) := by
  unfold kno_ ndd_ ndv_
  by_cases h0 : iv_ γ m 13 = 0
  · rw [if_pos h0, if_pos h0]
    by_cases hi : isn_ m γ
    · rw [if_pos hi, if_pos hi]
      have h2 := (((h h0).isn h0).mp hi).1
      have q := fd_whl (h h0) h2 (hn h2) (hc h0)
      have hb := (hc h0).cn
      rw [hf h0]
      rcases q with q | q
      · rw [if_pos q.1, if_neg q.2]
        refine ⟨rfl, fun w => ?_⟩
        rw [wr_13 (Or.inl h0)] at w
        omega
      · rw [if_neg (by omega), if_pos (by omega)]
        refine ⟨rfl, fun _ => ?_⟩
        rw [if_pos ⟨h0, hi, by omega, by omega⟩]
        omega
    · rw [if_neg hi, if_neg hi]
      refine ⟨rfl, fun w => ?_⟩
      rw [wr_13 (Or.inl h0)] at w
      omega
  · rw [if_neg h0, if_neg h0]
    exact ⟨rfl, fun w => absurd w h0⟩
theorem xr_island  {Q : Int → JH → Prop} (hR : RR_ G m X ρ σ γ o T c d) (hcd : 0 ≤ c ∧ 0 ≤ d) (hc : iv_ γ m 13 = 0 → (0 ≤ iv_ γ (m + 4) 4 ∧ iv_ γ (m + 4) 4 ≤ 7) ∧ ∀ i, iv_ γ (m + 4) 4 ≤ i → i < 7 → iv_ γ (m + 4) (183 + i) = 0)
    (hQ : ∀ (z : Int) σ' o', RR_ G m X ρ σ' (onn_ m (ndd_ m γ 0 6)) o' T c d → GX_ ρ σ σ' → (iv_ (ndd_ m γ 0 6) m 13 = 0 → z = ndv_ m γ 0 6) → (0 ≤ z ∧ z ≤ 15) → Q z σ') : CallI_ G 12 yX3_island cX3_island 2 (some .int) [A_ (some ρ)] σ Q := by
  refine call_go [some (A_ (some ρ)), none] (by decide) (Nat.le_of_ble_eq_true rfl) rfl ?_
  obtain ⟨so, pl, nu, wd, wv, n, w, hK, hTM0⟩ := hR.2.2.2.1
  have hKb := hK.2.2.2.2.2.2.2.2.2.1
  obtain ⟨f, hP, hPf⟩ := hR.2.2.2.2.1
  have hP1 : rv_ σ ρ 1 = some (xP_ T) := by rw [hR.1.2.2.2.2.2.2]; exact hR.1.2.2.2.2.1
  refine g_al0 dX3_island_0 ?_
  refine g_al0 dX3_island_1 ?_
  refine f_getA 1 fk_X3_12 rfl hR.h3 (fun _ _ => rfl) hP1 dX3_island_2 ?_
  refine g_al0 dX3_island_5 ?_
  refine f_getA 2 fk_X3_28 rfl hR.h3 (fun _ _ => rfl) hR.1.2.2.2.2.2.1 dX3_island_6 ?_
  refine f_getA 3 fk_X3_78 rfl hK.1 (fun _ _ => rfl) hK.2.2.2.2.2.1 dX3_island_9 ?_
  refine g_callV1I (d' := 5) lk_X3_84 hP.1.sh rfl (rm_lt (by decide) (by decide)) (Nat.le_of_ble_eq_true rfl) dX3_island_12 ?_
  refine xp_island hP hK.2.2.2.2.2.2.1 ?_
  have hk := kno_isl hTM0 (fun q => (hK.2.2.2.2.2.2.2.2.1 q).2.1.1) hPf hc
  have hfi := fI_spec (nmq_ f n w) (n := f 4) hP.1.l0.2.2.2.2.2.1.1
  have hfc := hP.1.l0.2.2.2.2.2.2.1
  have hfd := hP.1.l0.2.2.2.2.2.1.2
  refine g_callV1I (d' := 7) lk_X3_88 hR.h3 rfl (rm_lt (by decide) (by decide)) (Nat.le_of_ble_eq_true rfl) dX3_island_15 ?_
  refine xr_known hR hcd (by omega) (fun z σ1 hR1 hg1 hz1 hz2 => ?_)
  rw [hk.1] at hR1 hz1
  have hR := hR1
  refine g_is1 dX3_island_18 (by decide) rfl ?_
  refine g_al0 dX3_island_19 ?_
  refine g_callV0V (d' := 11) lk_X3_49 hR.h3 rfl (rm_lt (by decide) (by decide)) (Nat.le_of_ble_eq_true rfl) dX3_island_20 ?_
  refine xr_on hR1 hcd (fun σ2 o2 hR2 hg2 => ?_)
  refine g_il1 dX3_island_23 ?_
  exact g_iret rfl dX3_island_24 ⟨_, rfl, hQ _ _ _ (hR2 _ _ (Or.inl ⟨Int.le_refl _, Int.le_refl _⟩)) (hg1.tr hg2) (fun q => (hz1 q).trans (hk.2 q)) (by omega)⟩
theorem xr_partIsland {a v n' : Nat} {c' : Int → Int} {Q : Int → JH → Prop} (hR : RR_ G m X ρ σ γ o T c d) (hcd : 0 ≤ c ∧ 0 ≤ d) (hS : Str_ σ a v n' c') (hc : iv_ γ m 13 = 0 → (0 ≤ iv_ γ (m + 4) 4 ∧ iv_ γ (m + 4) 4 ≤ 7) ∧ ∀ i, iv_ γ (m + 4) 4 ≤ i → i < 7 → iv_ γ (m + 4) (183 + i) = 0)
    (hQ : ∀ (z : Int) σ' o', RR_ G m X ρ σ' (ibh_ m γ n' c') o' T c d → GX_ ρ σ σ' → (iv_ (ndd_ m (mus_ m γ n' c') 0 6) m 13 = 0 → z = ibv_ m γ n' c') → (0 ≤ z ∧ z ≤ 15) → Q z σ') : CallI_ G 13 yX3_partIsland cX3_partIsland 2 (some .int) [A_ (some ρ), A_ (some a)] σ Q := by
  refine call_go [some (A_ (some ρ)), some (A_ (some a))] (by decide) (Nat.le_of_ble_eq_true rfl) rfl ?_
  have hI0 := hR.I
  refine g_al0 dX3_partIsland_0 ?_
  refine g_al1 dX3_partIsland_1 ?_
  refine g_callV1V (d' := 12) lk_X3_67 hR.h3 rfl (rm_lt (by decide) (by decide)) (Nat.le_of_ble_eq_true rfl) dX3_partIsland_2 ?_
  refine xr_needs hR hcd hS (fun σ1 o1 hR1 hg1 => ?_)
  have hR := hR1
  refine g_al0 dX3_partIsland_5 ?_
  refine g_callV0I (d' := 12) lk_X3_92 hR.h3 rfl (rm_lt (by decide) (by decide)) (Nat.le_of_ble_eq_true rfl) dX3_partIsland_6 ?_
  refine xr_island hR1 hcd (fun q => by have h5 : iv_ γ m 13 = 0 := Classical.byContradiction fun w => w (((mus_A0 hI0 _ _).2.2 w).1.symm.trans q); have e4 := (mus_f0 (m := m) γ n' c').f4; rw [e4]; exact ⟨(hc h5).1, fun i i0 i1 => by rw [e4]; exact (hc h5).2 i i0 i1⟩) (fun z σ2 o2 hR2 hg2 hz hb => ?_)
  exact g_iret rfl dX3_partIsland_9 ⟨_, rfl, hQ _ _ _ hR2 (hg1.tr hg2) hz hb⟩
end
