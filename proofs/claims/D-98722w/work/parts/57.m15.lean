/-! THE REFERENCE: words. Written by mod/m57.py -/
set_option maxRecDepth 100000
/-- what a literal says -/
def tx_ (s : String) : Int → Int := fun k => ((s.toList.getD k.toNat 'a').toNat : Int)
def LT_ (G : JG) (σ : JH) (i n : Nat) (c : Int → Int) : Prop := ∃ v : Nat, Str_ σ (gK_ G i) v n c ∧ gK_ G i < (gH_ G).size ∧ v < (gH_ G).size
/-- the literals lie in the start's heap -/
def LS_ (G : JG) (σ : JH) : Prop := ∀ (i : Nat) (q : String × Nat × String), lit_[i]? = some q → LT_ G σ i q.2.2.length (tx_ q.2.2)
section
variable {G : JG} {m : Nat} {σ : JH}
theorem Str_.fr {S : Nat → Int → Prop} {σ' : JH} {a v n : Nat} {c : Int → Int} (h : Str_ σ a v n c) (f : Fr_ S σ σ') (ha : ∀ k, ¬ S a k) (hv : ∀ k, ¬ S v k) : Str_ σ' a v n c := by
  obtain ⟨h1, h2, h3, h4, h5, h6⟩ := h
  exact ⟨(f.1 _).trans h1, (f.2.1 _ _).trans h2, (f.1 _).trans h3, (f.2.2.2.2 _ _ (ha _)).trans h4, h5, fun k k0 k1 => ⟨(f.2.2.2.2 _ _ (hv _)).trans (h6 k k0 k1).1, (h6 k k0 k1).2⟩⟩
/-- what reading writes -/
def pf1_ (m : Nat) (b : Nat) (k : Int) : Prop := (b = m ∧ ((4 ≤ k ∧ k ≤ 10) ∨ k = 13)) ∨ b = m + 2 ∨ b = m + 4
theorem LT_.fr {σ' : JH} {i n : Nat} {c : Int → Int} (h : LT_ G σ i n c) (hm : (gH_ G).size ≤ m) (f : Fr_ (pf1_ m) σ σ') : LT_ G σ' i n c := by
  obtain ⟨v, h1, h2, h3⟩ := h
  exact ⟨v, h1.fr f (fun k q => by unfold pf1_ at q; omega) (fun k q => by unfold pf1_ at q; omega), h2, h3⟩
theorem LS_.fr {σ' : JH} (h : LS_ G σ) (hm : (gH_ G).size ≤ m) (f : Fr_ (pf1_ m) σ σ') : LS_ G σ' := fun i q e => (h i q e).fr hm f
theorem nxt_fr (γ : JH) : Fr_ (pf1_ m) γ (nxt_ m γ) := by
  unfold nxt_
  dsimp only
  split
  · exact ((((Fr_.rf.pi (Or.inl ⟨rfl, by omega⟩)).pi (Or.inl ⟨rfl, by omega⟩)).pi (Or.inl ⟨rfl, by omega⟩)).pi (Or.inl ⟨rfl, by omega⟩)).pi (Or.inl ⟨rfl, by omega⟩)
  · split
    · refine Fr_.pi (Fr_.pi (Fr_.pi ?_ (Or.inl ⟨rfl, by omega⟩)) (Or.inl ⟨rfl, by omega⟩)) (Or.inl ⟨rfl, by omega⟩)
      refine ⟨fun _ => rfl, fun _ _ => rfl, rfl, rfl, fun b k q => ?_⟩
      unfold pf1_ at q
      rw [iv_pb, if_neg (by omega), iv_pi, if_neg (by omega), iv_pi, if_neg (by omega), iv_pi, if_neg (by omega)]
    · split
      · exact (((((Fr_.rf.pi (Or.inl ⟨rfl, by omega⟩)).pi (Or.inl ⟨rfl, by omega⟩)).pi (Or.inl ⟨rfl, by omega⟩)).pi (Or.inl ⟨rfl, by omega⟩)).pi (Or.inl ⟨rfl, by omega⟩)).pi (Or.inl ⟨rfl, by omega⟩)
      · exact ((((Fr_.rf.pi (Or.inl ⟨rfl, by omega⟩)).pi (Or.inl ⟨rfl, by omega⟩)).pi (Or.inl ⟨rfl, by omega⟩)).pi (Or.inl ⟨rfl, by omega⟩)).pi (Or.inl ⟨rfl, by omega⟩)
theorem wr_fr (γ : JH) (w a : Int) : Fr_ (pf1_ m) γ (wr_ m γ w a) := by
  unfold wr_
  split
  · exact ((Fr_.rf.pi (Or.inl ⟨rfl, by omega⟩)).pi (Or.inl ⟨rfl, by omega⟩)).pi (Or.inl ⟨rfl, by omega⟩)
  · exact Fr_.rf
theorem MR_.fr {S : Nat → Int → Prop} {σ' : JH} (h : MR_ G m σ) (f : Fr_ S σ σ') : MR_ G m σ' := h.to f.1 f.2.1
theorem mo_isWord {a v n : Nat} {c : Int → Int} {Q : Int → JH → Prop} (hR : MR_ G m σ) (hP : PI_ m σ) (hS : Str_ σ a v n c)
    (hQ : ∀ z : Int, (z = 1 ∧ iw_ m σ n c = true) ∨ (z = 0 ∧ iw_ m σ n c = false) → Q z σ) : CallI_ G 7 yX2_isWord cX2_isWord 4 (some .boolean) [A_ (some m), A_ (some a)] σ Q := by
  refine call_go [some (A_ (some m)), some (A_ (some a)), none, none] (by decide) (Nat.le_of_ble_eq_true rfl) rfl ?_
  have hp3 := hP.2.2.1
  have hp6 := hP.2.2.2.2.1
  have hp8 := hP.2.2.2.2.2.2.1
  have hsn := hS.2.2.2.2.1
  have L32 : ∀ (n9 : Nat) (z : Int) (k : Int), (n : Int) - k < (n9 : Int) → (iv_ σ m 13 = 0) → (iv_ σ m 6 = 2) → (iv_ σ m 8 = n) → (0 ≤ k) → (k ≤ n) → ((z = 1 ∧ ∀ j : Int, 0 ≤ j → j < k → iv_ σ (m + 2) j = c j) ∨ (z = 0 ∧ ∃ j : Int, 0 ≤ j ∧ j < n ∧ iv_ σ (m + 2) j ≠ c j)) → GoM_ G 7 yX2_isWord cX2_isWord 4 (some .boolean) σ (fun v σ' => ∃ x : Int, v = some (I_ x) ∧ Q x σ') 32 [some (A_ (some m)), some (A_ (some a)), some (I_ z), some (I_ k)] [] σ := by
    intro n9
    induction n9 with
    | zero => intro z k hn f0 f1 f2 h0 h1 hI; exact absurd hn (by omega)
    | succ n9 ih =>
      intro z k hn f0 f1 f2 h0 h1 hI
      refine g_il3 dX2_isWord_32 ?_
      refine g_al0 dX2_isWord_33 ?_
      refine f_getv 8 fk_X2_84 rfl hR.sh (fun _ _ => rfl) f2 dX2_isWord_34 ?_
      have hp := hP.2.2.2.2.2.2.2 f1
      refine g_icmp_ge (tgt := 70) dX2_isWord_37 (by decide) (by omega) (fun h37 => ?_) (fun h37 => ?_)
      · refine g_il2 dX2_isWord_70 ?_
        exact g_zret rfl (by omega) dX2_isWord_71 ⟨_, rfl, hQ _ (by
  unfold iw_
  rcases hI with q | q
  · refine Or.inl ⟨q.1, ?_⟩
    rw [Bool.and_eq_true, al_iff (by omega)]
    exact ⟨decide_eq_true ⟨f0, f1, f2⟩, fun j j0 j1 => decide_eq_true (q.2 j j0 (by omega))⟩
  · refine Or.inr ⟨q.1, Bool.eq_false_iff.mpr fun w => ?_⟩
    rw [Bool.and_eq_true, al_iff (by omega)] at w
    obtain ⟨j, j0, j1, j2⟩ := q.2
    exact j2 (of_decide_eq_true (w.2 j j0 j1)))⟩
      refine g_il2 dX2_isWord_40 ?_
      refine g_if_eq (tgt := 62) dX2_isWord_41 (by decide) (by omega) (fun h41 => ?_) (fun h41 => ?_)
      · refine g_iconst dX2_isWord_62 ?_
        refine g_is2 dX2_isWord_63 (by decide) rfl ?_
        refine g_inc3 dX2_isWord_64 (by decide) rfl ?_
        refine g_goto (tgt := 32) dX2_isWord_67 (by decide) ?_
        refine ih _ _ (by omega) f0 f1 f2 (by omega) (by omega) (Or.inr ⟨rfl, hI.elim (fun q => by omega) (fun q => q.2)⟩)
      refine g_al0 dX2_isWord_44 ?_
      refine f_getA 12 fk_X2_17 rfl hR.sh (fun _ _ => rfl) hR.f12 dX2_isWord_45 ?_
      refine g_il3 dX2_isWord_48 ?_
      refine g_iald hR.a12 (by omega) dX2_isWord_49 ?_
      have hlt := hp.2 k (by omega) (by omega)
      refine g_al1 dX2_isWord_50 ?_
      refine g_il3 dX2_isWord_51 ?_
      refine g_callV1I (d' := 6) lk_X2_113 hS.1 rfl (rm_lt (by decide) (by decide)) (Nat.le_of_ble_eq_true rfl) dX2_isWord_52 ?_
      refine js_charAt hS (by omega) ?_
      have hc := (hS.2.2.2.2.2 k (by omega) (by omega)).2
      refine g_icmp_ne (tgt := 62) dX2_isWord_55 (by decide) (by omega) (fun h55 => ?_) (fun h55 => ?_)
      · refine g_iconst dX2_isWord_62 ?_
        refine g_is2 dX2_isWord_63 (by decide) rfl ?_
        refine g_inc3 dX2_isWord_64 (by decide) rfl ?_
        refine g_goto (tgt := 32) dX2_isWord_67 (by decide) ?_
        refine ih _ _ (by omega) f0 f1 f2 (by omega) (by omega) (Or.inr ⟨rfl, k, by omega, by omega, by omega⟩)
      refine g_iconst dX2_isWord_58 ?_
      refine g_goto (tgt := 63) dX2_isWord_59 (by decide) ?_
      refine g_is2 dX2_isWord_63 (by decide) rfl ?_
      refine g_inc3 dX2_isWord_64 (by decide) rfl ?_
      refine g_goto (tgt := 32) dX2_isWord_67 (by decide) ?_
      refine ih _ _ (by omega) f0 f1 f2 (by omega) (by omega) (Or.inl ⟨rfl, fun j j0 j1 => by rcases hI with q | q; (by_cases hj : j = k; (rw [hj]; omega); (exact q.2 j j0 (by omega))); (omega)⟩)
  refine g_al0 dX2_isWord_0 ?_
  refine f_getI 13 fk_X2_100 rfl hR.sh (fun _ _ => rfl) dX2_isWord_1 ?_
  refine g_if_ne (tgt := 26) dX2_isWord_4 (by decide) (by omega) (fun h4 => ?_) (fun h4 => ?_)
  · refine g_iconst dX2_isWord_26 ?_
    exact g_zret rfl (by omega) dX2_isWord_27 ⟨_, rfl, hQ _ (Or.inr ⟨rfl, by unfold iw_; rw [decide_eq_false (by omega)]; rfl⟩)⟩
  refine g_al0 dX2_isWord_7 ?_
  refine f_getI 6 fk_X2_90 rfl hR.sh (fun _ _ => rfl) dX2_isWord_8 ?_
  refine g_iconst dX2_isWord_11 ?_
  refine g_icmp_ne (tgt := 26) dX2_isWord_12 (by decide) (by omega) (fun h12 => ?_) (fun h12 => ?_)
  · refine g_iconst dX2_isWord_26 ?_
    exact g_zret rfl (by omega) dX2_isWord_27 ⟨_, rfl, hQ _ (Or.inr ⟨rfl, by unfold iw_; rw [decide_eq_false (by omega)]; rfl⟩)⟩
  refine g_al0 dX2_isWord_15 ?_
  refine f_getI 8 fk_X2_84 rfl hR.sh (fun _ _ => rfl) dX2_isWord_16 ?_
  refine g_al1 dX2_isWord_19 ?_
  refine g_callV0I (d' := 3) lk_X2_107 hS.1 rfl (rm_lt (by decide) (by decide)) (Nat.le_of_ble_eq_true rfl) dX2_isWord_20 ?_
  refine js_length hS ?_
  refine g_icmp_eq (tgt := 28) dX2_isWord_23 (by decide) (by omega) (fun h23 => ?_) (fun h23 => ?_)
  · refine g_iconst dX2_isWord_28 ?_
    refine g_is2 dX2_isWord_29 (by decide) rfl ?_
    refine g_iconst dX2_isWord_30 ?_
    refine g_is3 dX2_isWord_31 (by decide) rfl ?_
    exact L32 (n + 1) _ _ (by omega) (by omega) (by omega) (by omega) (by omega) (by omega) (Or.inl ⟨rfl, fun j j0 j1 => by omega⟩)
  refine g_iconst dX2_isWord_26 ?_
  exact g_zret rfl (by omega) dX2_isWord_27 ⟨_, rfl, hQ _ (Or.inr ⟨rfl, by unfold iw_; rw [decide_eq_false (by omega)]; rfl⟩)⟩
theorem mo_takesWord {a v n : Nat} {c : Int → Int} {Q : Int → JH → Prop} (hR : MR_ G m σ) (hP : PI_ m σ) (hS : Str_ σ a v n c)
    (hQ : ∀ (z : Int) (σ' : JH), (z = 1 ∧ iw_ m σ n c = true ∧ σ' = nxt_ m σ) ∨ (z = 0 ∧ iw_ m σ n c = false ∧ σ' = σ) → Q z σ') : CallI_ G 8 yX2_takesWord cX2_takesWord 2 (some .boolean) [A_ (some m), A_ (some a)] σ Q := by
  refine call_go [some (A_ (some m)), some (A_ (some a))] (by decide) (Nat.le_of_ble_eq_true rfl) rfl ?_
  refine g_al0 dX2_takesWord_0 ?_
  refine g_al1 dX2_takesWord_1 ?_
  refine g_callV1I (d' := 7) lk_X2_117 hR.sh rfl (rm_lt (by decide) (by decide)) (Nat.le_of_ble_eq_true rfl) dX2_takesWord_2 ?_
  refine mo_isWord hR hP hS (fun z hz => ?_)
  refine g_if_ne (tgt := 10) dX2_takesWord_5 (by decide) (by omega) (fun h5 => ?_) (fun h5 => ?_)
  · refine g_al0 dX2_takesWord_10 ?_
    refine g_callV0V (d' := 3) lk_X2_121 hR.sh rfl (rm_lt (by decide) (by decide)) (Nat.le_of_ble_eq_true rfl) dX2_takesWord_11 ?_
    refine mo_next hR hP.1 hP.2.1 ?_
    refine g_iconst dX2_takesWord_14 ?_
    exact g_zret rfl (by omega) dX2_takesWord_15 ⟨_, rfl, hQ _ _ (Or.inl ⟨rfl, by rcases hz with q | q; (exact q.2); (omega), rfl⟩)⟩
  refine g_iconst dX2_takesWord_8 ?_
  exact g_zret rfl (by omega) dX2_takesWord_9 ⟨_, rfl, hQ _ _ (Or.inr ⟨rfl, by rcases hz with q | q; (omega); (exact q.2), rfl⟩)⟩
/-- a word must stand there -/
def mus_ (m : Nat) (γ : JH) (n : Int) (c : Int → Int) : JH := if iv_ γ m 13 = 0 then (if iw_ m γ n c = true then nxt_ m γ else wr_ m γ 1 (iv_ γ m 4)) else γ
theorem mo_must {a v n : Nat} {c : Int → Int} {Q : JH → Prop} (hR : MR_ G m σ) (hP : PI_ m σ) (hS : Str_ σ a v n c)
    (hQ : Q (mus_ m σ n c)) : CallV_ G 9 yX2_must cX2_must 2 none [A_ (some m), A_ (some a)] σ Q := by
  refine call_go [some (A_ (some m)), some (A_ (some a))] (by decide) (Nat.le_of_ble_eq_true rfl) rfl ?_
  have hp3 := hP.2.2.1
  refine g_al0 dX2_must_0 ?_
  refine f_getI 13 fk_X2_100 rfl hR.sh (fun _ _ => rfl) dX2_must_1 ?_
  refine g_if_ne (tgt := 24) dX2_must_4 (by decide) (by omega) (fun h4 => ?_) (fun h4 => ?_)
  · exact g_vret rfl dX2_must_24 ⟨rfl, by unfold mus_ at hQ; rw [if_neg (by omega)] at hQ; exact hQ⟩
  refine g_al0 dX2_must_7 ?_
  refine g_al1 dX2_must_8 ?_
  refine g_callV1I (d' := 8) lk_X2_124 hR.sh rfl (rm_lt (by decide) (by decide)) (Nat.le_of_ble_eq_true rfl) dX2_must_9 ?_
  refine mo_takesWord hR hP hS (fun z σ1 hz => ?_)
  refine g_if_ne (tgt := 24) dX2_must_12 (by decide) (by omega) (fun h12 => ?_) (fun h12 => ?_)
  · exact g_vret rfl dX2_must_24 ⟨rfl, by unfold mus_ at hQ; rcases hz with q | q; (obtain ⟨-, q1, rfl⟩ := q; rw [if_pos (by omega), if_pos q1] at hQ; exact hQ); (omega)⟩
  refine g_al0 dX2_must_15 ?_
  refine g_iconst dX2_must_16 ?_
  refine g_al0 dX2_must_17 ?_
  have hz2 : iw_ m σ n c = false ∧ σ1 = σ := by rcases hz with q | q; (omega); (exact q.2)
  obtain ⟨hz3, rfl⟩ := hz2
  refine f_getI 4 fk_X2_81 rfl hR.sh (fun _ _ => rfl) dX2_must_18 ?_
  refine g_callV2V (d' := 2) lk_X2_127 hR.sh rfl (rm_lt (by decide) (by decide)) (Nat.le_of_ble_eq_true rfl) dX2_must_21 ?_
  refine mo_wrong hR hP.2.2.1 ?_
  exact g_vret rfl dX2_must_24 ⟨rfl, by unfold mus_ at hQ; rw [if_pos (by omega), if_neg (by rw [hz3]; decide)] at hQ; exact hQ⟩
end
