/-! THE COMPONENT: a spout's line. Written by mod/m9u.py -/
set_option maxRecDepth 100000
section
variable {G : JG} {m X ρ o : Nat} {σ σ' γ : JH} {T : XT} {c d : Int}
variable {γ1 : JH}
theorem iI_rel {α β : Type} {f : Int → α → α} {g : Int → β → β} {a : α} {b : β} {n : Int} (P : α → β → Prop) (h0 : P a b) (hs : ∀ k x y, 0 ≤ k → k < n → P x y → P (f k x) (g k y)) (hn : 0 ≤ n) : P (iI_ f a n) (iI_ g b n) := by
  have key : ∀ m : Nat, (m : Int) ≤ n → P (it_ f a m) (it_ g b m) := by
    intro m
    induction m with
    | zero => intro _; exact h0
    | succ m ih => intro h; exact hs m _ _ (by omega) (by omega) (ih (by omega))
  have := key n.toNat (by omega)
  unfold iI_
  exact this
theorem lst_eq {f : Int → Int} {w : Int} (hf : f = iv_ γ (m + 4)) (h8 : 0 ≤ iv_ γ (m + 4) 8) : iI_ (fun k a => if f (159 + 3 * k) = w then f (161 + 3 * k) else a) (-1) (f 8) + 1 = lst_ m γ w := by
  subst hf
  unfold lst_
  refine iI_rel (fun x y => x + 1 = y) (by decide) (fun k x y k0 k1 h => ?_) h8
  (try dsimp only)
  rw [show 159 + 3 * k + 2 = 161 + 3 * k by omega]
  split
  · rfl
  · exact h
theorem lsp_in {f : Int → Int} {w : Int} (hF : ∀ k, 0 ≤ k → k < 363 → 0 ≤ f k ∧ f k ≤ 9999) (h8 : 0 ≤ f 8 ∧ f 8 ≤ 15) : -1 ≤ iI_ (fun k a => if f (159 + 3 * k) = w then f (161 + 3 * k) else a) (-1) (f 8) ∧ iI_ (fun k a => if f (159 + 3 * k) = w then f (161 + 3 * k) else a) (-1) (f 8) ≤ 9999 := by
  refine iI_inv (n := f 8) (P := fun _ a => -1 ≤ a ∧ a ≤ 9999) (by decide) (fun k a k0 k1 h => ?_) h8.1
  (try dsimp only)
  split
  · have := hF (161 + 3 * k) (by omega) (by omega); omega
  · exact h
theorem aw_l {w : String} {l h' l2 : Int} (h : iv_ γ m 13 ≠ 0) : aw_ m γ w l h' = aw_ m γ w l2 h' := by rw [aw_id h, aw_id h]
theorem sl_res {γa γ3 γ4 : JH} (ha : onn_ m (ndd_ m γ1 7 11) = γa) (h3 : onn_ m (ndd_ m γa 0 6) = γ3) (h4 : aw_ m γ3 "day" (lst_ m γ3 (ndv_ m γ1 7 11)) 9999 = γ4) :
    (iv_ γ4 m 13 = 0 → iv_ γ1 m 13 = 0 → sl_ m γ1 = sl3_ m γ4 (159 + 3 * iv_ γ1 (m + 4) 8) (ndv_ m γ1 7 11) (ndv_ m γa 0 6) (awv_ m γ3 "day" (lst_ m γ3 (ndv_ m γ1 7 11)) 9999)) ∧ (iv_ γ4 m 13 ≠ 0 → sl_ m γ1 = γ4) := by
  constructor
  · intro q z
    unfold sl_ sl1_ sl2_
    rw [if_pos z, ha, h3, h4, if_pos q]
  · intro q
    by_cases z : iv_ γ1 m 13 = 0
    · unfold sl_ sl1_ sl2_
      rw [if_pos z, ha, h3, h4, if_neg q]
    · have e : γ4 = γ1 := by rw [← h4, ← h3, ← ha, ndd_id (l := 7) (h' := 11) z, onn_id z, ndd_id z, onn_id z, aw_id z]
      rw [e]
      exact if_neg z
theorem sl3_mor {f w i d : Int} (h : iv_ γ m 13 = 0) (hf : 8 < f) : sl3_ m γ f w i d = mor_ m (pi_ (pi_ (pi_ γ (m + 4) f w) (m + 4) (f + 1) i) (m + 4) (f + 2) d) 8 := by
  unfold sl3_ mor_
  rw [if_pos (by rw [p4_13, p4_13, p4_13]; exact h)]
  rw [iv_pi (a := m + 4) (b := m + 4) (k := f + 2), if_neg (by omega), iv_pi, if_neg (by omega), iv_pi, if_neg (by omega)]
theorem xr_spout  {Q : JH → Prop} (hR : RR_ G m X ρ σ γ o T c d) (hcd : 3 ≤ c ∧ 23 ≤ d) (h0 : iv_ γ m 13 = 0) (hF : FW_ (iv_ γ (m + 4))) (hN : iv_ γ (m + 4) 9 = 0 ↔ iv_ γ (m + 4) 0 = 0) (hTD : TD_ G T) (hE : sh_ σ (gK_ G 100) = some (.inr (3, 0)))
    (hQ : ∀ σ' o' T', RR_ G m X ρ σ' (sl_ m (bgs_ m γ (ca1_ (iv_ γ (m + 4) 8) 8))) o' T' (c - 3) (d - 23) → TD_ G T' → OL_ ρ σ σ' → Q σ') : CallV_ G 14 yX3_spout cX3_spout 4 none [A_ (some ρ)] σ Q := by
  refine call_go [some (A_ (some ρ)), none, none, none] (by decide) (Nat.le_of_ble_eq_true rfl) rfl ?_
  have hP := hR.P h0
  have hP1 : rv_ σ ρ 1 = some (xP_ T) := by rw [hR.1.2.2.2.2.2.2]; exact hR.1.2.2.2.2.1
  have hcn0 := hF.cn
  have hge := hR.ge
  have hk100 : gK_ G 100 < (gH_ G).size := hP.2.2.2.2.2.1
  refine g_lt (fun hlt0 hgz0 => ?_)
  have hρ0 := hlt0 _ _ hR.h3
  refine g_al0 dX3_spout_0 ?_
  refine g_al0 dX3_spout_1 ?_
  refine f_getA 1 fk_X3_12 rfl hR.h3 (fun _ _ => rfl) hP1 dX3_spout_2 ?_
  refine f_getA 8 fk_X3_294 rfl hP.1.sh (fun _ _ => rfl) hP.1.f8 dX3_spout_5 ?_
  refine g_callV0I (d' := 2) lk_X3_181 hP.1.l4.1 rfl (rm_lt (by decide) (by decide)) (Nat.le_of_ble_eq_true rfl) dX3_spout_8 ?_
  refine js_size hP.1.l4 ?_
  refine g_bipush dX3_spout_11 (by decide) (by decide) ?_
  refine g_callV2V (d' := 12) lk_X3_190 hR.h3 rfl (rm_lt (by decide) (by decide)) (Nat.le_of_ble_eq_true rfl) dX3_spout_13 ?_
  refine xr_begins hR (by omega) h0 hN (can := ca1_ (iv_ γ (m + 4) 8) 8) (by omega) (by decide) ⟨fun q => by unfold ca1_; rw [if_neg (by omega)], fun q => by unfold ca1_; rw [if_pos (by omega)]⟩ (fun σ1 o1 hR1 hg1 => ?_)
  have hb1 := bgs_cs h0 (ca1_ (iv_ γ (m + 4) 8) 8)
  have hb4 := fun k => bgs_4 (m := m) (γ := γ) (ca1_ (iv_ γ (m + 4) 8) 8) k
  generalize hγ1 : bgs_ m γ (ca1_ (iv_ γ (m + 4) 8) 8) = γ1 at hR1 hb1 hb4 hQ
  have hfe1 : iv_ γ1 (m + 4) = iv_ γ (m + 4) := funext hb4
  have hF1 : FW_ (iv_ γ1 (m + 4)) := by rw [hfe1]; exact hF
  have hcn1 : iv_ γ1 m 13 = 0 → iv_ γ1 (m + 4) 8 < 8 ∧ iv_ γ1 (m + 4) 9 = 1 := fun q => by
    rcases hb1 with z | z
    · omega
    · have z1 := z.1
      have z2 := z.2.1
      unfold ca1_ at z1
      rw [hfe1]
      refine ⟨Classical.byContradiction fun w => z1 (if_neg w), ?_⟩
      rcases hF.1 with y | y
      · omega
      · exact y.1
  have hcn := hF1.cn
  have hG := hg1
  obtain ⟨E, hEd⟩ : ∃ E : Int → Prop, ∀ j, E j ↔ (159 + 3 * iv_ γ1 (m + 4) 8 ≤ j ∧ j < 162 + 3 * iv_ γ1 (m + 4) 8) := ⟨_, fun _ => Iff.rfl⟩
  have hEE : iv_ γ1 m 13 = 0 → ∀ j, E j → ¬ RL_ (iv_ γ1 (m + 4)) j ∧ ¬ (183 ≤ j ∧ j < 190) := fun q j hj => by
    have := hcn1 q
    rw [hEd] at hj
    unfold RL_
    omega
  have hI1 := hR1.I
  have hR := hR1
  obtain ⟨so, pl, nu, wd, wv, n, w, hK, hTM0⟩ := hR.2.2.2.1
  obtain ⟨f, hP, hPf⟩ := hR.2.2.2.2.1
  have hP1 : rv_ σ1 ρ 1 = some (xP_ T) := by rw [hR.1.2.2.2.2.2.2]; exact hR.1.2.2.2.2.1
  refine g_al0 dX3_spout_16 ?_
  refine g_al0 dX3_spout_17 ?_
  refine f_getA 1 fk_X3_12 rfl hR.h3 (fun _ _ => rfl) hP1 dX3_spout_18 ?_
  refine g_al0 dX3_spout_21 ?_
  refine f_getA 2 fk_X3_28 rfl hR.h3 (fun _ _ => rfl) hR.1.2.2.2.2.2.1 dX3_spout_22 ?_
  refine f_getA 3 fk_X3_78 rfl hK.1 (fun _ _ => rfl) hK.2.2.2.2.2.1 dX3_spout_25 ?_
  refine g_callV1I (d' := 5) lk_X3_297 hP.1.sh rfl (rm_lt (by decide) (by decide)) (Nat.le_of_ble_eq_true rfl) dX3_spout_28 ?_
  refine xp_whale hP hK.2.2.2.2.2.2.1 ?_
  have hk := kno_whl hTM0 (fun q => (hK.2.2.2.2.2.2.2.2.1 q).2.1.1) hPf (fun _ => hF1)
  have hfi := fI_spec (fun k => nmq_ f n w (7 + k)) (n := f 6) hP.1.l2.2.2.2.2.2.1.1
  have hfc := hP.1.l2.2.2.2.2.2.2.1
  have hfd := hP.1.l2.2.2.2.2.2.1.2
  refine g_callV1I (d' := 7) lk_X3_88 hR.h3 rfl (rm_lt (by decide) (by decide)) (Nat.le_of_ble_eq_true rfl) dX3_spout_31 ?_
  refine xr_known hR (by omega) (by omega) (fun z31 σ' hR4 hg4 hz31 hzb31 => ?_)
  rw [hk.1] at hR4 hz31
  have hG := hG.tr hg4
  have hR := hR4
  have hzz31 : iv_ (ndd_ m γ1 7 11) m 13 = 0 → z31 = ndv_ m γ1 7 11 := fun q => (hz31 q).trans (hk.2 q)
  have hzb31 : 0 ≤ z31 ∧ z31 ≤ 100 := by omega
  clear hz31 hk hfi hR4
  refine g_is1 dX3_spout_34 (by decide) rfl ?_
  refine g_al0 dX3_spout_35 ?_
  refine g_callV0V (d' := 11) lk_X3_49 hR.h3 rfl (rm_lt (by decide) (by decide)) (Nat.le_of_ble_eq_true rfl) dX3_spout_36 ?_
  refine xr_on hR (by omega) (fun σ' o' hR4 hg4 => ?_)
  have hR4 := hR4 c d (Or.inl ⟨Int.le_refl _, Int.le_refl _⟩)
  have hG := hG.tr hg4
  have hR := hR4
  have hSMa : SM_ m γ1 (onn_ m (ndd_ m γ1 7 11)) E := SM_.rf.f0 ((ndd_A0 7 11).tr (onn_A0 (hI1.ndd 7 11)))
  have hza : iv_ (onn_ m (ndd_ m γ1 7 11)) m 13 = 0 → z31 = ndv_ m γ1 7 11 := fun q => hzz31 (onn_ok (hI1.ndd 7 11) q).1
  generalize hγa : onn_ m (ndd_ m γ1 7 11) = γa at hR hSMa hza
  clear hR4
  refine g_al0 dX3_spout_39 ?_
  refine g_callV0I (d' := 12) lk_X3_92 hR.h3 rfl (rm_lt (by decide) (by decide)) (Nat.le_of_ble_eq_true rfl) dX3_spout_40 ?_
  have hIa := hR.I
  refine xr_island hR (by omega) (fun q => (hSMa.rl hF1 hEE q).2.2.2) (fun z40 σ' o' hR4 hg4 hz40 hzb40 => ?_)
  have hG := hG.tr hg4
  have hR := hR4
  have hSM3 : SM_ m γ1 (onn_ m (ndd_ m γa 0 6)) E := hSMa.f0 ((ndd_A0 0 6).tr (onn_A0 (hIa.ndd 0 6)))
  have hz3 : iv_ (onn_ m (ndd_ m γa 0 6)) m 13 = 0 → z40 = ndv_ m γa 0 6 ∧ z31 = ndv_ m γ1 7 11 := fun q => by
    have q1 := (onn_ok (hIa.ndd 0 6) q).1
    exact ⟨hz40 q1, hza ((ndd_A0 0 6).ok q1)⟩
  generalize hγ3 : onn_ m (ndd_ m γa 0 6) = γ3 at hR hSM3 hz3
  clear hR4 hz40
  have J69 : ∀ (lo : Int), (0 ≤ lo ∧ lo ≤ 10000) → aw_ m γ3 "day" lo 9999 = aw_ m γ3 "day" (lst_ m γ3 (ndv_ m γ1 7 11)) 9999 → (iv_ γ3 m 13 = 0 → lo = lst_ m γ3 (ndv_ m γ1 7 11)) → GoM_ G 14 yX3_spout cX3_spout 4 none σ (fun v σ' => v = none ∧ Q σ') 69 [some (A_ (some ρ)), some (I_ z31), some (I_ z40), none] [I_ lo, A_ (some (gK_ G 46)), A_ (some ρ)] σ' := by
    intro lo hlo hlq hlv
    obtain ⟨vL, hSL, -, -⟩ := hR.2.2.2.2.2.2.1 46 _ rfl
    refine g_sipush dX3_spout_69 (by decide) (by decide) ?_
    refine g_callV3I (d' := 13) lk_X3_149 hR.h3 rfl (rm_lt (by decide) (by decide)) (Nat.le_of_ble_eq_true rfl) dX3_spout_72 ?_
    refine xr_part hR (by omega) hSL hlo (by decide) (fun z72 σ' o' hR4 hg4 hz72 hzb72 => ?_)
    have hR4 : RR_ G m X ρ σ' (aw_ m γ3 "day" lo 9999) o' T c d := hR4
    have hz72 : iv_ (aw_ m γ3 "day" lo 9999) m 13 = 0 → z72 = awv_ m γ3 "day" lo 9999 := hz72
    rw [hlq] at hR4 hz72
    have hI3 := hR.I
    have hG := hG.tr hg4
    have hR := hR4
    have hSM4 : SM_ m γ1 (aw_ m γ3 "day" (lst_ m γ3 (ndv_ m γ1 7 11)) 9999) E := hSM3.f0 (aft_A0 hI3 _ _ _ _)
    have hz4 : iv_ (aw_ m γ3 "day" (lst_ m γ3 (ndv_ m γ1 7 11)) 9999) m 13 = 0 → z72 = awv_ m γ3 "day" (lst_ m γ3 (ndv_ m γ1 7 11)) 9999 ∧ iv_ γ3 m 13 = 0 := fun q => by
      have q3 : iv_ γ3 m 13 = 0 := (aft_A0 hI3 _ _ _ _).ok q
      have e := hz72 q
      rw [hlv q3] at e
      exact ⟨e, q3⟩
    generalize hγ4 : aw_ m γ3 "day" (lst_ m γ3 (ndv_ m γ1 7 11)) 9999 = γ4 at hR hSM4 hz4
    have hsr := sl_res hγa hγ3 hγ4
    clear hR4 hz72
    refine g_lt (fun hlt hgz => ?_)
    refine g_is3 dX3_spout_75 (by decide) rfl ?_
    refine g_al0 dX3_spout_76 ?_
    refine g_callV0I (d' := 2) lk_X3_36 hR.h3 rfl (rm_lt (by decide) (by decide)) (Nat.le_of_ble_eq_true rfl) dX3_spout_77 ?_
    refine xr_isOver hR (fun z77 hz77 => ?_)
    refine g_if_ne (tgt := 104) dX3_spout_80 (by decide) (by omega) (fun h80 => ?_) (fun h80 => ?_)
    · exact g_vret rfl dX3_spout_104 ⟨rfl, hQ _ _ T (by rw [hsr.2 (by omega)]; exact hR.wk (by omega) (by omega)) hTD (hG.ol (by omega))⟩
    have h6 : iv_ γ4 m 13 = 0 := by omega
    have hz4v := hz4 h6
    have hz3v := hz3 hz4v.2
    have s4 := hSM4 h6
    have hg8 := (hcn1 s4.1).1
    have hres : sl_ m γ1 = mor_ m (pi_ (pi_ (pi_ γ4 (m + 4) (159 + 3 * iv_ γ1 (m + 4) 8) z31) (m + 4) (159 + 3 * iv_ γ1 (m + 4) 8 + 1) z40) (m + 4) (159 + 3 * iv_ γ1 (m + 4) 8 + 2) z72) 8 := by
      rw [hsr.1 h6 s4.1, sl3_mor h6 (by omega), ← hz4v.1, ← hz3v.1, ← hz3v.2]
    have hp1 := RR_.p4s (k := 159 + 3 * iv_ γ1 (m + 4) 8) (x := z31) hR hSM4 hF1 hEE (by rw [hEd]; omega) (by omega) (by omega)
    have hp2 := RR_.p4s (k := 159 + 3 * iv_ γ1 (m + 4) 8 + 1) (x := z40) hp1.1 hp1.2 hF1 hEE (by rw [hEd]; omega) (by omega) (by omega)
    have hp3 := RR_.p4s (k := 159 + 3 * iv_ γ1 (m + 4) 8 + 2) (x := z72) hp2.1 hp2.2 hF1 hEE (by rw [hEd]; omega) (by omega) (by omega)
    have hR := hp3.1
    have hSM := hp3.2
    have h4v : ∀ j, iv_ (pi_ (pi_ (pi_ γ4 (m + 4) (159 + 3 * iv_ γ1 (m + 4) 8) z31) (m + 4) (159 + 3 * iv_ γ1 (m + 4) 8 + 1) z40) (m + 4) (159 + 3 * iv_ γ1 (m + 4) 8 + 2) z72) (m + 4) j = if j = 159 + 3 * iv_ γ1 (m + 4) 8 + 2 then z72 else if j = 159 + 3 * iv_ γ1 (m + 4) 8 + 1 then z40 else if j = 159 + 3 * iv_ γ1 (m + 4) 8 then z31 else iv_ γ4 (m + 4) j := fun j => by
      rw [iv_pi]
      by_cases q : j = 159 + 3 * iv_ γ1 (m + 4) 8 + 2
      · rw [if_pos ⟨rfl, q⟩, if_pos q]
      · rw [if_neg (fun z => q z.2), if_neg q, iv_pi]
        by_cases q : j = 159 + 3 * iv_ γ1 (m + 4) 8 + 1
        · rw [if_pos ⟨rfl, q⟩, if_pos q]
        · rw [if_neg (fun z => q z.2), if_neg q, iv_pi]
          by_cases q : j = 159 + 3 * iv_ γ1 (m + 4) 8
          · rw [if_pos ⟨rfl, q⟩, if_pos q]
          · rw [if_neg (fun z => q z.2), if_neg q]
    have h6 : iv_ (pi_ (pi_ (pi_ γ4 (m + 4) (159 + 3 * iv_ γ1 (m + 4) 8) z31) (m + 4) (159 + 3 * iv_ γ1 (m + 4) 8 + 1) z40) (m + 4) (159 + 3 * iv_ γ1 (m + 4) 8 + 2) z72) m 13 = 0 := by rw [p4_13, p4_13, p4_13]; exact h6
    generalize pi_ (pi_ (pi_ γ4 (m + 4) (159 + 3 * iv_ γ1 (m + 4) 8) z31) (m + 4) (159 + 3 * iv_ γ1 (m + 4) 8 + 1) z40) (m + 4) (159 + 3 * iv_ γ1 (m + 4) 8 + 2) z72 = γ6 at hR hSM h4v h6 hres
    clear hp1 hp2 hp3
    have hP := hR.P h6
    have hP1 : rv_ σ' ρ 1 = some (xP_ T) := by rw [hR.1.2.2.2.2.2.2]; exact hR.1.2.2.2.2.1
    refine g_al0 dX3_spout_83 ?_
    refine f_getA 1 fk_X3_12 rfl hR.h3 (fun _ _ => rfl) hP1 dX3_spout_84 ?_
    refine f_getA 8 fk_X3_294 rfl hP.1.sh (fun _ _ => rfl) hP.1.f8 dX3_spout_87 ?_
    refine g_new (ci := 16) nq_X3_302 ⟨_, rfl⟩ (by have := hR.rm0; omega) dX3_spout_90 ?_
    have hnw := BT_.new (cb := 16) (n := 3) hR hlt
    have hBT := hnw.2.1
    have hblo : ρ + 2 < sz_ σ' := by
      have := hlt _ _ hP.1.sh
      rw [hR.1.2.2.2.2.2.2] at this
      exact this
    have hbz : sz_ σ ≤ sz_ σ' := hG.2.2.1
    have hR := hnw.1.wk (c' := c - 1) (d' := d - 3) (by omega) (by omega)
    have hG := hG.tr (hnw.2.2.gx (fun _ _ _ q => q.elim))
    have hgb := hgz
    clear hnw
    generalize nw_ σ' (.inl 16) 3 = σn at hBT hR hG ⊢
    generalize sz_ σ' = b at hBT hblo hbz hgb ⊢
    refine g_dup dX3_spout_93 rfl ?_
    refine g_il1 dX3_spout_94 ?_
    refine g_il2 dX3_spout_95 ?_
    refine g_il3 dX3_spout_96 ?_
    refine g_callI3 (d' := 2) lk_X3_304 (rm_lt (by decide) (by decide)) (Nat.le_of_ble_eq_true rfl) dX3_spout_97 ?_
    refine xi_spout hBT.1 hgb ?_
    have hpi := hBT.pi (k := 0) (x := z31) (by decide) hR
    have hpj := hpi.2.1.pi (k := 1) (x := z40) (by decide) hpi.1
    have hpk := hpj.2.1.pi (k := 2) (x := z72) (by decide) hpj.1
    have hBT := hpk.2.1
    have hR := hpk.1
    have hG := ((hG.pi (a := b) (k := 0) (x := z31) (Or.inr (Or.inr hbz))).pi (a := b) (k := 1) (x := z40) (Or.inr (Or.inr hbz))).pi (a := b) (k := 2) (x := z72) (Or.inr (Or.inr hbz))
    clear hpi hpj hpk
    refine g_lt (fun hlt hgz => ?_)
    generalize pi_ (pi_ (pi_ σn b 0 z31) b 1 z40) b 2 z72 = σ' at hBT hR hG hlt hgz ⊢
    have hP := hR.P h6
    have hP1 : rv_ σ' ρ 1 = some (xP_ T) := by rw [hR.1.2.2.2.2.2.2]; exact hR.1.2.2.2.2.1
    refine g_callV1I (d' := 8) lk_X3_207 hP.1.l4.1 rfl (rm_lt (by decide) (by decide)) (Nat.le_of_ble_eq_true rfl) dX3_spout_100 ?_
    have hp := (hR.P h6)
    have hol : OL_ ρ σ σ' := hG.ol (by omega)
    have hE4 : sh_ σ' (gK_ G 100) = some (.inr (3, 0)) := (hol.1 _ (by omega)).1.trans hE
    have hrm := hR.rm0
    have hrl := (hSM.rl hF1 hEE h6).1
    have x4 := hrl 4 (by decide) (by decide)
    have x5 := hrl 5 (by decide) (by decide)
    have x6 := hrl 6 (by decide) (by decide)
    have x7 := hrl 7 (by decide) (by decide)
    have x8 := hrl 8 (by decide) (by decide)
    refine js_add (o := b) (co := 16) hlt hgz hE4 hk100 hp.1.l4 (fun i i0 i1 => ⟨16, (hp.1.2.2.2.2.2.2.2.2.2.2 i i0 i1).1, ca16⟩) (by omega) hBT.1 ca16 (by omega) (fun σ5 e' cap' hL5 he5 hw5 => ?_)
    have hbl : ρ + 2 ≤ sz_ σ' := by have := hlt _ _ hBT.1; omega
    have hv := hBT.2.2.1
    have hadd := PP_.addS (o := b) (f := iv_ γ6 (m + 4)) ⟨hBT.1, by omega, by rw [x8, h4v, if_neg (by omega), if_neg (by omega), if_pos rfl]; exact hv 0, by rw [x8, h4v, if_neg (by omega), if_pos (by omega)]; exact hv 1, by rw [x8, h4v, if_pos (by omega)]; exact hv 2⟩ hp hTD (by omega) (by omega) hbl hL5 he5 hw5 hlt
    have hfin := hR.mor (T' := xU_ T 4 e' cap' _ _) h6 hTD (ln := 4) (by decide) hw5 hlt rfl hadd.1
    refine g_pop dX3_spout_103 rfl ?_
    exact g_vret rfl dX3_spout_104 ⟨rfl, hQ _ _ _ (by rw [hres]; exact hfin.1.wk (by omega) (by omega)) hadd.2 (hol.tr hfin.2)⟩
  refine g_is2 dX3_spout_43 (by decide) rfl ?_
  refine g_al0 dX3_spout_44 ?_
  refine g_ldcSw (j := 46) rfl dX3_spout_45 ?_
  refine g_al0 dX3_spout_48 ?_
  refine g_callV0I (d' := 2) lk_X3_36 hR.h3 rfl (rm_lt (by decide) (by decide)) (Nat.le_of_ble_eq_true rfl) dX3_spout_49 ?_
  refine xr_isOver hR (fun z49 hz49 => ?_)
  refine g_if_eq (tgt := 59) dX3_spout_52 (by decide) (by omega) (fun h52 => ?_) (fun h52 => ?_)
  · have h3 : iv_ γ3 m 13 = 0 := by omega
    have hP := hR.P h3
    have hP1 : rv_ σ' ρ 1 = some (xP_ T) := by rw [hR.1.2.2.2.2.2.2]; exact hR.1.2.2.2.2.1
    have x8 := (hSM3.rl hF1 hEE h3).1 8 (by decide) (by decide)
    refine g_al0 dX3_spout_59 ?_
    refine f_getA 1 fk_X3_12 rfl hR.h3 (fun _ _ => rfl) hP1 dX3_spout_60 ?_
    refine g_il1 dX3_spout_63 ?_
    refine g_callV1I (d' := 5) lk_X3_299 hP.1.sh rfl (rm_lt (by decide) (by decide)) (Nat.le_of_ble_eq_true rfl) dX3_spout_64 ?_
    refine xp_lastSpout hP hzb31 ?_
    have hle := lst_eq (m := m) (γ := γ3) (w := z31) rfl (by omega)
    have hli := lsp_in (w := z31) hP.2.1 (by omega)
    refine g_iconst dX3_spout_67 ?_
    refine g_iadd dX3_spout_68 ?_
    rw [hle]
    exact J69 _ (by omega) (by rw [(hz3 h3).2]) (fun _ => by rw [(hz3 h3).2])
  refine g_iconst dX3_spout_55 ?_
  refine g_goto (tgt := 69) dX3_spout_56 (by decide) ?_
  refine J69 0 (by decide) (aw_l (by omega)) (fun q => by omega)
end
