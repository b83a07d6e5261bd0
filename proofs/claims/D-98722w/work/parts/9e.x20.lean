/-! THE COMPONENT: undoing, images; what is told; feeding. Written by mod/m9e.py -/
set_option maxRecDepth 100000
section
variable {G : JG} {X lo : Nat} {σ : JH} {tp fa pl tr p un im : Int} {B r s : Int → Int} {U I : Int → Int → Int} {T : XT} {L : XL}
theorem xo_undo  {Q : Int → JH → Prop} (hS : XS_ G X lo σ tp fa pl tr p un im B r s U I T L) (hP : MP_ p r s) (hu : 0 ≤ un ∧ un ≤ 12) (hi2 : 0 ≤ im ∧ im ≤ 3)  (hrm : sz_ σ + 7 ≤ lc_ G ∧ us_ σ + 100 ≤ ls_ G)
    (hQ : ∀ (x t : Int) (un' : Int) (U' : Int → Int → Int) (s' : Int → Int) (T' : XT) (L' : XL) (σ' : JH), aUndo_ s un U = (x, t, un', U', s') → XS_ G X lo σ' tp fa pl t p un' im B r s' U' I T' L' → Gw_ (xw_ X lo) 7 100 σ σ' → Q x σ') : CallI_ G 5 yX1_undo cX1_undo 1 (some .boolean) [A_ (some X)] σ Q := by
  refine call_go [some (A_ (some X))] (by decide) (Nat.le_of_ble_eq_true rfl) rfl ?_
  refine g_lt (fun hlt hgz => ?_)
  have hX0 := hS.1
  have hR := hX0.1
  have hge := hR.ge
  have hlo := hS.2.1
  have hl := hR.lt hlt
  have hp01 := hP.b
  have hS0 := hS
  have hlt0 := hlt
  have hPL := hS.2.2.2.2.2.1
  refine g_al0 dX1_undo_0 ?_
  refine f_getA 7 fk_X1_20 rfl hR.sh (fun _ _ => rfl) hR.f7 dX1_undo_1 ?_
  refine g_callV0I (d' := 2) lk_X1_435 hR.h2.1 rfl (rm_lt (by decide) (by decide)) (Nat.le_of_ble_eq_true rfl) dX1_undo_4 ?_
  refine js_isEmpty hPL.1 ?_
  
  refine g_if_eq (tgt := 17) dX1_undo_7 (by decide) (by split <;> omega) (fun h7 => ?_) (fun h7 => ?_)
  · refine g_al0 dX1_undo_17 ?_
    refine g_al0 dX1_undo_18 ?_
    refine f_getA 7 fk_X1_20 rfl hR.sh (fun _ _ => rfl) hR.f7 dX1_undo_19 ?_
    refine g_al0 dX1_undo_22 ?_
    refine f_getA 7 fk_X1_20 rfl hR.sh (fun _ _ => rfl) hR.f7 dX1_undo_23 ?_
    refine g_callV0I (d' := 2) lk_X1_127 hR.h2.1 rfl (rm_lt (by decide) (by decide)) (Nat.le_of_ble_eq_true rfl) dX1_undo_26 ?_
    refine js_size hPL.1 ?_
    refine g_iconst dX1_undo_29 ?_
    refine g_isub dX1_undo_30 ?_
    refine g_callV1A (d' := 4) lk_X1_414 hR.h2.1 rfl (rm_lt (by decide) (by decide)) (Nat.le_of_ble_eq_true rfl) dX1_undo_31 ?_
    refine js_remove hPL.1 (fun i i0 i1 => ⟨17, (hPL.2.2.1 i i0 i1).1.sh, ca17⟩) (by omega) (fun σ1 hL1 hw1 => ?_)
    obtain rfl : p = 1 := Classical.byContradiction fun w => by have := (hS.2.2.2.2.1 w).1; omega
    obtain ⟨hW, hD⟩ := hP.get rfl
    have hd0 := hS.2.2.2.2.2.2.2.2 rfl
    obtain ⟨hc1, h61, hDQ1, hPL1⟩ := XS_.lop (q6 := some (xD_ T)) (Or.inl rfl) (hS.core rfl) hlo (hS.1.get rfl).f6 hPL hw1 hlt
    have hR := hc1.1
    have hun := hPL.2.2.1 (un - 1) (by omega) (by omega)
    have hK1 := hDQ1 hun.1
    refine g_lt (fun hlt1 hgz1 => ?_)
    refine g_cast q1073 hK1.sh (Or.inl rfl) dX1_undo_34 ?_
    refine f_putA 6 fk_X1_111 rfl (nf_ rfl rfl) hR.sh hR.ge (Or.inl ⟨_, rfl⟩) dX1_undo_37 ?_
    have hR := (hc1.pr6 (some (L.1.2.2 (un - 1)))).1
    refine g_al0 dX1_undo_40 ?_
    refine g_callV0I (d' := 3) lk_X1_431 hR.sh rfl (rm_lt (by decide) (by decide)) (Nat.le_of_ble_eq_true rfl) dX1_undo_41 ?_
    refine xo_granted hR ?_
    exact g_zret rfl (by omega) dX1_undo_44 ⟨_, rfl, by
        have hk := hc1.1.k100
        refine hQ _ _ _ _ _ (xT_ T (L.1.2.2 (un - 1))) ((L.1.1, L.1.2.1, fun k => if k < un - 1 then L.1.2.2 k else L.1.2.2 (k + 1)), L.2) _ (by unfold aUndo_; rw [if_neg (by omega)]) (XS_.q (X := X) (XS_.mk1 (T := xT_ T (L.1.2.2 (un - 1))) (L := ((L.1.1, L.1.2.1, fun k => if k < un - 1 then L.1.2.2 k else L.1.2.2 (k + 1)), L.2)) (hc1.pr6 _) hlo (by rw [rv_pr, if_pos ⟨rfl, rfl⟩]; rfl) ⟨(hK1.cg hW (fun j j0 j1 => ov_in j0 j1)).pres (fun b b0 b1 => ⟨rfl, fun j => ⟨by have := hK1.1.2.1; rw [rv_pr, if_neg (fun w => by have w := w.1; have b0 : L.1.2.2 (un - 1) ≤ b := b0; omega)], rfl⟩⟩), hun.2⟩ ?_ ?_ hS.2.2.2.2.2.2.2.1 ?_) XE_.rf ?_ (by decide)) ?_
        · refine PL_.pr6 _ ⟨hL1, hPL.2.1, fun k k0 k1 => ?_, hPL.2.2.2⟩ ⟨by omega, hge, hlo⟩ hk
          have w := hPL.2.2.1 k k0 (by omega)
          show DS_ G σ1 lo T (if k < un - 1 then L.1.2.2 k else L.1.2.2 (k + 1)) r (U k)
          rw [if_pos k1]
          exact ⟨hDQ1 w.1, w.2⟩
        · exact PL_.pr6 _ (hPL1 (Or.inr rfl) (by omega) hS.2.2.2.2.2.2.2.1 hS.2.2.2.2.2.2.1) ⟨by omega, hge, hlo⟩ hk
        · refine ⟨fun k k0 k1 => ?_, fun k k0 k1 => (hd0.2.2.2 (un - 1) k (by omega) (by omega) k0 k1).symm, fun k j k0 k1 k2 => ?_, fun k j k0 k1 j0 j1 => ?_⟩
          · show (if k < un - 1 then L.1.2.2 k else L.1.2.2 (k + 1)) ≠ L.1.2.2 (un - 1)
            rw [if_pos k1]; exact hd0.2.2.1 k (un - 1) k0 (by omega) (by omega)
          · show (if k < un - 1 then L.1.2.2 k else L.1.2.2 (k + 1)) ≠ (if j < un - 1 then L.1.2.2 j else L.1.2.2 (j + 1))
            rw [if_pos (by omega), if_pos (by omega)]; exact hd0.2.2.1 k j k0 k1 (by omega)
          · show (if k < un - 1 then L.1.2.2 k else L.1.2.2 (k + 1)) ≠ _
            rw [if_pos (by omega)]; exact hd0.2.2.2 k j k0 (by omega) j0 j1
        · exact hlt1
        · exact ((((hw1.mono (S' := xw_ X lo) (fun b k _ q => by
            unfold xw_
            rcases q with q | q
            · omega
            · have := hPL.2.1; omega) (by decide) (by decide)).pr (fun _ => Or.inl (by omega))).pi (fun _ => Or.inl (by omega))).pi (fun _ => Or.inl (by omega)))⟩
  refine g_al0 dX1_undo_10 ?_
  refine g_bipush dX1_undo_11 (by decide) (by decide) ?_
  refine g_callV1I (d' := 3) lk_X1_428 hR.sh rfl (rm_lt (by decide) (by decide)) (Nat.le_of_ble_eq_true rfl) dX1_undo_13 ?_
  refine xo_denied hR ?_
  exact g_zret rfl (by omega) dX1_undo_16 ⟨_, rfl, hQ _ _ _ _ _ T L _ (by unfold aUndo_; rw [if_pos (by (split at h7 <;> omega))]) (hS0.q XE_.rf hlt0 (by decide)) XE_.rf.w⟩
theorem xo_image  {Q : Int → JH → Prop} (hS : XS_ G X lo σ tp fa pl tr p un im B r s U I T L) (hP : MP_ p r s) (hu : 0 ≤ un ∧ un ≤ 12) (hi2 : 0 ≤ im ∧ im ≤ 3)  (hrm : sz_ σ + 7 ≤ lc_ G ∧ us_ σ + 100 ≤ ls_ G)
    (hQ : ∀ (x t : Int) (im' : Int) (I' : Int → Int → Int) (T' : XT) (L' : XL) (σ' : JH), aImage_ p s im I = (x, t, im', I') → XS_ G X lo σ' tp fa pl t p un im' B r s U I' T' L' → Gw_ (xw_ X lo) 7 100 σ σ' → Q x σ') : CallI_ G 9 yX1_image cX1_image 1 (some .int) [A_ (some X)] σ Q := by
  refine call_go [some (A_ (some X))] (by decide) (Nat.le_of_ble_eq_true rfl) rfl ?_
  refine g_lt (fun hlt hgz => ?_)
  have hX0 := hS.1
  have hR := hX0.1
  have hge := hR.ge
  have hlo := hS.2.1
  have hl := hR.lt hlt
  have hp01 := hP.b
  have hS0 := hS
  have hlt0 := hlt
  have hPI := hS.2.2.2.2.2.2.1
  have hse := hS.2.2.2.2.2.2.2.1
  rcases hX0.2 with q | q
  · have hp0 : p = 0 := q.1
    refine g_al0 dX1_image_0 ?_
    refine f_getA 5 fk_X1_104 rfl hR.sh (fun _ _ => rfl) q.2 dX1_image_1 ?_
    refine g_ifnonnull (tgt := 13) dX1_image_4 (by decide) (fun _ h4 => ?_) (fun h4 => ?_)
    · cases h4
    refine g_al0 dX1_image_7 ?_
    refine g_iconst dX1_image_8 ?_
    refine g_callV1I (d' := 2) lk_X1_65 hR.sh rfl (rm_lt (by decide) (by decide)) (Nat.le_of_ble_eq_true rfl) dX1_image_9 ?_
    refine xo_refused hR ?_
    exact g_iret rfl dX1_image_12 ⟨_, rfl, hQ _ _ _ _ T L _ (by unfold aImage_; rw [if_neg (by omega)]) (hS0.q XE_.rf hlt0 (by decide)) XE_.rf.w⟩
  · have hp1 : p = 1 := q.1
    have hX := q.2
    obtain ⟨hW, hD⟩ := hP.get hp1
    have hn := hW.n
    refine g_al0 dX1_image_0 ?_
    refine f_getA 5 fk_X1_104 rfl hR.sh (fun _ _ => rfl) hX.f5 dX1_image_1 ?_
    refine g_ifnonnull (tgt := 13) dX1_image_4 (by decide) (fun _ h4 => ?_) (fun h4 => ?_)
    · refine g_al0 dX1_image_13 ?_
      refine f_getA 8 fk_X1_24 rfl hR.sh (fun _ _ => rfl) hR.f8 dX1_image_14 ?_
      refine g_callV0I (d' := 2) lk_X1_127 hR.h2.2 rfl (rm_lt (by decide) (by decide)) (Nat.le_of_ble_eq_true rfl) dX1_image_17 ?_
      refine js_size hPI.1 ?_
      refine g_iconst dX1_image_20 ?_
      refine g_icmp_ne (tgt := 30) dX1_image_21 (by decide) (by omega) (fun h21 => ?_) (fun h21 => ?_)
      · refine g_al0 dX1_image_30 ?_
        refine f_getA 8 fk_X1_24 rfl hR.sh (fun _ _ => rfl) hR.f8 dX1_image_31 ?_
        refine g_al0 dX1_image_34 ?_
        obtain rfl : p = 1 := by omega
        have hdk := hS.dsk rfl
        refine f_getA 6 fk_X1_111 rfl hR.sh (fun _ _ => rfl) hX.f6 dX1_image_35 ?_
        refine g_callV0A (d' := 3) lk_X1_421 hdk.1.sh rfl (rm_lt (by decide) (by decide)) (Nat.le_of_ble_eq_true rfl) dX1_image_38 ?_
        have hDlo := hdk.1.1.2.1
        have hDz := hlt _ _ hdk.1.sh
        refine xd_copy (lo' := lo) hlt hgz hdk.1 hW (by omega) (by omega) (fun σ1 hK1 hG1 => ?_)
        have hc1 := (hS.core rfl).gw hG1 hlt (fun _ _ q => q.elim)
        have h61 : rv_ σ1 X 6 = some (xD_ T) := ((hG1.2.1 X 6 (by omega) (fun q => q)).1).trans (hS.1.get rfl).f6
        have hdk1 : DS_ G σ1 lo T (xD_ T) r s := ⟨hdk.1.gwn hG1 hlt (fun _ _ _ _ q => q), hdk.2⟩
        have hp11 : PL_ G σ1 lo T r 1 (X + 2) L.1 un U := PL_.gw (xD_ T) hS.2.2.2.2.2.1 hG1 hlt (fun _ q => q) (fun _ q => q) (fun _ _ _ _ _ _ _ q => q)
        have hp21 : PL_ G σ1 lo T r 1 (X + 3) L.2 im I := PL_.gw (xD_ T) hPI hG1 hlt (fun _ q => q) (fun _ q => q) (fun _ _ _ _ _ _ _ q => q)
        have hR := hc1.1
        refine g_lt (fun hlt1 hgz1 => ?_)
        have hDz := hlt _ _ hdk.1.sh
        have hzz : sz_ σ1 = sz_ σ + 6 ∨ True := Or.inr trivial
        refine g_callV1I (d' := 8) lk_X1_417 hR.h2.2 rfl (rm_lt (by decide) (by decide)) (Nat.le_of_ble_eq_true rfl) dX1_image_41 ?_
        refine js_add (o := sz_ σ) (co := 17) hlt1 hgz1 hc1.2.2.2.2.2 hR.k100 hp21.1 (fun i i0 i1 => ⟨17, (hp21.2.2.1 i i0 i1).1.sh, ca17⟩) (by omega) hK1.sh ca17 (by have := hG1.2.2; omega) (fun σ2 e' cap' hL2 he2 hw2 => ?_)
        obtain ⟨hc2, h62, hDQ2, hPL2⟩ := XS_.lop (q6 := some (xD_ T)) (Or.inr rfl) hc1 hlo h61 hp21 hw2 hlt1
        have hR := hc2.1
        have hk := hc1.1.k100
        refine g_lt (fun hlt2 hgz2 => ?_)
        refine g_pop dX1_image_44 rfl ?_
        refine g_al0 dX1_image_45 ?_
        refine g_al0 dX1_image_46 ?_
        refine f_getA 8 fk_X1_24 rfl hR.sh (fun _ _ => rfl) hR.f8 dX1_image_47 ?_
        refine g_callV0I (d' := 2) lk_X1_127 hR.h2.2 rfl (rm_lt (by decide) (by decide)) (Nat.le_of_ble_eq_true rfl) dX1_image_50 ?_
        refine js_size hL2 ?_
        refine g_iconst dX1_image_53 ?_
        refine g_isub dX1_image_54 ?_
        refine g_top (show _ = im by omega) ?_
        refine g_callV1I (d' := 2) lk_X1_69 hR.sh rfl (rm_lt (by decide) (by decide)) (Nat.le_of_ble_eq_true rfl) dX1_image_55 ?_
        refine xo_well hR ?_
        exact g_iret rfl dX1_image_58 ⟨_, rfl, by
            have hd0 := hS.2.2.2.2.2.2.2.2 rfl
            have hse2 : (gH_ G).size ≤ L.2.1 → L.2.1 ≠ L.1.1 := fun h q => hse (by rw [← q]; exact h) q.symm
            refine hQ _ _ _ _ T (L.1, (e', cap', fun i => if i = im then sz_ σ else L.2.2.2 i)) _ (by unfold aImage_; rw [if_pos (by omega), if_neg (by omega)]) (XS_.q (X := X) (XS_.mk1 (T := T) (L := (L.1, (e', cap', fun i => if i = im then sz_ σ else L.2.2.2 i))) hc2 hlo h62 ⟨hDQ2 hdk1.1, hdk1.2⟩ (hPL2 (Or.inl rfl) (by omega) hse2 hp11) ⟨hL2, ?_, fun k k0 k1 => ?_, fun _ hg j hj => ?_⟩ ?_ ⟨hd0.1, fun k k0 k1 => ?_, hd0.2.2.1, fun k j k0 k1 j0 j1 => ?_⟩) XE_.rf hlt2 (by decide)) ?_
            · show lo ≤ e' ∨ e' = gK_ G 100
              rcases he2 with q | q
              · rw [q]; exact hp21.2.1
              · have := hG1.2.2; omega
            · show DS_ G σ2 lo T (if k = im then sz_ σ else L.2.2.2 k) r (if k = im then s else I k)
              by_cases q : k = im
              · rw [if_pos q, if_pos q]
                refine ⟨hDQ2 hK1, fun i i0 i1 => ?_⟩
                have := hdk.2 i i0 i1; omega
              · rw [if_neg q, if_neg q]
                have w := hp21.2.2.1 k k0 (by omega)
                exact ⟨hDQ2 w.1, w.2⟩
            · show e' ≠ xE_ T j
              rcases he2 with q | q
              · have hg : (gH_ G).size ≤ e' := hg
                rw [q] at hg ⊢
                exact hp21.2.2.2 rfl hg j hj
              · obtain ⟨nn, w, -, -⟩ := hc1.2.2.1.ls hj
                have := hlt1 _ _ w.2.2.2.1
                omega
            · intro hg
              show L.1.1 ≠ e'
              rcases he2 with q | q
              · rw [q]; exact hse hg
              · have := hlt1 _ _ hp11.1.2.2.2.1; omega
            · show (if k = im then sz_ σ else L.2.2.2 k) ≠ xD_ T
              by_cases q : k = im
              · rw [if_pos q]; omega
              · rw [if_neg q]; exact hd0.2.1 k k0 (by omega)
            · show L.1.2.2 k ≠ (if j = im then sz_ σ else L.2.2.2 j)
              by_cases q : j = im
              · rw [if_pos q]
                have := hlt _ _ (hS.2.2.2.2.2.1.2.2.1 k k0 k1).1.sh
                omega
              · rw [if_neg q]; exact hd0.2.2.2 k j k0 k1 j0 (by omega)
            · exact (((((hG1.mono (S' := xw_ X lo) (fun _ _ _ q => q.elim) (Nat.le_refl _) (Nat.le_refl _)).tr (hw2.mono (S' := xw_ X lo) (fun b k _ q => by
                unfold xw_
                rcases q with q | q
                · omega
                · have := hp21.2.1; omega) (Nat.le_refl _) (Nat.le_refl _))).mono (fun _ _ _ q => q) (by decide) (by decide)).pi (fun _ => Or.inl (by omega))).pi (fun _ => Or.inl (by omega)))⟩
      refine g_al0 dX1_image_24 ?_
      refine g_iconst dX1_image_25 ?_
      refine g_callV1I (d' := 2) lk_X1_65 hR.sh rfl (rm_lt (by decide) (by decide)) (Nat.le_of_ble_eq_true rfl) dX1_image_26 ?_
      refine xo_refused hR ?_
      exact g_iret rfl dX1_image_29 ⟨_, rfl, hQ _ _ _ _ T L _ (by unfold aImage_; rw [if_pos (by omega), if_pos (by omega)]) (hS0.q XE_.rf hlt0 (by decide)) XE_.rf.w⟩
    cases h4
theorem xo_back  {i : Int} {Q : Int → JH → Prop} (hS : XS_ G X lo σ tp fa pl tr p un im B r s U I T L) (hP : MP_ p r s) (hu : 0 ≤ un ∧ un ≤ 12) (hi2 : 0 ≤ im ∧ im ≤ 3) (hi : -2147483648 ≤ i ∧ i < 2147483648) (hrm : sz_ σ + 7 ≤ lc_ G ∧ us_ σ + 100 ≤ ls_ G)
    (hQ : ∀ (x t : Int) (un' : Int) (s' : Int → Int) (T' : XT) (L' : XL) (σ' : JH), aBack_ s un im I i = (x, t, un', s') → XS_ G X lo σ' tp fa pl t p un' im B r s' U I T' L' → Gw_ (xw_ X lo) 7 100 σ σ' → Q x σ') : CallI_ G 5 yX1_back cX1_back 2 (some .boolean) [A_ (some X), I_ i] σ Q := by
  refine call_go [some (A_ (some X)), some (I_ i)] (by decide) (Nat.le_of_ble_eq_true rfl) rfl ?_
  refine g_lt (fun hlt hgz => ?_)
  have hX0 := hS.1
  have hR := hX0.1
  have hge := hR.ge
  have hlo := hS.2.1
  have hl := hR.lt hlt
  have hp01 := hP.b
  have hS0 := hS
  have hlt0 := hlt
  have hPI := hS.2.2.2.2.2.2.1
  refine g_il1 dX1_back_0 ?_
  refine g_iconst dX1_back_1 ?_
  refine g_al0 dX1_back_2 ?_
  refine f_getA 8 fk_X1_24 rfl hR.sh (fun _ _ => rfl) hR.f8 dX1_back_3 ?_
  refine g_callV0I (d' := 2) lk_X1_127 hR.h2.2 rfl (rm_lt (by decide) (by decide)) (Nat.le_of_ble_eq_true rfl) dX1_back_6 ?_
  refine js_size hPI.1 ?_
  refine g_iconst dX1_back_9 ?_
  refine g_isub dX1_back_10 ?_
  refine g_callS3I (d' := 2) lk_X1_79 (rm_lt (by decide) (by decide)) (Nat.le_of_ble_eq_true rfl) dX1_back_11 ?_
  refine xo_in (by omega) (by omega) (by omega) (fun x11 hx11 => ?_)
  refine g_if_ne (tgt := 23) dX1_back_14 (by decide) (by omega) (fun h14 => ?_) (fun h14 => ?_)
  · refine g_al0 dX1_back_23 ?_
    refine g_al0 dX1_back_24 ?_
    refine f_getA 8 fk_X1_24 rfl hR.sh (fun _ _ => rfl) hR.f8 dX1_back_25 ?_
    refine g_il1 dX1_back_28 ?_
    refine g_callV1A (d' := 4) lk_X1_137 hR.h2.2 rfl (rm_lt (by decide) (by decide)) (Nat.le_of_ble_eq_true rfl) dX1_back_29 ?_
    obtain rfl : p = 1 := Classical.byContradiction fun w => by have := (hS.2.2.2.2.1 w).2; omega
    obtain ⟨hW, hD⟩ := hP.get rfl
    refine js_get hPI.1 (by omega) ?_
    have hdi := hPI.2.2.1 i (by omega) (by omega)
    refine g_cast q1073 hdi.1.sh (Or.inl rfl) dX1_back_32 ?_
    refine g_callV0A (d' := 3) lk_X1_421 hdi.1.sh rfl (rm_lt (by decide) (by decide)) (Nat.le_of_ble_eq_true rfl) dX1_back_35 ?_
    have hDlo := hdi.1.1.2.1
    have hDz := hlt _ _ hdi.1.sh
    refine xd_copy (lo' := lo) hlt hgz hdi.1 hW (by omega) (by omega) (fun σ1 hK1 hG1 => ?_)
    have hc1 := (hS.core rfl).gw hG1 hlt (fun _ _ q => q.elim)
    have hp11 : PL_ G σ1 lo T r 1 (X + 2) L.1 un U := PL_.gw (xD_ T) hS.2.2.2.2.2.1 hG1 hlt (fun _ q => q) (fun _ q => q) (fun _ _ _ _ _ _ _ q => q)
    have hp21 : PL_ G σ1 lo T r 1 (X + 3) L.2 im I := PL_.gw (xD_ T) hPI hG1 hlt (fun _ q => q) (fun _ q => q) (fun _ _ _ _ _ _ _ q => q)
    have hR := hc1.1
    refine f_putA 6 fk_X1_111 rfl (nf_ rfl rfl) hR.sh hR.ge (Or.inl ⟨_, rfl⟩) dX1_back_38 ?_
    have hR := (hc1.pr6 (some (sz_ σ))).1
    refine g_lt (fun hlt2 hgz2 => ?_)
    refine g_al0 dX1_back_41 ?_
    refine f_getA 7 fk_X1_20 rfl hR.sh (fun _ _ => rfl) hR.f7 dX1_back_42 ?_
    refine g_callV0V (d' := 2) lk_X1_119 hR.h2.1 rfl (rm_lt (by decide) (by decide)) (Nat.le_of_ble_eq_true rfl) dX1_back_45 ?_
    have hk := hc1.1.k100
    have hc2 : XC_ G X (pr_ σ1 X 6 (some (sz_ σ))) tp fa pl tr B r (xT_ T (sz_ σ)) := hc1.pr6 _
    have hR := hc2.1
    have hp12 : PL_ G (pr_ σ1 X 6 (some (sz_ σ))) lo (xT_ T (sz_ σ)) r 1 (X + 2) L.1 un U := PL_.pr6 _ hp11 ⟨by omega, hge, hlo⟩ hk
    have hp22 : PL_ G (pr_ σ1 X 6 (some (sz_ σ))) lo (xT_ T (sz_ σ)) r 1 (X + 3) L.2 im I := PL_.pr6 _ hp21 ⟨by omega, hge, hlo⟩ hk
    have hK2 : DQ_ G (pr_ σ1 X 6 (some (sz_ σ))) lo (sz_ σ) r (I i) := hK1.pres (fun b b0 b1 => ⟨rfl, fun j => ⟨by rw [rv_pr, if_neg (by omega)], rfl⟩⟩)
    refine js_clear hp12.1 (fun σ3 hL3 hw3 => ?_)
    obtain ⟨hc3, h63, hDQ3, hPL3⟩ := XS_.lop (q6 := some (sz_ σ)) (Or.inl rfl) hc2 hlo (by rw [rv_pr, if_pos ⟨rfl, rfl⟩]) hp12 hw3 hlt2
    have hR := hc3.1
    refine g_lt (fun hlt3 hgz3 => ?_)
    refine g_al0 dX1_back_48 ?_
    refine g_callV0I (d' := 3) lk_X1_431 hR.sh rfl (rm_lt (by decide) (by decide)) (Nat.le_of_ble_eq_true rfl) dX1_back_49 ?_
    refine xo_granted hR ?_
    exact g_zret rfl (by omega) dX1_back_52 ⟨_, rfl, by
        refine hQ _ _ _ _ (xT_ T (sz_ σ)) L _ (by unfold aBack_; rw [if_pos (by omega)]) (XS_.q (X := X) (XS_.mk1 (T := xT_ T (sz_ σ)) (L := L) (U := U) hc3 hlo h63 ⟨(hDQ3 hK2).cg hW (fun j j0 j1 => ov_in j0 j1), fun i i0 i1 => ?_⟩ ⟨hL3, hp12.2.1, fun k k0 k1 => by omega, hp12.2.2.2⟩ (hPL3 (Or.inr rfl) (by omega) hS.2.2.2.2.2.2.2.1 hp22) hS.2.2.2.2.2.2.2.1 ⟨fun k k0 k1 => by omega, fun k k0 k1 => ?_, fun k j k0 k1 k2 => by omega, fun k j k0 k1 => by omega⟩) XE_.rf hlt3 (by decide)) ?_
        · have := hdi.2 i i0 i1
          have := hlt _ _ hdi.1.sh
          show xS_ T i < sz_ σ
          omega
        · have := hlt _ _ (hPI.2.2.1 k k0 k1).1.sh
          show L.2.2.2 k ≠ sz_ σ
          omega
        · exact ((((((hG1.mono (S' := xw_ X lo) (fun _ _ _ q => q.elim) (Nat.le_refl _) (Nat.le_refl _)).pr (a := X) (k := 6) (r := some (sz_ σ)) (fun _ => Or.inl (by omega))).tr (hw3.mono (S' := xw_ X lo) (fun b k _ q => by
            unfold xw_
            rcases q with q | q
            · omega
            · have := hp12.2.1; omega) (Nat.le_refl _) (Nat.le_refl _))).mono (fun _ _ _ q => q) (by decide) (by decide)).pi (fun _ => Or.inl (by omega))).pi (fun _ => Or.inl (by omega)))⟩
  refine g_al0 dX1_back_17 ?_
  refine g_iconst dX1_back_18 ?_
  refine g_callV1I (d' := 3) lk_X1_428 hR.sh rfl (rm_lt (by decide) (by decide)) (Nat.le_of_ble_eq_true rfl) dX1_back_19 ?_
  refine xo_denied hR ?_
  exact g_zret rfl (by omega) dX1_back_22 ⟨_, rfl, hQ _ _ _ _ T L _ (by unfold aBack_; rw [if_neg (by omega)]) (hS0.q XE_.rf hlt0 (by decide)) XE_.rf.w⟩
theorem xo_fault  {Q : Int → JH → Prop} (hS : XS_ G X lo σ tp fa pl tr p un im B r s U I T L)
    (hQ : Q fa σ) : CallI_ G 2 yX1_fault cX1_fault 1 (some .int) [A_ (some X)] σ Q := by
  refine call_go [some (A_ (some X))] (by decide) (Nat.le_of_ble_eq_true rfl) rfl ?_
  have hR := hS.R
  refine g_al0 dX1_fault_0 ?_
  refine f_getv 2 fk_X1_100 rfl hR.sh (fun _ _ => rfl) hS.2.2.1.2.1.1 dX1_fault_1 ?_
  exact g_iret rfl dX1_fault_4 ⟨_, rfl, hQ⟩
theorem xo_where  {Q : Int → JH → Prop} (hS : XS_ G X lo σ tp fa pl tr p un im B r s U I T L)
    (hQ : Q (if tr = 4 then pl else -1) σ) : CallI_ G 2 yX1_where cX1_where 1 (some .int) [A_ (some X)] σ Q := by
  refine call_go [some (A_ (some X))] (by decide) (Nat.le_of_ble_eq_true rfl) rfl ?_
  have hR := hS.R
  refine g_al0 dX1_where_0 ?_
  refine f_getv 3 fk_X1_13 rfl hR.sh (fun _ _ => rfl) hS.2.2.1.2.1.2.1 dX1_where_1 ?_
  exact g_iret rfl dX1_where_4 ⟨_, rfl, hQ⟩
theorem xo_trouble  {Q : Int → JH → Prop} (hS : XS_ G X lo σ tp fa pl tr p un im B r s U I T L)
    (hQ : Q tr σ) : CallI_ G 2 yX1_trouble cX1_trouble 1 (some .int) [A_ (some X)] σ Q := by
  refine call_go [some (A_ (some X))] (by decide) (Nat.le_of_ble_eq_true rfl) rfl ?_
  have hR := hS.R
  refine g_al0 dX1_trouble_0 ?_
  refine f_getv 4 fk_X1_62 rfl hR.sh (fun _ _ => rfl) hS.2.2.1.2.1.2.2 dX1_trouble_1 ?_
  exact g_iret rfl dX1_trouble_4 ⟨_, rfl, hQ⟩
theorem xo_size  {x : Int} {Q : Int → JH → Prop} (hS : XS_ G X lo σ tp fa pl tr p un im B r s U I T L) (hP : MP_ p r s) (hx : -2147483648 ≤ x ∧ x < 2147483648)
    (hQ : Q (qSize_ tp p r s un im x) σ) : CallI_ G 3 yX1_size cX1_size 2 (some .int) [A_ (some X), I_ x] σ Q := by
  refine call_go [some (A_ (some X)), some (I_ x)] (by decide) (Nat.le_of_ble_eq_true rfl) rfl ?_
  have hR := hS.R
  have htp := hS.2.2.1.1.2.1
  rcases hS.1.2 with q | q
  · have hp0 : p = 0 := q.1
    refine g_il1 dX1_size_0 ?_
    refine g_bipush dX1_size_1 (by decide) (by decide) ?_
    refine g_icmp_ne (tgt := 11) dX1_size_3 (by decide) (by omega) (fun h3 => ?_) (fun h3 => ?_)
    · refine g_il1 dX1_size_11 ?_
      refine g_iconst dX1_size_12 ?_
      refine g_bipush dX1_size_13 (by decide) (by decide) ?_
      refine g_callS3I (d' := 2) lk_X1_79 (rm_lt (by decide) (by decide)) (Nat.le_of_ble_eq_true rfl) dX1_size_15 ?_
      refine xo_in (by omega) (by omega) (by omega) (fun x15 hx15 => ?_)
      refine g_if_ne (tgt := 23) dX1_size_18 (by decide) (by omega) (fun h18 => ?_) (fun h18 => ?_)
      · refine g_al0 dX1_size_23 ?_
        refine f_getA 5 fk_X1_104 rfl hR.sh (fun _ _ => rfl) q.2 dX1_size_24 ?_
        refine g_ifnonnull (tgt := 32) dX1_size_27 (by decide) (fun _ h27 => ?_) (fun h27 => ?_)
        · cases h27
        refine g_iconst dX1_size_30 ?_
        exact g_iret rfl dX1_size_31 ⟨_, rfl, by have q0 := hQ; unfold qSize_ at q0; rw [if_neg (by omega), if_neg (by omega), if_neg (by omega)] at q0; exact q0⟩
      refine g_iconst dX1_size_21 ?_
      exact g_iret rfl dX1_size_22 ⟨_, rfl, by have q0 := hQ; unfold qSize_ at q0; rw [if_neg (by omega), if_pos (by omega)] at q0; exact q0⟩
    refine g_al0 dX1_size_6 ?_
    refine f_getv 1 fk_X1_76 rfl hR.sh (fun _ _ => rfl) hS.2.2.1.1.1 dX1_size_7 ?_
    exact g_iret rfl dX1_size_10 ⟨_, rfl, by have q0 := hQ; unfold qSize_ at q0; rw [if_pos (by omega)] at q0; exact q0⟩
  · have hp1 : p = 1 := q.1
    have hX := q.2
    have hn := (hP.get hp1).1.n
    refine g_il1 dX1_size_0 ?_
    refine g_bipush dX1_size_1 (by decide) (by decide) ?_
    refine g_icmp_ne (tgt := 11) dX1_size_3 (by decide) (by omega) (fun h3 => ?_) (fun h3 => ?_)
    · refine g_il1 dX1_size_11 ?_
      refine g_iconst dX1_size_12 ?_
      refine g_bipush dX1_size_13 (by decide) (by decide) ?_
      refine g_callS3I (d' := 2) lk_X1_79 (rm_lt (by decide) (by decide)) (Nat.le_of_ble_eq_true rfl) dX1_size_15 ?_
      refine xo_in (by omega) (by omega) (by omega) (fun x15 hx15 => ?_)
      refine g_if_ne (tgt := 23) dX1_size_18 (by decide) (by omega) (fun h18 => ?_) (fun h18 => ?_)
      · refine g_al0 dX1_size_23 ?_
        refine f_getA 5 fk_X1_104 rfl hR.sh (fun _ _ => rfl) hX.f5 dX1_size_24 ?_
        refine g_ifnonnull (tgt := 32) dX1_size_27 (by decide) (fun _ h27 => ?_) (fun h27 => ?_)
        · refine g_il1 dX1_size_32 ?_
          by_cases c33_0 : x = 0
          · refine g_tabIn (tgt := 92) dX1_size_33 (by omega) (by omega) (by rw [c33_0]; rfl) (by decide) ?_
            refine g_al0 dX1_size_92 ?_
            refine f_getA 5 fk_X1_104 rfl hR.sh (fun _ _ => rfl) hX.f5 dX1_size_93 ?_
            refine f_getv 0 fk_X1_259 rfl hX.P.sh (fun _ _ => rfl) hX.P.n0 dX1_size_96 ?_
            exact g_iret rfl dX1_size_99 ⟨_, rfl, by have q0 := hQ; unfold qSize_ at q0; rw [if_neg (by omega), if_neg (by omega), if_pos (by omega), if_pos (by omega), show x = 0 by omega] at q0; exact q0⟩
          by_cases c33_1 : x = 1
          · refine g_tabIn (tgt := 100) dX1_size_33 (by omega) (by omega) (by rw [c33_1]; rfl) (by decide) ?_
            refine g_al0 dX1_size_100 ?_
            refine f_getA 5 fk_X1_104 rfl hR.sh (fun _ _ => rfl) hX.f5 dX1_size_101 ?_
            refine f_getv 1 fk_X1_256 rfl hX.P.sh (fun _ _ => rfl) hX.P.n1 dX1_size_104 ?_
            exact g_iret rfl dX1_size_107 ⟨_, rfl, by have q0 := hQ; unfold qSize_ at q0; rw [if_neg (by omega), if_neg (by omega), if_pos (by omega), if_pos (by omega), show x = 1 by omega] at q0; exact q0⟩
          by_cases c33_2 : x = 2
          · refine g_tabIn (tgt := 108) dX1_size_33 (by omega) (by omega) (by rw [c33_2]; rfl) (by decide) ?_
            refine g_al0 dX1_size_108 ?_
            refine f_getA 5 fk_X1_104 rfl hR.sh (fun _ _ => rfl) hX.f5 dX1_size_109 ?_
            refine f_getv 2 fk_X1_441 rfl hX.P.sh (fun _ _ => rfl) hX.P.n2 dX1_size_112 ?_
            exact g_iret rfl dX1_size_115 ⟨_, rfl, by have q0 := hQ; unfold qSize_ at q0; rw [if_neg (by omega), if_neg (by omega), if_pos (by omega), if_pos (by omega), show x = 2 by omega] at q0; exact q0⟩
          by_cases c33_3 : x = 3
          · refine g_tabIn (tgt := 116) dX1_size_33 (by omega) (by omega) (by rw [c33_3]; rfl) (by decide) ?_
            refine g_al0 dX1_size_116 ?_
            refine f_getA 5 fk_X1_104 rfl hR.sh (fun _ _ => rfl) hX.f5 dX1_size_117 ?_
            refine f_getv 3 fk_X1_411 rfl hX.P.sh (fun _ _ => rfl) hX.P.n3 dX1_size_120 ?_
            exact g_iret rfl dX1_size_123 ⟨_, rfl, by have q0 := hQ; unfold qSize_ at q0; rw [if_neg (by omega), if_neg (by omega), if_pos (by omega), if_pos (by omega), show x = 3 by omega] at q0; exact q0⟩
          by_cases c33_4 : x = 4
          · refine g_tabIn (tgt := 124) dX1_size_33 (by omega) (by omega) (by rw [c33_4]; rfl) (by decide) ?_
            refine g_al0 dX1_size_124 ?_
            refine f_getA 5 fk_X1_104 rfl hR.sh (fun _ _ => rfl) hX.f5 dX1_size_125 ?_
            refine f_getA 4 fk_X1_122 rfl hX.P.sh (fun _ _ => rfl) hX.P.f4 dX1_size_128 ?_
            refine g_callV0I (d' := 2) lk_X1_127 hX.P.l0.1 rfl (rm_lt (by decide) (by decide)) (Nat.le_of_ble_eq_true rfl) dX1_size_131 ?_
            refine js_size hX.P.l0 ?_
            exact g_iret rfl dX1_size_134 ⟨_, rfl, by have q0 := hQ; unfold qSize_ at q0; rw [if_neg (by omega), if_neg (by omega), if_pos (by omega), if_pos (by omega), show x = 4 by omega] at q0; exact q0⟩
          by_cases c33_5 : x = 5
          · refine g_tabIn (tgt := 135) dX1_size_33 (by omega) (by omega) (by rw [c33_5]; rfl) (by decide) ?_
            refine g_al0 dX1_size_135 ?_
            refine f_getA 5 fk_X1_104 rfl hR.sh (fun _ _ => rfl) hX.f5 dX1_size_136 ?_
            refine f_getA 5 fk_X1_226 rfl hX.P.sh (fun _ _ => rfl) hX.P.f5 dX1_size_139 ?_
            refine g_callV0I (d' := 2) lk_X1_127 hX.P.l1.1 rfl (rm_lt (by decide) (by decide)) (Nat.le_of_ble_eq_true rfl) dX1_size_142 ?_
            refine js_size hX.P.l1 ?_
            exact g_iret rfl dX1_size_145 ⟨_, rfl, by have q0 := hQ; unfold qSize_ at q0; rw [if_neg (by omega), if_neg (by omega), if_pos (by omega), if_pos (by omega), show x = 5 by omega] at q0; exact q0⟩
          by_cases c33_6 : x = 6
          · refine g_tabIn (tgt := 146) dX1_size_33 (by omega) (by omega) (by rw [c33_6]; rfl) (by decide) ?_
            refine g_al0 dX1_size_146 ?_
            refine f_getA 5 fk_X1_104 rfl hR.sh (fun _ _ => rfl) hX.f5 dX1_size_147 ?_
            refine f_getA 6 fk_X1_131 rfl hX.P.sh (fun _ _ => rfl) hX.P.f6 dX1_size_150 ?_
            refine g_callV0I (d' := 2) lk_X1_127 hX.P.l2.1 rfl (rm_lt (by decide) (by decide)) (Nat.le_of_ble_eq_true rfl) dX1_size_153 ?_
            refine js_size hX.P.l2 ?_
            exact g_iret rfl dX1_size_156 ⟨_, rfl, by have q0 := hQ; unfold qSize_ at q0; rw [if_neg (by omega), if_neg (by omega), if_pos (by omega), if_pos (by omega), show x = 6 by omega] at q0; exact q0⟩
          by_cases c33_7 : x = 7
          · refine g_tabIn (tgt := 157) dX1_size_33 (by omega) (by omega) (by rw [c33_7]; rfl) (by decide) ?_
            refine g_al0 dX1_size_157 ?_
            refine f_getA 5 fk_X1_104 rfl hR.sh (fun _ _ => rfl) hX.f5 dX1_size_158 ?_
            refine f_getA 7 fk_X1_134 rfl hX.P.sh (fun _ _ => rfl) hX.P.f7 dX1_size_161 ?_
            refine g_callV0I (d' := 2) lk_X1_127 hX.P.l3.1 rfl (rm_lt (by decide) (by decide)) (Nat.le_of_ble_eq_true rfl) dX1_size_164 ?_
            refine js_size hX.P.l3 ?_
            exact g_iret rfl dX1_size_167 ⟨_, rfl, by have q0 := hQ; unfold qSize_ at q0; rw [if_neg (by omega), if_neg (by omega), if_pos (by omega), if_pos (by omega), show x = 7 by omega] at q0; exact q0⟩
          by_cases c33_8 : x = 8
          · refine g_tabIn (tgt := 168) dX1_size_33 (by omega) (by omega) (by rw [c33_8]; rfl) (by decide) ?_
            refine g_al0 dX1_size_168 ?_
            refine f_getA 5 fk_X1_104 rfl hR.sh (fun _ _ => rfl) hX.f5 dX1_size_169 ?_
            refine f_getA 8 fk_X1_373 rfl hX.P.sh (fun _ _ => rfl) hX.P.f8 dX1_size_172 ?_
            refine g_callV0I (d' := 2) lk_X1_127 hX.P.l4.1 rfl (rm_lt (by decide) (by decide)) (Nat.le_of_ble_eq_true rfl) dX1_size_175 ?_
            refine js_size hX.P.l4 ?_
            exact g_iret rfl dX1_size_178 ⟨_, rfl, by have q0 := hQ; unfold qSize_ at q0; rw [if_neg (by omega), if_neg (by omega), if_pos (by omega), if_pos (by omega), show x = 8 by omega] at q0; exact q0⟩
          by_cases c33_9 : x = 9
          · refine g_tabIn (tgt := 179) dX1_size_33 (by omega) (by omega) (by rw [c33_9]; rfl) (by decide) ?_
            refine g_al0 dX1_size_179 ?_
            refine f_getA 6 fk_X1_111 rfl hR.sh (fun _ _ => rfl) hX.f6 dX1_size_180 ?_
            refine f_getv 5 fk_X1_199 rfl hX.K.sh (fun _ _ => rfl) hX.K.y dX1_size_183 ?_
            exact g_iret rfl dX1_size_186 ⟨_, rfl, by have q0 := hQ; unfold qSize_ at q0; rw [if_neg (by omega), if_neg (by omega), if_pos (by omega), if_neg (by omega), if_pos (by omega)] at q0; exact q0⟩
          by_cases c33_10 : x = 10
          · refine g_tabIn (tgt := 187) dX1_size_33 (by omega) (by omega) (by rw [c33_10]; rfl) (by decide) ?_
            refine g_al0 dX1_size_187 ?_
            refine f_getA 7 fk_X1_20 rfl hR.sh (fun _ _ => rfl) hR.f7 dX1_size_188 ?_
            refine g_callV0I (d' := 2) lk_X1_127 hR.h2.1 rfl (rm_lt (by decide) (by decide)) (Nat.le_of_ble_eq_true rfl) dX1_size_191 ?_
            refine js_size hS.2.2.2.2.2.1.1 ?_
            exact g_iret rfl dX1_size_194 ⟨_, rfl, by have q0 := hQ; unfold qSize_ at q0; rw [if_neg (by omega), if_neg (by omega), if_pos (by omega), if_neg (by omega), if_neg (by omega), if_pos (by omega)] at q0; exact q0⟩
          refine g_tabOut (tgt := 195) dX1_size_33 (by omega) (by omega) (by decide) ?_
          refine g_al0 dX1_size_195 ?_
          refine f_getA 8 fk_X1_24 rfl hR.sh (fun _ _ => rfl) hR.f8 dX1_size_196 ?_
          refine g_callV0I (d' := 2) lk_X1_127 hR.h2.2 rfl (rm_lt (by decide) (by decide)) (Nat.le_of_ble_eq_true rfl) dX1_size_199 ?_
          refine js_size hS.2.2.2.2.2.2.1.1 ?_
          exact g_iret rfl dX1_size_202 ⟨_, rfl, by have q0 := hQ; unfold qSize_ at q0; rw [if_neg (by omega), if_neg (by omega), if_pos (by omega), if_neg (by omega), if_neg (by omega), if_neg (by omega)] at q0; exact q0⟩
        cases h27
      refine g_iconst dX1_size_21 ?_
      exact g_iret rfl dX1_size_22 ⟨_, rfl, by have q0 := hQ; unfold qSize_ at q0; rw [if_neg (by omega), if_pos (by omega)] at q0; exact q0⟩
    refine g_al0 dX1_size_6 ?_
    refine f_getv 1 fk_X1_76 rfl hR.sh (fun _ _ => rfl) hS.2.2.1.1.1 dX1_size_7 ?_
    exact g_iret rfl dX1_size_10 ⟨_, rfl, by have q0 := hQ; unfold qSize_ at q0; rw [if_pos (by omega)] at q0; exact q0⟩
theorem i8_ (z : Int32) : (z.toInt8.toInt32).toInt = sby_ ((z &&& Int32.ofInt 255).toInt) := by
  have e1 : (z &&& Int32.ofInt 255).toBitVec.toNat = z.toBitVec.toNat % 256 := by
    rw [Int32.toBitVec_and, BitVec.toNat_and]
    show _ &&& 255 = _
    exact Nat.and_two_pow_sub_one_eq_mod _ 8
  have e2 : (z &&& Int32.ofInt 255).toInt = ((z.toBitVec.toNat % 256 : Nat) : Int) := bvi_ e1 (by omega)
  have e3 : (z.toInt8.toInt32).toInt = z.toInt.bmod 256 := by
    rw [Int8.toInt_toInt32, Int32.toInt_toInt8]
  have e4 : z.toInt = if 2 * z.toBitVec.toNat < 2 ^ 32 then (z.toBitVec.toNat : Int) else (z.toBitVec.toNat : Int) - ((2 ^ 32 : Nat) : Int) := by
    rw [← Int32.toInt_toBitVec, BitVec.toInt_eq_toNat_cond]
  have e5 := z.toBitVec.isLt
  rw [e2, e3, Int.bmod_def, e4]
  unfold sby_
  generalize z.toBitVec.toNat = n at *
  clear e1 e2 e3 e4
  by_cases q : 2 * n < 2 ^ 32
  · rw [if_pos q]; split <;> split <;> omega
  · rw [if_neg q]; split <;> split <;> omega
theorem fb_law (w : Int) {n : Int} (hn : n = 0 ∨ n = 8 ∨ n = 16 ∨ n = 24) : i2b_ (iushr_ w n) = sby_ (iand_ (ishr_ w n) 255) := by
  unfold i2b_ iand_ iushr_ ishr_
  rw [Int32.ofInt_toInt, Int32.ofInt_toInt, i8_]
  congr 2
  have key : ∀ y z : Int32, y.toBitVec.toNat % 256 = z.toBitVec.toNat % 256 → y &&& Int32.ofInt 255 = z &&& Int32.ofInt 255 := fun y z h => by
    apply Int32.toBitVec_inj.mp
    apply BitVec.eq_of_toNat_eq
    rw [Int32.toBitVec_and, Int32.toBitVec_and, BitVec.toNat_and, BitVec.toNat_and]
    have e : (Int32.ofInt 255).toBitVec.toNat = 2 ^ 8 - 1 := rfl
    rw [e, Nat.and_two_pow_sub_one_eq_mod, Nat.and_two_pow_sub_one_eq_mod]
    exact h
  have main : ∀ (x : Int32) (k : Nat), (k = 0 ∨ k = 8 ∨ k = 16 ∨ k = 24) → (x.toBitVec.toNat / 2 ^ k) % 256 = (x.toBitVec.sshiftRight k).toNat % 256 := fun x k hk => by
    have h1 : (x.toBitVec.sshiftRight k).toInt = x.toBitVec.toInt / 2 ^ k := by
      rw [BitVec.toInt_sshiftRight, Int.shiftRight_eq_div_pow]
      rfl
    have h2 := x.toBitVec.isLt
    have h3 := (x.toBitVec.sshiftRight k).isLt
    rw [BitVec.toInt_eq_toNat_cond, BitVec.toInt_eq_toNat_cond] at h1
    generalize (x.toBitVec.sshiftRight k).toNat = b at *
    generalize x.toBitVec.toNat = a at *
    rcases hk with q | q | q | q <;> subst q <;> simp at h1 ⊢ <;> (split at h1 <;> split at h1 <;> omega)
  refine key _ _ ?_
  have main2 : ∀ (x : Int32) (k : Nat), (k = 0 ∨ k = 8 ∨ k = 16 ∨ k = 24) → (x.toBitVec >>> k).toNat % 256 = (x.toBitVec.sshiftRight k).toNat % 256 := fun x k hk => by
    rw [BitVec.toNat_ushiftRight, Nat.shiftRight_eq_div_pow]
    exact main x k hk
  rcases hn with q | q | q | q <;> subst q
  · exact main2 (Int32.ofInt w) 0 (by decide)
  · exact main2 (Int32.ofInt w) 8 (by decide)
  · exact main2 (Int32.ofInt w) 16 (by decide)
  · exact main2 (Int32.ofInt w) 24 (by decide)
end
