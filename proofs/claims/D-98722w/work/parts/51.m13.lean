/-! THE REFERENCE: undoing, images; what is told; feeding. Written by mod/m51.py -/
set_option maxRecDepth 100000
section
variable {G : JG} {m : Nat} {σ : JH} {tp fa pl tr p un im : Int} {T r s : Int → Int} {U I : Int → Int → Int}
theorem MD_.cp {σ' : JH} {u : Int → Int} (h : MD_ G m σ r s) (f : Fr_ (fun b k => b = m + 5 ∧ 0 ≤ k ∧ k < 0 + 76) σ σ') (hc : ∀ j, 0 ≤ j → j < 76 → iv_ σ' (m + 5) (0 + j) = u j) : MD_ G m σ' r (ov_ u s) := by
  refine ⟨h.1.to f.1 f.2.1, fun k => (f.2.2.2.2 _ _ (fun q => by omega)).trans (h.2.1 k), fun k => ?_⟩
  unfold ov_
  by_cases hk : 0 ≤ k ∧ k < 76
  · rw [if_pos hk]
    have := hc k hk.1 hk.2
    rw [show (0 : Int) + k = k by omega] at this
    exact this
  · rw [if_neg hk]; exact (f.2.2.2.2 _ _ (fun q => by omega)).trans (h.2.2 k)
theorem ov_D {u : Int → Int} (h : DW_ r u) : DW_ r (ov_ u s) := h.congr fun j h0 h1 => ov_in h0 h1
theorem and255 (x : Int) : 0 ≤ iand_ x 255 ∧ iand_ x 255 ≤ 255 := by
  unfold iand_
  have e : (Int32.ofInt x &&& Int32.ofInt 255).toBitVec.toNat = (Int32.ofInt x).toBitVec.toNat &&& 255 := by
    rw [Int32.toBitVec_and, BitVec.toNat_and]
    rfl
  have h : (Int32.ofInt x).toBitVec.toNat &&& 255 ≤ 255 := Nat.and_le_right
  rw [bvi_ e (by omega)]
  omega
theorem mo_undo {Q : Int → JH → Prop} (hS : MS_ G m σ tp fa pl tr p un im T r s U I) 
    (hQ : ∀ (x t : Int) (un' : Int) (U' : Int → Int → Int) (s' : Int → Int) (σ' : JH), aUndo_ s un U = (x, t, un', U', s') → MS_ G m σ' tp fa pl t p un' im T r s' U' I → Fr_ (ML_ m) σ σ' → Q x σ') : CallI_ G 3 yX2_undo cX2_undo 1 (some .boolean) [A_ (some m)] σ Q := by
  refine call_go [some (A_ (some m))] (by decide) (Nat.le_of_ble_eq_true rfl) rfl ?_
  have hM := hS.M
  have hp := hS.p14
  have hP := hS.P
  have hp01 := hP.b
  refine g_al0 dX2_undo_0 ?_
  refine g_callV0V (d' := 2) lk_X2_167 hM.sh rfl (rm_lt (by decide) (by decide)) (Nat.le_of_ble_eq_true rfl) dX2_undo_1 ?_
  refine mo_good hM (fun σ1 hM hE => ?_)
  have hp := hE.p14.trans hp
  have hS1 := hS.q hM hE
  refine g_al0 dX2_undo_4 ?_
  have hu2 := hS.2.2.2.2.1.2.1
  refine f_getv 20 fk_X2_183 rfl hM.sh (fun _ _ => rfl) hS1.2.2.2.2.1.1 dX2_undo_5 ?_
  refine g_if_ne (tgt := 18) dX2_undo_8 (by decide) (by omega) (fun h8 => ?_) (fun h8 => ?_)
  · refine g_al0 dX2_undo_18 ?_
    refine g_dup dX2_undo_19 rfl ?_
    refine f_getv 20 fk_X2_183 rfl hM.sh (fun _ _ => rfl) hS1.2.2.2.2.1.1 dX2_undo_20 ?_
    refine g_iconst dX2_undo_23 ?_
    refine g_isub dX2_undo_24 ?_
    refine f_putI 20 fk_X2_183 rfl (nf_ rfl rfl) hM.sh hM.ge rfl dX2_undo_25 ?_
    have hM := hM.pi (a := m) (k := 20) (x := un - 1) ⟨by omega, by omega⟩
    refine g_al0 dX2_undo_28 ?_
    refine f_getA 18 fk_X2_29 rfl hM.sh (fun _ _ => rfl) hM.f18 dX2_undo_29 ?_
    refine g_bipush dX2_undo_32 (by decide) (by decide) ?_
    refine g_al0 dX2_undo_34 ?_
    refine f_getv 20 fk_X2_183 rfl hM.sh (fun _ _ => rfl) (show iv_ (pi_ _ _ _ _) m 20 = un - 1 by rw [iv_pi, if_pos ⟨rfl, rfl⟩]) dX2_undo_35 ?_
    refine g_imul dX2_undo_38 ?_
    refine g_al0 dX2_undo_39 ?_
    refine f_getA 17 fk_X2_26 rfl hM.sh (fun _ _ => rfl) hM.f17 dX2_undo_40 ?_
    refine g_iconst dX2_undo_43 ?_
    refine g_bipush dX2_undo_44 (by decide) (by decide) ?_
    refine g_callS5V (d' := 2) lk_X2_176 (rm_lt (by decide) (by decide)) (Nat.le_of_ble_eq_true rfl) dX2_undo_46 ?_
    refine mo_copy hM.a18 hM.a17 hM.g17 (by omega) (by omega) (by omega) (by omega) (by omega) (fun σ3 hF3 hc3 => ?_)
    have hM3 := hM.cp (u := U (un - 1)) hF3 (fun j j0 j1 => by rw [hc3 j j0 j1, iv_pi, if_neg (by omega)]; exact hS1.2.2.2.2.1.2.2.1 (un - 1) j (by omega) (by omega) j0 j1)
    have hF : Fr_ (mA_ m) σ σ3 := (hE.mA.pi (a := m) (k := 20) (x := un - 1) (by unfold mA_ ms_; omega)).tr (hF3.mono fun b k q => by unfold mA_ ms_; omega)
    have en : ∀ b k, b ≠ m + 5 → ¬ (b = m ∧ k = 20) → iv_ σ3 b k = iv_ σ1 b k := fun b k q1 q2 => by rw [hF3.2.2.2.2 b k (fun q => q1 q.1), iv_pi, if_neg q2]
    refine g_iconst dX2_undo_49 ?_
    exact g_zret rfl (by omega) dX2_undo_50 ⟨_, rfl, hQ _ _ _ _ _ _ (by unfold aUndo_; rw [if_neg (by omega)]) (hS.act hF hM3 ((en m 11 (by omega) (by omega)).trans hE.2.2) (hP.elim Or.inl (fun q => Or.inr ⟨q.1, q.2.1, ov_D (hS.2.2.2.2.1.2.2.2 (un - 1) (by omega) (by omega))⟩)) ((hF3.2.2.2.2 m 20 (fun q => by omega)).trans (by rw [iv_pi, if_pos ⟨rfl, rfl⟩])) (by omega) (fun k j k0 k1 j0 j1 => (en _ _ (by omega) (by omega)).trans (hS1.2.2.2.2.1.2.2.1 k j k0 (by omega) j0 j1)) (fun k k0 k1 => hS.2.2.2.2.1.2.2.2 k k0 (by omega)) ((en m 21 (by omega) (by omega)).trans hS1.2.2.2.2.2.1) hS.2.2.2.2.2.2.1 (fun k j k0 k1 j0 j1 => (en _ _ (by omega) (by omega)).trans (hS1.2.2.2.2.2.2.2.1 k j k0 k1 j0 j1)) hS.2.2.2.2.2.2.2.2) hF.ml⟩
  refine g_al0 dX2_undo_11 ?_
  refine g_bipush dX2_undo_12 (by decide) (by decide) ?_
  refine g_callV1I (d' := 2) lk_X2_427 hM.sh rfl (rm_lt (by decide) (by decide)) (Nat.le_of_ble_eq_true rfl) dX2_undo_14 ?_
  refine mo_isNot hM hE (fun σ2 hM hE => ?_)
  exact g_zret rfl (by omega) dX2_undo_17 ⟨_, rfl, hQ _ _ _ _ _ _ (by unfold aUndo_; rw [if_pos (by omega)]) (hS.q hM hE) hE.mA.ml⟩
theorem mo_image {Q : Int → JH → Prop} (hS : MS_ G m σ tp fa pl tr p un im T r s U I) 
    (hQ : ∀ (x t : Int) (im' : Int) (I' : Int → Int → Int) (σ' : JH), aImage_ p s im I = (x, t, im', I') → MS_ G m σ' tp fa pl t p un im' T r s U I' → Fr_ (ML_ m) σ σ' → Q x σ') : CallI_ G 3 yX2_image cX2_image 1 (some .int) [A_ (some m)] σ Q := by
  refine call_go [some (A_ (some m))] (by decide) (Nat.le_of_ble_eq_true rfl) rfl ?_
  have hM := hS.M
  have hp := hS.p14
  have hP := hS.P
  have hp01 := hP.b
  refine g_al0 dX2_image_0 ?_
  refine g_callV0V (d' := 2) lk_X2_167 hM.sh rfl (rm_lt (by decide) (by decide)) (Nat.le_of_ble_eq_true rfl) dX2_image_1 ?_
  refine mo_good hM (fun σ1 hM hE => ?_)
  have hp := hE.p14.trans hp
  have hS1 := hS.q hM hE
  refine g_al0 dX2_image_4 ?_
  refine f_getv 14 fk_X2_180 rfl hM.sh (fun _ _ => rfl) hp dX2_image_5 ?_
  refine g_if_ne (tgt := 17) dX2_image_8 (by decide) (by omega) (fun h8 => ?_) (fun h8 => ?_)
  · refine g_al0 dX2_image_17 ?_
    have hi2 := hS.2.2.2.2.2.2.1
    refine f_getv 21 fk_X2_186 rfl hM.sh (fun _ _ => rfl) hS1.2.2.2.2.2.1 dX2_image_18 ?_
    refine g_iconst dX2_image_21 ?_
    refine g_icmp_ne (tgt := 31) dX2_image_22 (by decide) (by omega) (fun h22 => ?_) (fun h22 => ?_)
    · refine g_al0 dX2_image_31 ?_
      refine f_getA 17 fk_X2_26 rfl hM.sh (fun _ _ => rfl) hM.f17 dX2_image_32 ?_
      refine g_iconst dX2_image_35 ?_
      refine g_al0 dX2_image_36 ?_
      refine f_getA 19 fk_X2_32 rfl hM.sh (fun _ _ => rfl) hM.f19 dX2_image_37 ?_
      refine g_bipush dX2_image_40 (by decide) (by decide) ?_
      refine g_al0 dX2_image_42 ?_
      refine f_getv 21 fk_X2_186 rfl hM.sh (fun _ _ => rfl) hS1.2.2.2.2.2.1 dX2_image_43 ?_
      refine g_imul dX2_image_46 ?_
      refine g_bipush dX2_image_47 (by decide) (by decide) ?_
      refine g_callS5V (d' := 2) lk_X2_176 (rm_lt (by decide) (by decide)) (Nat.le_of_ble_eq_true rfl) dX2_image_49 ?_
      refine mo_copy hM.a17 hM.a19 hM.g19 (by omega) (by omega) (by omega) (by omega) (by omega) (fun σ3 hF3 hc3 => ?_)
      have hM : MD_ G m σ3 r s := hM.fr hF3 (fun k => ⟨fun q => by omega, fun q => by omega⟩)
      have en : ∀ b k, b ≠ m + 7 → iv_ σ3 b k = iv_ σ1 b k := fun b k q1 => hF3.2.2.2.2 b k (fun q => q1 q.1)
      refine g_al0 dX2_image_52 ?_
      refine g_dup dX2_image_53 rfl ?_
      refine f_getv 21 fk_X2_186 rfl hM.sh (fun _ _ => rfl) ((en m 21 (by omega)).trans hS1.2.2.2.2.2.1) dX2_image_54 ?_
      refine g_iconst dX2_image_57 ?_
      refine g_iadd dX2_image_58 ?_
      refine f_putI 21 fk_X2_186 rfl (nf_ rfl rfl) hM.sh hM.ge rfl dX2_image_59 ?_
      have hM := hM.pi (a := m) (k := 21) (x := im + 1) ⟨by omega, by omega⟩
      have hF : Fr_ (mA_ m) σ (pi_ σ3 m 21 (im + 1)) := (hE.mA.tr (hF3.mono fun b k q => by unfold mA_ ms_; omega)).pi (a := m) (k := 21) (by unfold mA_ ms_; omega)
      refine g_al0 dX2_image_62 ?_
      refine f_getv 21 fk_X2_186 rfl hM.sh (fun _ _ => rfl) (show iv_ (pi_ _ _ _ _) m 21 = im + 1 by rw [iv_pi, if_pos ⟨rfl, rfl⟩]) dX2_image_63 ?_
      refine g_iconst dX2_image_66 ?_
      refine g_isub dX2_image_67 ?_
      refine g_top (show _ = im by omega) ?_
      exact g_iret rfl dX2_image_68 ⟨_, rfl, hQ _ _ _ _ _ (by unfold aImage_; rw [if_pos (by omega), if_neg (by omega)]) (hS.act hF hM (by rw [iv_pi, if_neg (by omega)]; exact (en m 11 (by omega)).trans hE.2.2) hP (by rw [iv_pi, if_neg (by omega)]; exact (en m 20 (by omega)).trans hS1.2.2.2.2.1.1) hS.2.2.2.2.1.2.1 (fun k j k0 k1 j0 j1 => by rw [iv_pi, if_neg (by omega)]; exact (en _ _ (by omega)).trans (hS1.2.2.2.2.1.2.2.1 k j k0 k1 j0 j1)) hS.2.2.2.2.1.2.2.2 (by rw [iv_pi, if_pos ⟨rfl, rfl⟩]) (by omega) (fun k j k0 k1 j0 j1 => by
  rw [iv_pi, if_neg (by omega)]
  (try dsimp only)
  by_cases hk : k = im
  · rw [if_pos hk, hk]; exact (hc3 j j0 j1).trans (hS1.M.ssx (by omega))
  · rw [if_neg hk]; exact (hF3.2.2.2.2 _ _ (fun q => by omega)).trans (hS1.2.2.2.2.2.2.2.1 k j k0 (by omega) j0 j1)) (fun k k0 k1 => by
  (try dsimp only)
  by_cases hk : k = im
  · rw [if_pos hk]; exact (hP.get (by omega)).2
  · rw [if_neg hk]; exact hS.2.2.2.2.2.2.2.2 k k0 (by omega))) hF.ml⟩
    refine g_al0 dX2_image_25 ?_
    refine g_iconst dX2_image_26 ?_
    refine g_callV1I (d' := 2) lk_X2_170 hM.sh rfl (rm_lt (by decide) (by decide)) (Nat.le_of_ble_eq_true rfl) dX2_image_27 ?_
    refine mo_no hM hE (fun σ2 hM hE => ?_)
    exact g_iret rfl dX2_image_30 ⟨_, rfl, hQ _ _ _ _ _ (by unfold aImage_; rw [if_pos (by omega), if_pos (by omega)]) (hS.q hM hE) hE.mA.ml⟩
  refine g_al0 dX2_image_11 ?_
  refine g_iconst dX2_image_12 ?_
  refine g_callV1I (d' := 2) lk_X2_170 hM.sh rfl (rm_lt (by decide) (by decide)) (Nat.le_of_ble_eq_true rfl) dX2_image_13 ?_
  refine mo_no hM hE (fun σ2 hM hE => ?_)
  exact g_iret rfl dX2_image_16 ⟨_, rfl, hQ _ _ _ _ _ (by unfold aImage_; rw [if_neg (by omega)]) (hS.q hM hE) hE.mA.ml⟩
theorem mo_back {i : Int} {Q : Int → JH → Prop} (hS : MS_ G m σ tp fa pl tr p un im T r s U I) (hi : -2147483648 ≤ i ∧ i < 2147483648)
    (hQ : ∀ (x t : Int) (un' : Int) (s' : Int → Int) (σ' : JH), aBack_ s un im I i = (x, t, un', s') → MS_ G m σ' tp fa pl t p un' im T r s' U I → Fr_ (ML_ m) σ σ' → Q x σ') : CallI_ G 3 yX2_back cX2_back 2 (some .boolean) [A_ (some m), I_ i] σ Q := by
  refine call_go [some (A_ (some m)), some (I_ i)] (by decide) (Nat.le_of_ble_eq_true rfl) rfl ?_
  have hM := hS.M
  have hp := hS.p14
  have hP := hS.P
  have hp01 := hP.b
  refine g_al0 dX2_back_0 ?_
  refine g_callV0V (d' := 2) lk_X2_167 hM.sh rfl (rm_lt (by decide) (by decide)) (Nat.le_of_ble_eq_true rfl) dX2_back_1 ?_
  refine mo_good hM (fun σ1 hM hE => ?_)
  have hp := hE.p14.trans hp
  have hS1 := hS.q hM hE
  refine g_il1 dX2_back_4 ?_
  refine g_iconst dX2_back_5 ?_
  refine g_al0 dX2_back_6 ?_
  have hi2 := hS.2.2.2.2.2.2.1
  refine f_getv 21 fk_X2_186 rfl hM.sh (fun _ _ => rfl) hS1.2.2.2.2.2.1 dX2_back_7 ?_
  refine g_iconst dX2_back_10 ?_
  refine g_isub dX2_back_11 ?_
  refine g_callS3I (d' := 2) lk_X2_149 (rm_lt (by decide) (by decide)) (Nat.le_of_ble_eq_true rfl) dX2_back_12 ?_
  refine mo_in (by omega) (by omega) (by omega) (fun x12 hx12 => ?_)
  refine g_if_ne (tgt := 24) dX2_back_15 (by decide) (by omega) (fun h15 => ?_) (fun h15 => ?_)
  · refine g_al0 dX2_back_24 ?_
    refine f_getA 19 fk_X2_32 rfl hM.sh (fun _ _ => rfl) hM.f19 dX2_back_25 ?_
    refine g_bipush dX2_back_28 (by decide) (by decide) ?_
    refine g_il1 dX2_back_30 ?_
    refine g_imul dX2_back_31 ?_
    refine g_al0 dX2_back_32 ?_
    refine f_getA 17 fk_X2_26 rfl hM.sh (fun _ _ => rfl) hM.f17 dX2_back_33 ?_
    refine g_iconst dX2_back_36 ?_
    refine g_bipush dX2_back_37 (by decide) (by decide) ?_
    refine g_callS5V (d' := 2) lk_X2_176 (rm_lt (by decide) (by decide)) (Nat.le_of_ble_eq_true rfl) dX2_back_39 ?_
    refine mo_copy hM.a19 hM.a17 hM.g17 (by omega) (by omega) (by omega) (by omega) (by omega) (fun σ3 hF3 hc3 => ?_)
    have hM := hM.cp (u := I i) hF3 (fun j j0 j1 => by rw [hc3 j j0 j1]; exact hS1.2.2.2.2.2.2.2.1 i j (by omega) (by omega) j0 j1)
    have en : ∀ b k, b ≠ m + 5 → iv_ σ3 b k = iv_ σ1 b k := fun b k q1 => hF3.2.2.2.2 b k (fun q => q1 q.1)
    refine g_al0 dX2_back_42 ?_
    refine g_iconst dX2_back_43 ?_
    refine f_putI 20 fk_X2_183 rfl (nf_ rfl rfl) hM.sh hM.ge rfl dX2_back_44 ?_
    have hM := hM.pi (a := m) (k := 20) (x := 0) ⟨by omega, by omega⟩
    have hF : Fr_ (mA_ m) σ (pi_ σ3 m 20 0) := (hE.mA.tr (hF3.mono fun b k q => by unfold mA_ ms_; omega)).pi (a := m) (k := 20) (by unfold mA_ ms_; omega)
    refine g_iconst dX2_back_47 ?_
    exact g_zret rfl (by omega) dX2_back_48 ⟨_, rfl, hQ _ _ _ _ _ (by unfold aBack_; rw [if_pos (by omega)]) (hS.act (U' := U) hF hM (by rw [iv_pi, if_neg (by omega)]; exact (en m 11 (by omega)).trans hE.2.2) (hP.elim Or.inl (fun q => Or.inr ⟨q.1, q.2.1, ov_D (hS.2.2.2.2.2.2.2.2 i (by omega) (by omega))⟩)) (by rw [iv_pi, if_pos ⟨rfl, rfl⟩]) (by omega) (fun k j k0 k1 j0 j1 => by omega) (fun k k0 k1 => by omega) (by rw [iv_pi, if_neg (by omega)]; exact (en m 21 (by omega)).trans hS1.2.2.2.2.2.1) hS.2.2.2.2.2.2.1 (fun k j k0 k1 j0 j1 => by rw [iv_pi, if_neg (by omega)]; exact (en _ _ (by omega)).trans (hS1.2.2.2.2.2.2.2.1 k j k0 k1 j0 j1)) hS.2.2.2.2.2.2.2.2) hF.ml⟩
  refine g_al0 dX2_back_18 ?_
  refine g_iconst dX2_back_19 ?_
  refine g_callV1I (d' := 2) lk_X2_427 hM.sh rfl (rm_lt (by decide) (by decide)) (Nat.le_of_ble_eq_true rfl) dX2_back_20 ?_
  refine mo_isNot hM hE (fun σ2 hM hE => ?_)
  exact g_zret rfl (by omega) dX2_back_23 ⟨_, rfl, hQ _ _ _ _ _ (by unfold aBack_; rw [if_neg (by omega)]) (hS.q hM hE) hE.mA.ml⟩
theorem mo_led {i : Int} {Q : Int → JH → Prop} (hS : MS_ G m σ tp fa pl tr p un im T r s U I) (hi : -2147483648 ≤ i ∧ i < 2147483648)
    (hQ : ∀ (x : Int) σ', MS_ G m σ' tp fa pl tr p un im T r s U I → Fr_ (ML_ m) σ σ' → (0 ≤ qLed_ p r s i ∧ x = qLed_ p r s i ∧ iv_ σ' m 0 = 0) ∨ (qLed_ p r s i = -1 ∧ x = 0 ∧ iv_ σ' m 0 = 1) → Q x σ') : CallI_ G 2 yX2_led cX2_led 4 (some .int) [A_ (some m), I_ i] σ Q := by
  refine call_go [some (A_ (some m)), some (I_ i), none, none] (by decide) (Nat.le_of_ble_eq_true rfl) rfl ?_
  have hM := hS.M
  have hp := hS.p14
  have hP := hS.P
  have hp01 := hP.b
  have L4 : ∀ (n : Nat) (n1 : Int) (b : Int), 8 - b < (n : Int) → (0 ≤ b) → (p = 1 → b ≤ r 7) → (b ≤ 8) → (0 ≤ n1 ∧ n1 ≤ b) → (n1 = sI_ (fun c => if s (12 + c) ≤ 0 then 1 else 0) b) → (∀ j, 0 ≤ j → j < b → (fun b => decide (s (12 + b) ≤ 0 ∧ sI_ (fun c => if s (12 + c) ≤ 0 then 1 else 0) b = i)) j = false) → GoM_ G 2 yX2_led cX2_led 4 (some .int) σ (fun v σ' => ∃ x : Int, v = some (I_ x) ∧ Q x σ') 4 [some (A_ (some m)), some (I_ i), some (I_ n1), some (I_ b)] [] σ := by
    intro n
    induction n with
    | zero => intro n1 b hn h0 h1 h1b hnb hnv hf; exact absurd hn (by omega)
    | succ n ih =>
      intro n1 b hn h0 h1 h1b hnb hnv hf
      refine g_al0 dX2_led_4 ?_
      refine f_getv 14 fk_X2_180 rfl hM.sh (fun _ _ => rfl) hp dX2_led_5 ?_
      refine g_if_eq (tgt := 58) dX2_led_8 (by decide) (by omega) (fun h8 => ?_) (fun h8 => ?_)
      · refine g_al0 dX2_led_58 ?_
        refine g_iconst dX2_led_59 ?_
        refine f_putI 0 fk_X2_62 rfl (nf_ rfl rfl) hM.sh hM.ge rfl dX2_led_60 ?_
        refine g_iconst dX2_led_63 ?_
        exact g_iret rfl dX2_led_64 ⟨_, rfl, hQ _ _ hS.th (Fr_.rf.pi (by unfold ML_; omega)) (Or.inr ⟨by unfold qLed_; rw [if_neg (by omega)], rfl, by rw [iv_pi, if_pos ⟨rfl, rfl⟩]⟩)⟩
      refine g_il3 dX2_led_11 ?_
      obtain ⟨hW, hD⟩ := hP.get (by omega)
      have hn := hW.n
      refine g_al0 dX2_led_12 ?_
      refine f_getA 15 fk_X2_20 rfl hM.sh (fun _ _ => rfl) hM.f15 dX2_led_13 ?_
      refine g_bipush dX2_led_16 (by decide) (by decide) ?_
      refine g_ialv hM.a15 (by omega) (hM.rr _) dX2_led_18 ?_
      refine g_icmp_ge (tgt := 58) dX2_led_19 (by decide) (by omega) (fun h19 => ?_) (fun h19 => ?_)
      · refine g_al0 dX2_led_58 ?_
        refine g_iconst dX2_led_59 ?_
        refine f_putI 0 fk_X2_62 rfl (nf_ rfl rfl) hM.sh hM.ge rfl dX2_led_60 ?_
        refine g_iconst dX2_led_63 ?_
        exact g_iret rfl dX2_led_64 ⟨_, rfl, hQ _ _ hS.th (Fr_.rf.pi (by unfold ML_; omega)) (Or.inr ⟨by unfold qLed_; rw [if_pos (by omega)]; exact fI_none (fun j j0 j1 => hf j j0 (by omega)), rfl, by rw [iv_pi, if_pos ⟨rfl, rfl⟩]⟩)⟩
      have hdb := hD.box (b := b) (by omega) (by omega)
      refine g_al0 dX2_led_22 ?_
      refine f_getA 17 fk_X2_26 rfl hM.sh (fun _ _ => rfl) hM.f17 dX2_led_23 ?_
      refine g_bipush dX2_led_26 (by decide) (by decide) ?_
      refine g_il3 dX2_led_28 ?_
      refine g_iadd dX2_led_29 ?_
      refine g_ialv hM.a17 (by omega) (hM.ss _) dX2_led_30 ?_
      refine g_if_le (tgt := 37) dX2_led_31 (by decide) (by omega) (fun h31 => ?_) (fun h31 => ?_)
      · refine g_il2 dX2_led_37 ?_
        refine g_il1 dX2_led_38 ?_
        refine g_icmp_ne (tgt := 49) dX2_led_39 (by decide) (by omega) (fun h39 => ?_) (fun h39 => ?_)
        · refine g_inc2 dX2_led_49 (by decide) rfl ?_
          refine g_inc3 dX2_led_52 (by decide) rfl ?_
          refine g_goto (tgt := 4) dX2_led_55 (by decide) ?_
          refine ih _ _ (by omega) (by omega) (by omega) (by omega) (by omega) ?_ (fun j j0 j1 => ?_)
          · rw [sI_s _ h0, ← hnv]; (try dsimp only); rw [if_pos (by omega)]
          · by_cases hj : j = b
            · subst hj; exact decide_eq_false (fun q => by omega)
            · exact hf j j0 (by omega)
        refine g_al0 dX2_led_42 ?_
        refine g_iconst dX2_led_43 ?_
        refine f_putI 0 fk_X2_62 rfl (nf_ rfl rfl) hM.sh hM.ge rfl dX2_led_44 ?_
        have e : qLed_ p r s i = b := by unfold qLed_; rw [if_pos (by omega)]; exact fI_hit h0 (by omega) (decide_eq_true ⟨by omega, by omega⟩) hf
        refine g_il3 dX2_led_47 ?_
        exact g_iret rfl dX2_led_48 ⟨_, rfl, hQ _ _ hS.th (Fr_.rf.pi (by unfold ML_; omega)) (Or.inl ⟨by omega, e.symm, by rw [iv_pi, if_pos ⟨rfl, rfl⟩]⟩)⟩
      refine g_goto (tgt := 52) dX2_led_34 (by decide) ?_
      refine g_inc3 dX2_led_52 (by decide) rfl ?_
      refine g_goto (tgt := 4) dX2_led_55 (by decide) ?_
      refine ih _ _ (by omega) (by omega) (by omega) (by omega) (by omega) ?_ (fun j j0 j1 => ?_)
      · rw [sI_s _ h0, ← hnv]; (try dsimp only); rw [if_neg (by omega)]; omega
      · by_cases hj : j = b
        · subst hj; exact decide_eq_false (fun q => by omega)
        · exact hf j j0 (by omega)
  refine g_iconst dX2_led_0 ?_
  refine g_is2 dX2_led_1 (by decide) rfl ?_
  refine g_iconst dX2_led_2 ?_
  refine g_is3 dX2_led_3 (by decide) rfl ?_
  exact L4 9 _ _ (by omega) (by omega) (fun q => by have := (hP.get q).1.n; omega) (by omega) (by omega) rfl (fun j j0 j1 => by omega)
theorem mo_trouble {Q : Int → JH → Prop} (hS : MS_ G m σ tp fa pl tr p un im T r s U I)
    (hQ : ∀ σ', MS_ G m σ' tp fa pl tr p un im T r s U I → Fr_ (ML_ m) σ σ' → Q (tr) σ') : CallI_ G 2 yX2_trouble cX2_trouble 1 (some .int) [A_ (some m)] σ Q := by
  refine call_go [some (A_ (some m))] (by decide) (Nat.le_of_ble_eq_true rfl) rfl ?_
  have hM := hS.M
  refine g_al0 dX2_trouble_0 ?_
  refine g_iconst dX2_trouble_1 ?_
  refine f_putI 0 fk_X2_62 rfl (nf_ rfl rfl) hM.sh hM.ge rfl dX2_trouble_2 ?_
  refine g_al0 dX2_trouble_5 ?_
  refine f_getv 11 fk_X2_65 rfl hM.sh (fun _ _ => rfl) (show iv_ (pi_ _ _ _ _) m 11 = tr by rw [iv_pi, if_neg (by omega)]; exact hS.t11) dX2_trouble_6 ?_
  exact g_iret rfl dX2_trouble_9 ⟨_, rfl, hQ _ hS.th (Fr_.rf.pi (by unfold ML_; omega))⟩
theorem mo_fault {Q : Int → JH → Prop} (hS : MS_ G m σ tp fa pl tr p un im T r s U I)
    (hQ : ∀ σ', MS_ G m σ' tp fa pl tr p un im T r s U I → Fr_ (ML_ m) σ σ' → Q (fa) σ') : CallI_ G 2 yX2_fault cX2_fault 1 (some .int) [A_ (some m)] σ Q := by
  refine call_go [some (A_ (some m))] (by decide) (Nat.le_of_ble_eq_true rfl) rfl ?_
  have hM := hS.M
  refine g_al0 dX2_fault_0 ?_
  refine g_iconst dX2_fault_1 ?_
  refine f_putI 0 fk_X2_62 rfl (nf_ rfl rfl) hM.sh hM.ge rfl dX2_fault_2 ?_
  refine g_al0 dX2_fault_5 ?_
  refine f_getv 9 fk_X2_104 rfl hM.sh (fun _ _ => rfl) (show iv_ (pi_ _ _ _ _) m 9 = fa by rw [iv_pi, if_neg (by omega)]; exact hS.2.2.1.1) dX2_fault_6 ?_
  exact g_iret rfl dX2_fault_9 ⟨_, rfl, hQ _ hS.th (Fr_.rf.pi (by unfold ML_; omega))⟩
theorem mo_where {Q : Int → JH → Prop} (hS : MS_ G m σ tp fa pl tr p un im T r s U I) (htr : 0 ≤ tr ∧ tr ≤ 6)
    (hQ : ∀ σ', MS_ G m σ' tp fa pl tr p un im T r s U I → Fr_ (ML_ m) σ σ' → Q (if tr = 4 then pl else -1) σ') : CallI_ G 2 yX2_where cX2_where 1 (some .int) [A_ (some m)] σ Q := by
  refine call_go [some (A_ (some m))] (by decide) (Nat.le_of_ble_eq_true rfl) rfl ?_
  have hM := hS.M
  refine g_al0 dX2_where_0 ?_
  refine g_iconst dX2_where_1 ?_
  refine f_putI 0 fk_X2_62 rfl (nf_ rfl rfl) hM.sh hM.ge rfl dX2_where_2 ?_
  refine g_al0 dX2_where_5 ?_
  refine f_getv 11 fk_X2_65 rfl hM.sh (fun _ _ => rfl) (show iv_ (pi_ _ _ _ _) m 11 = tr by rw [iv_pi, if_neg (by omega)]; exact hS.t11) dX2_where_6 ?_
  refine g_iconst dX2_where_9 ?_
  refine g_icmp_ne (tgt := 20) dX2_where_10 (by decide) (by omega) (fun h10 => ?_) (fun h10 => ?_)
  · refine g_iconst dX2_where_20 ?_
    exact g_iret rfl dX2_where_21 ⟨_, rfl, by have q := hQ _ (hS.th (x := 0)) (Fr_.rf.pi (by unfold ML_; omega)); rw [if_neg (by omega)] at q; exact q⟩
  refine g_al0 dX2_where_13 ?_
  refine f_getv 10 fk_X2_13 rfl hM.sh (fun _ _ => rfl) (show iv_ (pi_ _ _ _ _) m 10 = pl by rw [iv_pi, if_neg (by omega)]; exact hS.2.2.1.2.1) dX2_where_14 ?_
  refine g_goto (tgt := 21) dX2_where_17 (by decide) ?_
  exact g_iret rfl dX2_where_21 ⟨_, rfl, by have q := hQ _ (hS.th (x := 0)) (Fr_.rf.pi (by unfold ML_; omega)); rw [if_pos (by omega)] at q; exact q⟩
theorem mo_thrown {Q : Int → JH → Prop} (hS : MS_ G m σ tp fa pl tr p un im T r s U I)
    (hQ : Q (iv_ σ m 0) σ) : CallI_ G 2 yX2_thrown cX2_thrown 1 (some .int) [A_ (some m)] σ Q := by
  refine call_go [some (A_ (some m))] (by decide) (Nat.le_of_ble_eq_true rfl) rfl ?_
  have hM := hS.M
  refine g_al0 dX2_thrown_0 ?_
  refine f_getI 0 fk_X2_62 rfl hM.sh (fun _ _ => rfl) dX2_thrown_1 ?_
  exact g_iret rfl dX2_thrown_4 ⟨_, rfl, hQ⟩
theorem mo_size {x : Int} {Q : Int → JH → Prop} (hS : MS_ G m σ tp fa pl tr p un im T r s U I) (hx : -2147483648 ≤ x ∧ x < 2147483648)
    (hQ : ∀ σ', MS_ G m σ' tp fa pl tr p un im T r s U I → Fr_ (ML_ m) σ σ' → Q (qSize_ tp p r s un im x) σ') : CallI_ G 3 yX2_size cX2_size 2 (some .int) [A_ (some m), I_ x] σ Q := by
  refine call_go [some (A_ (some m)), some (I_ x)] (by decide) (Nat.le_of_ble_eq_true rfl) rfl ?_
  have hM := hS.M
  have hp01 := hS.P.b
  refine g_al0 dX2_size_0 ?_
  refine g_iconst dX2_size_1 ?_
  refine f_putI 0 fk_X2_62 rfl (nf_ rfl rfl) hM.sh hM.ge rfl dX2_size_2 ?_
  have hM := hM.pi (a := m) (k := 0) (x := 0) ⟨by omega, by omega⟩
  refine g_il1 dX2_size_5 ?_
  refine g_bipush dX2_size_6 (by decide) (by decide) ?_
  refine g_icmp_ne (tgt := 16) dX2_size_8 (by decide) (by omega) (fun h8 => ?_) (fun h8 => ?_)
  · refine g_al0 dX2_size_16 ?_
    refine f_getv 14 fk_X2_180 rfl hM.sh (fun _ _ => rfl) (show iv_ (pi_ _ _ _ _) m 14 = p by rw [iv_pi, if_neg (by omega)]; exact hS.p14) dX2_size_17 ?_
    refine g_if_ne (tgt := 39) dX2_size_20 (by decide) (by omega) (fun h20 => ?_) (fun h20 => ?_)
    · refine g_il1 dX2_size_39 ?_
      refine g_iconst dX2_size_40 ?_
      refine g_bipush dX2_size_41 (by decide) (by decide) ?_
      refine g_callS3I (d' := 2) lk_X2_149 (rm_lt (by decide) (by decide)) (Nat.le_of_ble_eq_true rfl) dX2_size_43 ?_
      refine mo_in (by omega) (by omega) (by omega) (fun x43 hx43 => ?_)
      refine g_if_eq (tgt := 56) dX2_size_46 (by decide) (by omega) (fun h46 => ?_) (fun h46 => ?_)
      · refine g_il1 dX2_size_56 ?_
        refine g_bipush dX2_size_57 (by decide) (by decide) ?_
        refine g_icmp_ne (tgt := 71) dX2_size_59 (by decide) (by omega) (fun h59 => ?_) (fun h59 => ?_)
        · refine g_il1 dX2_size_71 ?_
          refine g_bipush dX2_size_72 (by decide) (by decide) ?_
          refine g_icmp_ne (tgt := 84) dX2_size_74 (by decide) (by omega) (fun h74 => ?_) (fun h74 => ?_)
          · refine g_il1 dX2_size_84 ?_
            refine g_bipush dX2_size_85 (by decide) (by decide) ?_
            refine g_icmp_ne (tgt := 97) dX2_size_87 (by decide) (by omega) (fun h87 => ?_) (fun h87 => ?_)
            · refine g_iconst dX2_size_97 ?_
              exact g_iret rfl dX2_size_98 ⟨_, rfl, by have q := hQ _ (hS.th (x := 0)) (Fr_.rf.pi (by unfold ML_; omega)); unfold qSize_ at q; rw [if_neg (by omega), if_pos (by omega)] at q; exact q⟩
            refine g_al0 dX2_size_90 ?_
            refine f_getv 21 fk_X2_186 rfl hM.sh (fun _ _ => rfl) (show iv_ (pi_ _ _ _ _) m 21 = im by rw [iv_pi, if_neg (by omega)]; exact hS.2.2.2.2.2.1) dX2_size_91 ?_
            refine g_goto (tgt := 98) dX2_size_94 (by decide) ?_
            exact g_iret rfl dX2_size_98 ⟨_, rfl, by have q := hQ _ (hS.th (x := 0)) (Fr_.rf.pi (by unfold ML_; omega)); unfold qSize_ at q; rw [if_neg (by omega), if_neg (by omega), if_pos (by omega), if_neg (by omega), if_neg (by omega), if_neg (by omega)] at q; exact q⟩
          refine g_al0 dX2_size_77 ?_
          refine f_getv 20 fk_X2_183 rfl hM.sh (fun _ _ => rfl) (show iv_ (pi_ _ _ _ _) m 20 = un by rw [iv_pi, if_neg (by omega)]; exact hS.2.2.2.2.1.1) dX2_size_78 ?_
          refine g_goto (tgt := 98) dX2_size_81 (by decide) ?_
          exact g_iret rfl dX2_size_98 ⟨_, rfl, by have q := hQ _ (hS.th (x := 0)) (Fr_.rf.pi (by unfold ML_; omega)); unfold qSize_ at q; rw [if_neg (by omega), if_neg (by omega), if_pos (by omega), if_neg (by omega), if_neg (by omega), if_pos (by omega)] at q; exact q⟩
        refine g_al0 dX2_size_62 ?_
        refine f_getA 17 fk_X2_26 rfl hM.sh (fun _ _ => rfl) hM.f17 dX2_size_63 ?_
        refine g_iconst dX2_size_66 ?_
        refine g_ialv hM.a17 (by omega) (hM.ss _) dX2_size_67 ?_
        refine g_goto (tgt := 98) dX2_size_68 (by decide) ?_
        exact g_iret rfl dX2_size_98 ⟨_, rfl, by have q := hQ _ (hS.th (x := 0)) (Fr_.rf.pi (by unfold ML_; omega)); unfold qSize_ at q; rw [if_neg (by omega), if_neg (by omega), if_pos (by omega), if_neg (by omega), if_pos (by omega)] at q; exact q⟩
      refine g_al0 dX2_size_49 ?_
      refine f_getA 15 fk_X2_20 rfl hM.sh (fun _ _ => rfl) hM.f15 dX2_size_50 ?_
      refine g_il1 dX2_size_53 ?_
      refine g_ialv hM.a15 (by omega) (hM.rr _) dX2_size_54 ?_
      exact g_iret rfl dX2_size_55 ⟨_, rfl, by have q := hQ _ (hS.th (x := 0)) (Fr_.rf.pi (by unfold ML_; omega)); unfold qSize_ at q; rw [if_neg (by omega), if_neg (by omega), if_pos (by omega), if_pos (by omega)] at q; exact q⟩
    refine g_il1 dX2_size_23 ?_
    refine g_iconst dX2_size_24 ?_
    refine g_bipush dX2_size_25 (by decide) (by decide) ?_
    refine g_callS3I (d' := 2) lk_X2_149 (rm_lt (by decide) (by decide)) (Nat.le_of_ble_eq_true rfl) dX2_size_27 ?_
    refine mo_in (by omega) (by omega) (by omega) (fun x27 hx27 => ?_)
    refine g_if_eq (tgt := 37) dX2_size_30 (by decide) (by omega) (fun h30 => ?_) (fun h30 => ?_)
    · refine g_iconst dX2_size_37 ?_
      exact g_iret rfl dX2_size_38 ⟨_, rfl, by have q := hQ _ (hS.th (x := 0)) (Fr_.rf.pi (by unfold ML_; omega)); unfold qSize_ at q; rw [if_neg (by omega), if_pos (by omega)] at q; exact q⟩
    refine g_iconst dX2_size_33 ?_
    refine g_goto (tgt := 38) dX2_size_34 (by decide) ?_
    exact g_iret rfl dX2_size_38 ⟨_, rfl, by have q := hQ _ (hS.th (x := 0)) (Fr_.rf.pi (by unfold ML_; omega)); unfold qSize_ at q; rw [if_neg (by omega), if_neg (by omega), if_neg (by omega)] at q; exact q⟩
  refine g_al0 dX2_size_11 ?_
  refine f_getv 2 fk_X2_68 rfl hM.sh (fun _ _ => rfl) (show iv_ (pi_ _ _ _ _) m 2 = tp by rw [iv_pi, if_neg (by omega)]; exact hS.2.1.1) dX2_size_12 ?_
  exact g_iret rfl dX2_size_15 ⟨_, rfl, by have q := hQ _ (hS.th (x := 0)) (Fr_.rf.pi (by unfold ML_; omega)); unfold qSize_ at q; rw [if_pos (by omega)] at q; exact q⟩
def aFeed_ (tp : Int) (T : Int → Int) (a b c d e : Int) : Int × Int × (Int → Int) := if 1000 < tp + 20 then (-1, tp, T) else (tp + 20, tp + 20, fun k => if tp ≤ k ∧ k < tp + 20 then fb_ a b c d e (k - tp) else T k)
def mF_ (m : Nat) (b : Nat) (k : Int) : Prop := b = m + 1 ∨ (b = m ∧ (k = 0 ∨ k = 2))
theorem MS_.feed {σ' : JH} {tp' : Int} {T' : Int → Int} (h : MS_ G m σ tp fa pl tr p un im T r s U I) (f : Fr_ (mF_ m) σ σ') (h2 : iv_ σ' m 2 = tp') (h3 : 0 ≤ tp' ∧ tp' ≤ 1000) (h4 : ∀ k, 0 ≤ k → k < tp' → iv_ σ' (m + 1) k = T' k ∧ 0 ≤ T' k ∧ T' k ≤ 255) : MS_ G m σ' tp' fa pl tr p un im T' r s U I := by
  have e : ∀ b k, ¬ mF_ m b k → iv_ σ' b k = iv_ σ b k := f.2.2.2.2
  obtain ⟨h1, -, ⟨h5, h6, h7⟩, ⟨h8, h9⟩, ⟨u1, u2, u3, u4⟩, i1, i2, i3, i4⟩ := h
  exact ⟨h1.fr f (fun k => ⟨fun q => by unfold mF_ at q; omega, fun q => by unfold mF_ at q; omega⟩), ⟨h2, h3, h4⟩, ⟨(e m 9 (fun q => by unfold mF_ at q; omega)).trans h5, (e m 10 (fun q => by unfold mF_ at q; omega)).trans h6, (e m 11 (fun q => by unfold mF_ at q; omega)).trans h7⟩, ⟨(e m 14 (fun q => by unfold mF_ at q; omega)).trans h8, h9⟩, ⟨(e m 20 (fun q => by unfold mF_ at q; omega)).trans u1, u2, fun k j k0 k1 j0 j1 => (e _ _ (fun q => by unfold mF_ at q; omega)).trans (u3 k j k0 k1 j0 j1), u4⟩, (e m 21 (fun q => by unfold mF_ at q; omega)).trans i1, i2, fun k j k0 k1 j0 j1 => (e _ _ (fun q => by unfold mF_ at q; omega)).trans (i3 k j k0 k1 j0 j1), i4⟩
theorem mo_feed {a b c d e : Int} {Q : Int → JH → Prop} (hS : MS_ G m σ tp fa pl tr p un im T r s U I)
    (hQ : ∀ (x tp' : Int) (T' : Int → Int) (σ' : JH), aFeed_ tp T a b c d e = (x, tp', T') → MS_ G m σ' tp' fa pl tr p un im T' r s U I → Fr_ (ML_ m) σ σ' → Q x σ') : CallI_ G 2 yX2_feed cX2_feed 8 (some .int) [A_ (some m), I_ a, I_ b, I_ c, I_ d, I_ e] σ Q := by
  refine call_go [some (A_ (some m)), some (I_ a), some (I_ b), some (I_ c), some (I_ d), some (I_ e), none, none] (by decide) (Nat.le_of_ble_eq_true rfl) rfl ?_
  have hM := hS.M
  have htp := hS.2.1.2.1
  have L23 : ∀ (n : Nat) (σ' : JH) (k : Int) (v7 : Option AV), 20 - k < (n : Int) → (MD_ G m σ' r s) → (Fr_ (mF_ m) σ σ') → (tp + 20 ≤ 1000) → (0 ≤ k) → (k ≤ 20) → (iv_ σ' m 2 = tp + k) → (∀ j, 0 ≤ j → j < tp + k → iv_ σ' (m + 1) j = (fun j => if tp ≤ j ∧ j < tp + 20 then fb_ a b c d e (j - tp) else T j) j ∧ 0 ≤ (fun j => if tp ≤ j ∧ j < tp + 20 then fb_ a b c d e (j - tp) else T j) j ∧ (fun j => if tp ≤ j ∧ j < tp + 20 then fb_ a b c d e (j - tp) else T j) j ≤ 255) → GoM_ G 2 yX2_feed cX2_feed 8 (some .int) σ (fun v σ' => ∃ x : Int, v = some (I_ x) ∧ Q x σ') 23 [some (A_ (some m)), some (I_ a), some (I_ b), some (I_ c), some (I_ d), some (I_ e), some (I_ k), v7] [] σ' := by
    intro n
    induction n with
    | zero => intro σ' k v7 hn hM hF h20 h0 h1 hu hA; exact absurd hn (by omega)
    | succ n ih =>
      intro σ' k v7 hn hM hF h20 h0 h1 hu hA
      refine g_il6 dX2_feed_23 ?_
      refine g_bipush dX2_feed_25 (by decide) (by decide) ?_
      refine g_icmp_ge (tgt := 120) dX2_feed_27 (by decide) (by omega) (fun h27 => ?_) (fun h27 => ?_)
      · refine g_al0 dX2_feed_120 ?_
        refine f_getv 2 fk_X2_68 rfl hM.sh (fun _ _ => rfl) hu dX2_feed_121 ?_
        exact g_iret rfl dX2_feed_124 ⟨_, rfl, hQ _ _ _ _ (by unfold aFeed_; rw [if_neg (by omega), show k = 20 by omega]) (hS.feed hF (by rw [hu, show k = 20 by omega]) (by omega) (fun j j0 j1 => hA j j0 (by omega))) (hF.mono fun _ _ q => by unfold mF_ at q; unfold ML_; omega)⟩
      have J76 : ∀ w : Int, w = (if k < 4 then a else if k < 8 then b else if k < 12 then c else if k < 16 then d else e) → GoM_ G 2 yX2_feed cX2_feed 8 (some .int) σ (fun v σ' => ∃ x : Int, v = some (I_ x) ∧ Q x σ') 76 [some (A_ (some m)), some (I_ a), some (I_ b), some (I_ c), some (I_ d), some (I_ e), some (I_ k), v7] [I_ w] σ' := by
        intro w hw
        refine g_is7 dX2_feed_76 (by decide) rfl ?_
        refine g_al0 dX2_feed_78 ?_
        refine f_getA 1 fk_X2_7 rfl hM.sh (fun _ _ => rfl) hM.f1 dX2_feed_79 ?_
        refine g_al0 dX2_feed_82 ?_
        refine f_getv 2 fk_X2_68 rfl hM.sh (fun _ _ => rfl) hu dX2_feed_83 ?_
        refine g_il7 dX2_feed_86 ?_
        refine g_bipush dX2_feed_88 (by decide) (by decide) ?_
        refine g_bipush dX2_feed_90 (by decide) (by decide) ?_
        refine g_il6 dX2_feed_92 ?_
        refine g_iconst dX2_feed_94 ?_
        refine g_irem dX2_feed_95 (by omega) ?_
        refine g_imul dX2_feed_96 ?_
        refine g_isub dX2_feed_97 ?_
        refine g_ishr dX2_feed_98 ?_
        refine g_sipush dX2_feed_99 (by decide) (by decide) ?_
        refine g_iand dX2_feed_102 ?_
        have hby := and255 (ishr_ w (24 - 8 * (k % 4)))
        refine g_iast hM.a1 hM.g1 (by omega) dX2_feed_103 ?_
        have hM := hM.pi (a := m + 1) (k := tp + k) (x := iand_ (ishr_ w (24 - 8 * (k % 4))) 255) ⟨by omega, by omega⟩
        refine g_al0 dX2_feed_104 ?_
        refine g_dup dX2_feed_105 rfl ?_
        refine f_getv 2 fk_X2_68 rfl hM.sh (fun _ _ => rfl) (show iv_ (pi_ _ _ _ _) m 2 = tp + k by rw [iv_pi, if_neg (by omega)]; exact hu) dX2_feed_106 ?_
        refine g_iconst dX2_feed_109 ?_
        refine g_iadd dX2_feed_110 ?_
        refine f_putI 2 fk_X2_68 rfl (nf_ rfl rfl) hM.sh hM.ge rfl dX2_feed_111 ?_
        refine g_inc6 dX2_feed_114 (by decide) rfl ?_
        refine g_goto (tgt := 23) dX2_feed_117 (by decide) ?_
        refine ih _ _ _ (by omega) (hM.pi ⟨by omega, by omega⟩) ((hF.pi (Or.inl rfl)).pi (Or.inr ⟨rfl, Or.inr rfl⟩)) h20 (by omega) (by omega) (by rw [iv_pi, if_pos ⟨rfl, rfl⟩]; omega) (fun j j0 j1 => ?_)
        rw [iv_pi, if_neg (by omega), iv_pi]
        by_cases hj : j = tp + k
        · rw [if_pos ⟨rfl, hj⟩, hj]
          (try dsimp only)
          rw [if_pos (by omega), show tp + k - tp = k by omega]
          unfold fb_
          rw [← hw]
          exact ⟨rfl, hby⟩
        · rw [if_neg (fun q => hj q.2)]; exact hA j j0 (by omega)
      refine g_il6 dX2_feed_30 ?_
      refine g_iconst dX2_feed_32 ?_
      refine g_icmp_ge (tgt := 40) dX2_feed_33 (by decide) (by omega) (fun h33 => ?_) (fun h33 => ?_)
      · refine g_il6 dX2_feed_40 ?_
        refine g_bipush dX2_feed_42 (by decide) (by decide) ?_
        refine g_icmp_ge (tgt := 51) dX2_feed_44 (by decide) (by omega) (fun h44 => ?_) (fun h44 => ?_)
        · refine g_il6 dX2_feed_51 ?_
          refine g_bipush dX2_feed_53 (by decide) (by decide) ?_
          refine g_icmp_ge (tgt := 62) dX2_feed_55 (by decide) (by omega) (fun h55 => ?_) (fun h55 => ?_)
          · refine g_il6 dX2_feed_62 ?_
            refine g_bipush dX2_feed_64 (by decide) (by decide) ?_
            refine g_icmp_ge (tgt := 74) dX2_feed_66 (by decide) (by omega) (fun h66 => ?_) (fun h66 => ?_)
            · refine g_il5 dX2_feed_74 ?_
              exact J76 _ (by rw [if_neg (by omega), if_neg (by omega), if_neg (by omega), if_neg (by omega)])
            refine g_il4 dX2_feed_69 ?_
            refine g_goto (tgt := 76) dX2_feed_71 (by decide) ?_
            exact J76 _ (by rw [if_neg (by omega), if_neg (by omega), if_neg (by omega), if_pos (by omega)])
          refine g_il3 dX2_feed_58 ?_
          refine g_goto (tgt := 76) dX2_feed_59 (by decide) ?_
          exact J76 _ (by rw [if_neg (by omega), if_neg (by omega), if_pos (by omega)])
        refine g_il2 dX2_feed_47 ?_
        refine g_goto (tgt := 76) dX2_feed_48 (by decide) ?_
        exact J76 _ (by rw [if_neg (by omega), if_pos (by omega)])
      refine g_il1 dX2_feed_36 ?_
      refine g_goto (tgt := 76) dX2_feed_37 (by decide) ?_
      exact J76 _ (by rw [if_pos (by omega)])
  refine g_al0 dX2_feed_0 ?_
  refine g_iconst dX2_feed_1 ?_
  refine f_putI 0 fk_X2_62 rfl (nf_ rfl rfl) hM.sh hM.ge rfl dX2_feed_2 ?_
  refine g_al0 dX2_feed_5 ?_
  refine f_getv 2 fk_X2_68 rfl hM.sh (fun _ _ => rfl) (show iv_ (pi_ _ _ _ _) m 2 = tp by rw [iv_pi, if_neg (by omega)]; exact hS.2.1.1) dX2_feed_6 ?_
  refine g_bipush dX2_feed_9 (by decide) (by decide) ?_
  refine g_iadd dX2_feed_11 ?_
  refine g_sipush dX2_feed_12 (by decide) (by decide) ?_
  refine g_icmp_le (tgt := 20) dX2_feed_15 (by decide) (by omega) (fun h15 => ?_) (fun h15 => ?_)
  · refine g_iconst dX2_feed_20 ?_
    refine g_is6 dX2_feed_21 (by decide) rfl ?_
    refine L23 21 _ _ _ (by omega) (hM.pi ⟨by omega, by omega⟩) (Fr_.rf.pi (Or.inr ⟨rfl, Or.inl rfl⟩)) (by omega) (by omega) (by omega) (by rw [iv_pi, if_neg (by omega), hS.2.1.1]; omega) (fun j j0 j1 => ?_)
    rw [iv_pi, if_neg (by omega)]
    (try dsimp only)
    rw [if_neg (by omega)]
    exact hS.2.1.2.2 j j0 (by omega)
  refine g_iconst dX2_feed_18 ?_
  exact g_iret rfl dX2_feed_19 ⟨_, rfl, hQ _ _ _ _ (by unfold aFeed_; rw [if_pos (by omega)]) hS.th (Fr_.rf.pi (by unfold ML_; omega))⟩
end
