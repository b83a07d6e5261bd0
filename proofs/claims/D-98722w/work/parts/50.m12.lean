/-! THE REFERENCE: its whole state; acts. Written by mod/m50.py -/
set_option maxRecDepth 100000
/-- all of the reference -/
def ML_ (m : Nat) (b : Nat) (_k : Int) : Prop := m ≤ b ∧ b ≤ m + 16
/-- what acts write -/
def mA_ (m : Nat) (b : Nat) (k : Int) : Prop := ms_ m b k ∨ (b = m ∧ (k = 0 ∨ k = 11 ∨ k = 20 ∨ k = 21)) ∨ (m + 5 ≤ b ∧ b ≤ m + 7)
/-- the reference's state: bytes taped; the fault, its place, the trouble; the post as told, as it is now; what is put by; images -/
def MS_ (G : JG) (m : Nat) (σ : JH) (tp fa pl tr p un im : Int) (T r s : Int → Int) (U I : Int → Int → Int) : Prop :=
  MD_ G m σ r s ∧ (iv_ σ m 2 = tp ∧ (0 ≤ tp ∧ tp ≤ 1000) ∧ ∀ k, 0 ≤ k → k < tp → iv_ σ (m + 1) k = T k ∧ 0 ≤ T k ∧ T k ≤ 255) ∧ (iv_ σ m 9 = fa ∧ iv_ σ m 10 = pl ∧ iv_ σ m 11 = tr) ∧ (iv_ σ m 14 = p ∧ MP_ p r s) ∧
  (iv_ σ m 20 = un ∧ (0 ≤ un ∧ un ≤ 12) ∧ (∀ k j, 0 ≤ k → k < un → 0 ≤ j → j < 76 → iv_ σ (m + 6) (76 * k + j) = U k j) ∧ ∀ k, 0 ≤ k → k < un → DW_ r (U k)) ∧
  (iv_ σ m 21 = im ∧ (0 ≤ im ∧ im ≤ 3) ∧ (∀ k j, 0 ≤ k → k < im → 0 ≤ j → j < 76 → iv_ σ (m + 7) (76 * k + j) = I k j) ∧ ∀ k, 0 ≤ k → k < im → DW_ r (I k))
section
variable {G : JG} {m : Nat} {σ : JH} {tp fa pl tr p un im : Int} {T r s : Int → Int} {U I : Int → Int → Int}
theorem MS_.M (h : MS_ G m σ tp fa pl tr p un im T r s U I) : MD_ G m σ r s := h.1
theorem MS_.p14 (h : MS_ G m σ tp fa pl tr p un im T r s U I) : iv_ σ m 14 = p := h.2.2.2.1.1
theorem MS_.P (h : MS_ G m σ tp fa pl tr p un im T r s U I) : MP_ p r s := h.2.2.2.1.2
theorem MS_.t11 (h : MS_ G m σ tp fa pl tr p un im T r s U I) : iv_ σ m 11 = tr := h.2.2.1.2.2
/-- an act's end -/
theorem MS_.act {σ' : JH} {t un' im' : Int} {s' : Int → Int} {U' I' : Int → Int → Int} (h : MS_ G m σ tp fa pl tr p un im T r s U I) (f : Fr_ (mA_ m) σ σ') (hM : MD_ G m σ' r s') (ht : iv_ σ' m 11 = t) (hP : MP_ p r s')
    (h20 : iv_ σ' m 20 = un') (hu : 0 ≤ un' ∧ un' ≤ 12) (hU : ∀ k j, 0 ≤ k → k < un' → 0 ≤ j → j < 76 → iv_ σ' (m + 6) (76 * k + j) = U' k j) (hUD : ∀ k, 0 ≤ k → k < un' → DW_ r (U' k))
    (h21 : iv_ σ' m 21 = im') (hi : 0 ≤ im' ∧ im' ≤ 3) (hI : ∀ k j, 0 ≤ k → k < im' → 0 ≤ j → j < 76 → iv_ σ' (m + 7) (76 * k + j) = I' k j) (hID : ∀ k, 0 ≤ k → k < im' → DW_ r (I' k)) : MS_ G m σ' tp fa pl t p un' im' T r s' U' I' := by
  have e : ∀ b k, ¬ mA_ m b k → iv_ σ' b k = iv_ σ b k := f.2.2.2.2
  obtain ⟨h1, ⟨h2, h3, h4⟩, ⟨h5, h6, h7⟩, ⟨h8, h9⟩, -, -⟩ := h
  refine ⟨hM, ⟨(e m 2 (fun q => by unfold mA_ ms_ at q; omega)).trans h2, h3, fun k k0 k1 => ⟨(e (m + 1) k (fun q => by unfold mA_ ms_ at q; omega)).trans (h4 k k0 k1).1, (h4 k k0 k1).2⟩⟩, ⟨(e m 9 (fun q => by unfold mA_ ms_ at q; omega)).trans h5, (e m 10 (fun q => by unfold mA_ ms_ at q; omega)).trans h6, ht⟩, ⟨(e m 14 (fun q => by unfold mA_ ms_ at q; omega)).trans h8, hP⟩, ⟨h20, hu, hU, hUD⟩, h21, hi, hI, hID⟩
theorem Fr_.ml {σ σ' : JH} (h : Fr_ (mA_ m) σ σ') : Fr_ (ML_ m) σ σ' := h.mono fun _ _ q => by unfold mA_ ms_ at q; unfold ML_; omega
theorem ME_.mA {σ σ' : JH} {t : Int} (h : ME_ m σ σ' t) : Fr_ (mA_ m) σ σ' := h.1.mono fun _ _ q => by unfold me_ ms_ at q; unfold mA_ ms_; omega
/-- a question's end -/
theorem MS_.q {σ' : JH} {t : Int} (h : MS_ G m σ tp fa pl tr p un im T r s U I) (hM : MD_ G m σ' r s) (hE : ME_ m σ σ' t) : MS_ G m σ' tp fa pl t p un im T r s U I := by
  have e : ∀ b k, ¬ me_ m b k → iv_ σ' b k = iv_ σ b k := hE.1.2.2.2.2
  have hh := h
  obtain ⟨h1, ⟨h2, h3, h4⟩, ⟨h5, h6, h7⟩, ⟨h8, h9⟩, ⟨u1, u2, u3, u4⟩, i1, i2, i3, i4⟩ := h
  exact hh.act hE.mA hM hE.2.2 h9 ((e m 20 (fun q => by unfold me_ ms_ at q; omega)).trans u1) u2 (fun k j k0 k1 j0 j1 => (e _ _ (fun q => by unfold me_ ms_ at q; omega)).trans (u3 k j k0 k1 j0 j1)) u4 ((e m 21 (fun q => by unfold me_ ms_ at q; omega)).trans i1) i2 (fun k j k0 k1 j0 j1 => (e _ _ (fun q => by unfold me_ ms_ at q; omega)).trans (i3 k j k0 k1 j0 j1)) i4
/-- nothing but 'thrown' -/
theorem MS_.th {x : Int} (h : MS_ G m σ tp fa pl tr p un im T r s U I) : MS_ G m (pi_ σ m 0 x) tp fa pl tr p un im T r s U I := by
  have e : ∀ b k, ¬ (b = m ∧ k = 0) → iv_ (pi_ σ m 0 x) b k = iv_ σ b k := fun b k q => by rw [iv_pi, if_neg q]
  have hh := h
  obtain ⟨h1, ⟨h2, h3, h4⟩, ⟨h5, h6, h7⟩, ⟨h8, h9⟩, ⟨u1, u2, u3, u4⟩, i1, i2, i3, i4⟩ := h
  exact hh.act (Fr_.rf.pi (Or.inr (Or.inl ⟨rfl, Or.inl rfl⟩))) (h1.pi ⟨by omega, by omega⟩) ((e m 11 (fun q => by omega)).trans h7) h9 ((e m 20 (fun q => by omega)).trans u1) u2 (fun k j k0 k1 j0 j1 => (e _ _ (fun q => by omega)).trans (u3 k j k0 k1 j0 j1)) u4 ((e m 21 (fun q => by omega)).trans i1) i2 (fun k j k0 k1 j0 j1 => (e _ _ (fun q => by omega)).trans (i3 k j k0 k1 j0 j1)) i4
theorem MD_.ps {k x : Int} (h : MD_ G m σ r s) : MD_ G m (pi_ σ (m + 5) k x) r (pt_ s k x) := ⟨h.1, fun j => by rw [iv_pi, if_neg (by omega)]; exact h.2.1 j, fun j => by
  rw [iv_pi]
  unfold pt_
  by_cases q : j = k
  · rw [if_pos ⟨rfl, q⟩, if_pos q]
  · rw [if_neg (fun z => q z.2), if_neg q]; exact h.2.2 j⟩
theorem puN_in {un : Int} (h : 0 ≤ un ∧ un ≤ 12) : 0 ≤ puN_ un ∧ puN_ un ≤ 12 := by unfold puN_; split <;> omega
theorem pu_D (h : 0 ≤ un ∧ un ≤ 12) (hU : ∀ k, 0 ≤ k → k < un → DW_ r (U k)) (hs : DW_ r s) : ∀ k, 0 ≤ k → k < puN_ un → DW_ r (puU_ un U s k) := by
  intro k k0 k1
  unfold puN_ at k1
  unfold puU_
  by_cases hu : un = 12
  · rw [if_pos hu] at k1 ⊢
    by_cases hk : k = 11
    · rw [if_pos hk]; exact hs
    · rw [if_neg hk]; exact hU (k + 1) (by omega) (by omega)
  · rw [if_neg hu] at k1 ⊢
    by_cases hk : k = un
    · rw [if_pos hk]; exact hs
    · rw [if_neg hk]; exact hU k k0 (by omega)
/-- what note1 writes -/
def mn_ (m : Nat) (b : Nat) (k : Int) : Prop := b = m + 6 ∨ (b = m ∧ k = 20)
theorem Fr_.mn {σ σ' : JH} (h : Fr_ (mn_ m) σ σ') : Fr_ (mA_ m) σ σ' := h.mono fun _ _ q => by unfold mn_ at q; unfold mA_ ms_; omega
theorem mo_note1 {Q : JH → Prop} (hM : MD_ G m σ r s) (hu : iv_ σ m 20 = un) (hu2 : 0 ≤ un ∧ un ≤ 12) (hU : ∀ k j, 0 ≤ k → k < un → 0 ≤ j → j < 76 → iv_ σ (m + 6) (76 * k + j) = U k j)
    (hQ : ∀ σ', MD_ G m σ' r s → Fr_ (mn_ m) σ σ' → iv_ σ' m 20 = puN_ un → (∀ k j, 0 ≤ k → k < puN_ un → 0 ≤ j → j < 76 → iv_ σ' (m + 6) (76 * k + j) = puU_ un U s k j) → Q σ') : CallV_ G 3 yX2_note1 cX2_note1 2 none [A_ (some m)] σ Q := by
  refine call_go [some (A_ (some m)), none] (by decide) (Nat.le_of_ble_eq_true rfl) rfl ?_
  have J49 : ∀ (σ' : JH) (u1 : Int) (V : Int → Int → Int) (v1 : Option AV), MD_ G m σ' r s → Fr_ (mn_ m) σ σ' → iv_ σ' m 20 = u1 → (0 ≤ u1 ∧ u1 < 12) → (∀ k j, 0 ≤ k → k < u1 → 0 ≤ j → j < 76 → iv_ σ' (m + 6) (76 * k + j) = V k j) → u1 + 1 = puN_ un → (∀ k, 0 ≤ k → k ≤ u1 → puU_ un U s k = if k = u1 then s else V k) → GoM_ G 3 yX2_note1 cX2_note1 2 none σ (fun v σ' => v = none ∧ Q σ') 49 [some (A_ (some m)), v1] [] σ' := by
    intro σ' u1 V v1 hM hF hu hu2 hV hN hP
    refine g_al0 dX2_note1_49 ?_
    refine f_getA 17 fk_X2_26 rfl hM.sh (fun _ _ => rfl) hM.f17 dX2_note1_50 ?_
    refine g_iconst dX2_note1_53 ?_
    refine g_al0 dX2_note1_54 ?_
    refine f_getA 18 fk_X2_29 rfl hM.sh (fun _ _ => rfl) hM.f18 dX2_note1_55 ?_
    refine g_bipush dX2_note1_58 (by decide) (by decide) ?_
    refine g_al0 dX2_note1_60 ?_
    refine f_getv 20 fk_X2_183 rfl hM.sh (fun _ _ => rfl) hu dX2_note1_61 ?_
    refine g_imul dX2_note1_64 ?_
    refine g_bipush dX2_note1_65 (by decide) (by decide) ?_
    refine g_callS5V (d' := 2) lk_X2_176 (rm_lt (by decide) (by decide)) (Nat.le_of_ble_eq_true rfl) dX2_note1_67 ?_
    refine mo_copy hM.a17 hM.a18 hM.g18 (by omega) (by omega) (by omega) (by omega) (by omega) (fun σ3 hF3 hc3 => ?_)
    have hM3 : MD_ G m σ3 r s := hM.fr hF3 (fun k => ⟨fun q => by omega, fun q => by omega⟩)
    have hF4 : Fr_ (mn_ m) σ σ3 := hF.tr (hF3.mono fun b k q => Or.inl q.1)
    have hu3 : iv_ σ3 m 20 = u1 := (hF3.2.2.2.2 m 20 (fun q => by omega)).trans hu
    refine g_al0 dX2_note1_70 ?_
    refine g_dup dX2_note1_71 rfl ?_
    refine f_getv 20 fk_X2_183 rfl hM3.sh (fun _ _ => rfl) hu3 dX2_note1_72 ?_
    refine g_iconst dX2_note1_75 ?_
    refine g_iadd dX2_note1_76 ?_
    refine f_putI 20 fk_X2_183 rfl (nf_ rfl rfl) hM3.sh hM3.ge rfl dX2_note1_77 ?_
    exact g_vret rfl dX2_note1_80 ⟨rfl, hQ _ (hM3.pi ⟨by omega, by omega⟩) (hF4.pi (Or.inr ⟨rfl, rfl⟩)) (by rw [iv_pi, if_pos ⟨rfl, rfl⟩]; exact hN) (fun k j k0 k1 j0 j1 => by
  rw [iv_pi, if_neg (by omega), hP k k0 (by omega)]
  by_cases hk : k = u1
  · rw [if_pos hk, hk]
    have q := hc3 j j0 j1
    rw [show (0 : Int) + j = j by omega] at q
    rw [q]; exact hM.ss j
  · rw [if_neg hk, hF3.2.2.2.2 _ _ (fun q => by omega)]
    exact hV k j k0 (by omega) j0 j1)⟩
  have L11 : ∀ (n : Nat) (σ' : JH) (k : Int), 836 - k < (n : Int) → (MD_ G m σ' r s) → (Fr_ (mn_ m) σ σ') → (un = 12) → (0 ≤ k) → (k ≤ 836) → (iv_ σ' m 20 = un) → (∀ j, 0 ≤ j → j < 912 → iv_ σ' (m + 6) j = if j < k then iv_ σ (m + 6) (j + 76) else iv_ σ (m + 6) j) → GoM_ G 3 yX2_note1 cX2_note1 2 none σ (fun v σ' => v = none ∧ Q σ') 11 [some (A_ (some m)), some (I_ k)] [] σ' := by
    intro n
    induction n with
    | zero => intro σ' k hn hM hF h12 h0 h1 hu hA; exact absurd hn (by omega)
    | succ n ih =>
      intro σ' k hn hM hF h12 h0 h1 hu hA
      refine g_il1 dX2_note1_11 ?_
      refine g_sipush dX2_note1_12 (by decide) (by decide) ?_
      refine g_icmp_ge (tgt := 39) dX2_note1_15 (by decide) (by omega) (fun h15 => ?_) (fun h15 => ?_)
      · refine g_al0 dX2_note1_39 ?_
        refine g_dup dX2_note1_40 rfl ?_
        refine f_getv 20 fk_X2_183 rfl hM.sh (fun _ _ => rfl) hu dX2_note1_41 ?_
        refine g_iconst dX2_note1_44 ?_
        refine g_isub dX2_note1_45 ?_
        refine f_putI 20 fk_X2_183 rfl (nf_ rfl rfl) hM.sh hM.ge rfl dX2_note1_46 ?_
        refine J49 _ 11 (fun k => U (k + 1)) _ (hM.pi ⟨by omega, by omega⟩) (hF.pi (Or.inr ⟨rfl, rfl⟩)) (by rw [iv_pi, if_pos ⟨rfl, rfl⟩]; omega) (by omega) (fun c j c0 c1 j0 j1 => ?_) (by unfold puN_; rw [if_pos (by omega)]; rfl) (fun c c0 c1 => by unfold puU_; rw [if_pos (by omega)])
        rw [iv_pi, if_neg (by omega), hA _ (by omega) (by omega), if_pos (by omega), show 76 * c + j + 76 = 76 * (c + 1) + j by omega]
        exact hU (c + 1) j (by omega) (by omega) j0 j1
      refine g_al0 dX2_note1_18 ?_
      refine f_getA 18 fk_X2_29 rfl hM.sh (fun _ _ => rfl) hM.f18 dX2_note1_19 ?_
      refine g_il1 dX2_note1_22 ?_
      refine g_al0 dX2_note1_23 ?_
      refine f_getA 18 fk_X2_29 rfl hM.sh (fun _ _ => rfl) hM.f18 dX2_note1_24 ?_
      refine g_il1 dX2_note1_27 ?_
      refine g_bipush dX2_note1_28 (by decide) (by decide) ?_
      refine g_iadd dX2_note1_30 ?_
      refine g_ialv hM.a18 (by omega) (show iv_ σ' (m + 6) (k + 76) = iv_ σ (m + 6) (k + 76) by rw [hA _ (by omega) (by omega), if_neg (by omega)]) dX2_note1_31 ?_
      refine g_iast hM.a18 hM.g18 (by omega) dX2_note1_32 ?_
      refine g_inc1 dX2_note1_33 (by decide) rfl ?_
      refine g_goto (tgt := 11) dX2_note1_36 (by decide) ?_
      refine ih _ _ (by omega) (hM.pi ⟨by omega, by omega⟩) (hF.pi (Or.inl rfl)) h12 (by omega) (by omega) (by rw [iv_pi, if_neg (by omega)]; exact hu) (fun j j0 j1 => ?_)
      rw [iv_pi]
      by_cases hj : j = k
      · rw [if_pos ⟨rfl, hj⟩, if_pos (by omega), hj]
      · rw [if_neg (fun q => hj q.2), hA j j0 j1]
        by_cases hk : j < k
        · rw [if_pos hk, if_pos (by omega)]
        · rw [if_neg hk, if_neg (by omega)]
  refine g_al0 dX2_note1_0 ?_
  refine f_getv 20 fk_X2_183 rfl hM.sh (fun _ _ => rfl) hu dX2_note1_1 ?_
  refine g_bipush dX2_note1_4 (by decide) (by decide) ?_
  refine g_icmp_ne (tgt := 49) dX2_note1_6 (by decide) (by omega) (fun h6 => ?_) (fun h6 => ?_)
  · exact J49 _ un U _ hM Fr_.rf hu (by omega) hU (by unfold puN_; rw [if_neg (by omega)]) (fun c c0 c1 => by unfold puU_; rw [if_neg (by omega)])
  refine g_iconst dX2_note1_9 ?_
  refine g_is1 dX2_note1_10 (by decide) rfl ?_
  exact L11 837 _ _ (by omega) hM Fr_.rf (by omega) (by omega) (by omega) hu (fun j j0 j1 => by rw [if_neg (by omega)])
theorem mo_send {w b : Int} {Q : Int → JH → Prop} (hS : MS_ G m σ tp fa pl tr p un im T r s U I) (hw : -2147483648 ≤ w ∧ w < 2147483648) (hb : -2147483648 ≤ b ∧ b < 2147483648)
    (hQ : ∀ (x t : Int) (un' : Int) (U' : Int → Int → Int) (s' : Int → Int) (σ' : JH), aSend_ p r s un U w b = (x, t, un', U', s') → MS_ G m σ' tp fa pl t p un' im T r s' U' I → Fr_ (ML_ m) σ σ' → Q x σ') : CallI_ G 10 yX2_send cX2_send 5 (some .int) [A_ (some m), I_ w, I_ b] σ Q := by
  refine call_go [some (A_ (some m)), some (I_ w), some (I_ b), none, none] (by decide) (Nat.le_of_ble_eq_true rfl) rfl ?_
  have hM := hS.M
  have hp := hS.p14
  have hP := hS.P
  have hp01 := hP.b
  refine g_al0 dX2_send_0 ?_
  refine g_callV0V (d' := 2) lk_X2_167 hM.sh rfl (rm_lt (by decide) (by decide)) (Nat.le_of_ble_eq_true rfl) dX2_send_1 ?_
  refine mo_good hM (fun σ1 hM hE => ?_)
  have hp := hE.p14.trans hp
  have hS1 := hS.q hM hE
  refine g_al0 dX2_send_4 ?_
  refine g_il1 dX2_send_5 ?_
  refine g_callV1I (d' := 3) lk_X2_268 hM.sh rfl (rm_lt (by decide) (by decide)) (Nat.le_of_ble_eq_true rfl) dX2_send_6 ?_
  refine mo_isWhale hM hp hP.rw (by omega) (fun x6 hx6 => ?_)
  unfold isW_ at hx6
  refine g_if_eq (tgt := 20) dX2_send_9 (by decide) (by omega) (fun h9 => ?_) (fun h9 => ?_)
  · refine g_al0 dX2_send_20 ?_
    refine g_iconst dX2_send_21 ?_
    refine g_callV1I (d' := 2) lk_X2_170 hM.sh rfl (rm_lt (by decide) (by decide)) (Nat.le_of_ble_eq_true rfl) dX2_send_22 ?_
    refine mo_no hM hE (fun σ2 hM hE => ?_)
    exact g_iret rfl dX2_send_25 ⟨_, rfl, hQ _ _ _ _ _ _ (by unfold aSend_; rw [if_neg (by omega)]) (hS.q hM hE) hE.mA.ml⟩
  refine g_al0 dX2_send_12 ?_
  refine g_il2 dX2_send_13 ?_
  refine g_callV1I (d' := 3) lk_X2_274 hM.sh rfl (rm_lt (by decide) (by decide)) (Nat.le_of_ble_eq_true rfl) dX2_send_14 ?_
  refine mo_isBox hM hp hP.rw (by omega) (fun x14 hx14 => ?_)
  unfold isB_ at hx14
  refine g_if_ne (tgt := 26) dX2_send_17 (by decide) (by omega) (fun h17 => ?_) (fun h17 => ?_)
  · refine g_al0 dX2_send_26 ?_
    refine g_il1 dX2_send_27 ?_
    refine g_il2 dX2_send_28 ?_
    refine g_callV2I (d' := 9) lk_X2_367 hM.sh rfl (rm_lt (by decide) (by decide)) (Nat.le_of_ble_eq_true rfl) dX2_send_29 ?_
    obtain ⟨hW, hD⟩ := hP.get (by omega)
    have hn := hW.n
    have f1 : 0 ≤ w ∧ w < r 6 := by omega
    have f2 : 0 ≤ b ∧ b < r 7 := by omega
    have f3 : p = 1 := by omega
    clear hx6 hx14
    have hbb := bg_bd hW hD f1 f2
    refine mo_bringsOf hM hW hD f1 f2 (fun σ2 hM hF2 => ?_)
    have hE := hE.fr hF2.ms2
    have hS1 := hS.q hM hE
    refine g_is3 dX2_send_32 (by decide) rfl ?_
    refine g_il3 dX2_send_33 ?_
    refine g_if_ge (tgt := 43) dX2_send_34 (by decide) (by omega) (fun h34 => ?_) (fun h34 => ?_)
    · refine g_al0 dX2_send_43 ?_
      refine g_il2 dX2_send_44 ?_
      refine g_callV1I (d' := 6) lk_X2_295 hM.sh rfl (rm_lt (by decide) (by decide)) (Nat.le_of_ble_eq_true rfl) dX2_send_45 ?_
      refine mo_heardNow hM hW hD f2 ?_
      refine g_is4 dX2_send_48 (by decide) rfl ?_
      refine g_al0 dX2_send_50 ?_
      refine g_callV0V (d' := 3) lk_X2_424 hM.sh rfl (rm_lt (by decide) (by decide)) (Nat.le_of_ble_eq_true rfl) dX2_send_51 ?_
      refine mo_note1 hM hS1.2.2.2.2.1.1 hS1.2.2.2.2.1.2.1 hS1.2.2.2.2.1.2.2.1 (fun σ3 hM hF3 h20 hUU => ?_)
      have hF := hE.mA.tr hF3.mn
      have e11 : iv_ σ3 m 11 = 0 := (hF3.2.2.2.2 m 11 (fun q => by unfold mn_ at q; omega)).trans hE.2.2
      have e21 : iv_ σ3 m 21 = im := (hF3.2.2.2.2 m 21 (fun q => by unfold mn_ at q; omega)).trans hS1.2.2.2.2.2.1
      have hII : ∀ k j, 0 ≤ k → k < im → 0 ≤ j → j < 76 → iv_ σ3 (m + 7) (76 * k + j) = I k j := fun k j k0 k1 j0 j1 => (hF3.2.2.2.2 (m + 7) _ (fun q => by unfold mn_ at q; omega)).trans (hS1.2.2.2.2.2.2.2.1 k j k0 k1 j0 j1)
      refine g_al0 dX2_send_54 ?_
      refine f_getA 17 fk_X2_26 rfl hM.sh (fun _ _ => rfl) hM.f17 dX2_send_55 ?_
      refine g_iconst dX2_send_58 ?_
      refine g_il1 dX2_send_59 ?_
      refine g_iadd dX2_send_60 ?_
      refine g_il4 dX2_send_61 ?_
      refine g_iast hM.a17 hM.g17 (by omega) dX2_send_63 ?_
      replace hM := hM.ps (k := 2 + w) (x := hn_ r s b)
      refine g_al0 dX2_send_64 ?_
      refine f_getA 17 fk_X2_26 rfl hM.sh (fun _ _ => rfl) hM.f17 dX2_send_65 ?_
      refine g_bipush dX2_send_68 (by decide) (by decide) ?_
      refine g_il1 dX2_send_70 ?_
      refine g_iadd dX2_send_71 ?_
      refine g_il3 dX2_send_72 ?_
      refine g_iast hM.a17 hM.g17 (by omega) dX2_send_73 ?_
      replace hM := hM.ps (k := 7 + w) (x := bg_ r s w b)
      refine g_al0 dX2_send_74 ?_
      refine f_getA 17 fk_X2_26 rfl hM.sh (fun _ _ => rfl) hM.f17 dX2_send_75 ?_
      refine g_bipush dX2_send_78 (by decide) (by decide) ?_
      refine g_il2 dX2_send_80 ?_
      refine g_iadd dX2_send_81 ?_
      refine g_il3 dX2_send_82 ?_
      refine g_iconst dX2_send_83 ?_
      refine g_iadd dX2_send_84 ?_
      refine g_iast hM.a17 hM.g17 (by omega) dX2_send_85 ?_
      replace hM := hM.ps (k := 12 + b) (x := bg_ r s w b + 1)
      refine g_al0 dX2_send_86 ?_
      refine f_getA 17 fk_X2_26 rfl hM.sh (fun _ _ => rfl) hM.f17 dX2_send_87 ?_
      refine g_bipush dX2_send_90 (by decide) (by decide) ?_
      refine g_il2 dX2_send_92 ?_
      refine g_iadd dX2_send_93 ?_
      refine g_il4 dX2_send_94 ?_
      refine g_iconst dX2_send_96 ?_
      refine g_iadd dX2_send_97 ?_
      refine g_iast hM.a17 hM.g17 (by omega) dX2_send_98 ?_
      replace hM := hM.ps (k := 20 + b) (x := hn_ r s b + 1)
      refine g_il3 dX2_send_99 ?_
      exact g_iret rfl dX2_send_100 ⟨_, rfl, hQ _ _ _ _ _ _ (by unfold aSend_; rw [if_pos ⟨f3, f1, f2⟩, if_neg (by omega)]; rfl) (hS.act ((((hF.pi (a := m + 5) (by unfold mA_ ms_; omega)).pi (a := m + 5) (by unfold mA_ ms_; omega)).pi (a := m + 5) (by unfold mA_ ms_; omega)).pi (a := m + 5) (by unfold mA_ ms_; omega)) hM (by rw [iv_pi, if_neg (by omega), iv_pi, if_neg (by omega), iv_pi, if_neg (by omega), iv_pi, if_neg (by omega)]; exact e11) (Or.inr ⟨by omega, hW, se_in hW hD f1 f2 (by omega)⟩) (by rw [iv_pi, if_neg (by omega), iv_pi, if_neg (by omega), iv_pi, if_neg (by omega), iv_pi, if_neg (by omega)]; exact h20) (puN_in hS.2.2.2.2.1.2.1) (fun k j k0 k1 j0 j1 => by rw [iv_pi, if_neg (by omega), iv_pi, if_neg (by omega), iv_pi, if_neg (by omega), iv_pi, if_neg (by omega)]; exact hUU k j k0 k1 j0 j1) (pu_D hS.2.2.2.2.1.2.1 hS.2.2.2.2.1.2.2.2 hD) (by rw [iv_pi, if_neg (by omega), iv_pi, if_neg (by omega), iv_pi, if_neg (by omega), iv_pi, if_neg (by omega)]; exact e21) hS.2.2.2.2.2.2.1 (fun k j k0 k1 j0 j1 => by rw [iv_pi, if_neg (by omega), iv_pi, if_neg (by omega), iv_pi, if_neg (by omega), iv_pi, if_neg (by omega)]; exact hII k j k0 k1 j0 j1) hS.2.2.2.2.2.2.2.2) (((((hF.pi (a := m + 5) (by unfold mA_ ms_; omega)).pi (a := m + 5) (by unfold mA_ ms_; omega)).pi (a := m + 5) (by unfold mA_ ms_; omega)).pi (a := m + 5) (by unfold mA_ ms_; omega)).ml)⟩
    refine g_al0 dX2_send_37 ?_
    refine g_iconst dX2_send_38 ?_
    refine g_callV1I (d' := 2) lk_X2_170 hM.sh rfl (rm_lt (by decide) (by decide)) (Nat.le_of_ble_eq_true rfl) dX2_send_39 ?_
    refine mo_no hM hE (fun σ2 hM hE => ?_)
    exact g_iret rfl dX2_send_42 ⟨_, rfl, hQ _ _ _ _ _ _ (by unfold aSend_; rw [if_pos ⟨f3, f1, f2⟩, if_pos (by omega)]) (hS.q hM hE) hE.mA.ml⟩
  refine g_al0 dX2_send_20 ?_
  refine g_iconst dX2_send_21 ?_
  refine g_callV1I (d' := 2) lk_X2_170 hM.sh rfl (rm_lt (by decide) (by decide)) (Nat.le_of_ble_eq_true rfl) dX2_send_22 ?_
  refine mo_no hM hE (fun σ2 hM hE => ?_)
  exact g_iret rfl dX2_send_25 ⟨_, rfl, hQ _ _ _ _ _ _ (by unfold aSend_; rw [if_neg (by omega)]) (hS.q hM hE) hE.mA.ml⟩
theorem mo_tune {b k v : Int} {Q : Int → JH → Prop} (hS : MS_ G m σ tp fa pl tr p un im T r s U I) (hb : -2147483648 ≤ b ∧ b < 2147483648) (hk : -2147483648 ≤ k ∧ k < 2147483648) (hv : -2147483648 ≤ v ∧ v < 2147483648)
    (hQ : ∀ (x t : Int) (un' : Int) (U' : Int → Int → Int) (s' : Int → Int) (σ' : JH), aTune_ p r s un U b k v = (x, t, un', U', s') → MS_ G m σ' tp fa pl t p un' im T r s' U' I → Fr_ (ML_ m) σ σ' → Q x σ') : CallI_ G 4 yX2_tune cX2_tune 4 (some .boolean) [A_ (some m), I_ b, I_ k, I_ v] σ Q := by
  refine call_go [some (A_ (some m)), some (I_ b), some (I_ k), some (I_ v)] (by decide) (Nat.le_of_ble_eq_true rfl) rfl ?_
  have hM := hS.M
  have hp := hS.p14
  have hP := hS.P
  have hp01 := hP.b
  refine g_al0 dX2_tune_0 ?_
  refine g_callV0V (d' := 2) lk_X2_167 hM.sh rfl (rm_lt (by decide) (by decide)) (Nat.le_of_ble_eq_true rfl) dX2_tune_1 ?_
  refine mo_good hM (fun σ1 hM hE => ?_)
  have hp := hE.p14.trans hp
  have hS1 := hS.q hM hE
  refine g_al0 dX2_tune_4 ?_
  refine g_il1 dX2_tune_5 ?_
  refine g_callV1I (d' := 3) lk_X2_274 hM.sh rfl (rm_lt (by decide) (by decide)) (Nat.le_of_ble_eq_true rfl) dX2_tune_6 ?_
  refine mo_isBox hM hp hP.rw (by omega) (fun x6 hx6 => ?_)
  unfold isB_ at hx6
  refine g_if_eq (tgt := 27) dX2_tune_9 (by decide) (by omega) (fun h9 => ?_) (fun h9 => ?_)
  · refine g_al0 dX2_tune_27 ?_
    refine g_iconst dX2_tune_28 ?_
    refine g_callV1I (d' := 2) lk_X2_427 hM.sh rfl (rm_lt (by decide) (by decide)) (Nat.le_of_ble_eq_true rfl) dX2_tune_29 ?_
    refine mo_isNot hM hE (fun σ2 hM hE => ?_)
    exact g_zret rfl (by omega) dX2_tune_32 ⟨_, rfl, hQ _ _ _ _ _ _ (by unfold aTune_; rw [if_neg (by omega)]) (hS.q hM hE) hE.mA.ml⟩
  refine g_il2 dX2_tune_12 ?_
  refine g_iconst dX2_tune_13 ?_
  refine g_al0 dX2_tune_14 ?_
  refine g_il1 dX2_tune_15 ?_
  refine g_callV1I (d' := 3) lk_X2_284 hM.sh rfl (rm_lt (by decide) (by decide)) (Nat.le_of_ble_eq_true rfl) dX2_tune_16 ?_
  obtain ⟨hW, hD⟩ := hP.get (by omega)
  have hn := hW.n
  have hbl := bl_in hW (b := b) (by omega) (by omega)
  refine mo_boxLong hM hW (by omega) ?_
  refine g_iconst dX2_tune_19 ?_
  refine g_isub dX2_tune_20 ?_
  refine g_callS3I (d' := 2) lk_X2_149 (rm_lt (by decide) (by decide)) (Nat.le_of_ble_eq_true rfl) dX2_tune_21 ?_
  refine mo_in (by omega) (by omega) (by omega) (fun x21 hx21 => ?_)
  refine g_if_ne (tgt := 33) dX2_tune_24 (by decide) (by omega) (fun h24 => ?_) (fun h24 => ?_)
  · refine g_il3 dX2_tune_33 ?_
    refine g_iconst dX2_tune_34 ?_
    refine g_al0 dX2_tune_35 ?_
    have f2 : 0 ≤ b ∧ b < r 7 := by omega
    have f1 : 0 ≤ k ∧ k < bl_ r b := by omega
    have f3 : p = 1 := by omega
    clear hx6 hx21
    refine f_getA 15 fk_X2_20 rfl hM.sh (fun _ _ => rfl) hM.f15 dX2_tune_36 ?_
    refine g_iconst dX2_tune_39 ?_
    refine g_ialv hM.a15 (by omega) (hM.rr _) dX2_tune_40 ?_
    refine g_iconst dX2_tune_41 ?_
    refine g_isub dX2_tune_42 ?_
    refine g_callS3I (d' := 2) lk_X2_149 (rm_lt (by decide) (by decide)) (Nat.le_of_ble_eq_true rfl) dX2_tune_43 ?_
    refine mo_in (by omega) (by omega) (by omega) (fun x43 hx43 => ?_)
    refine g_if_ne (tgt := 55) dX2_tune_46 (by decide) (by omega) (fun h46 => ?_) (fun h46 => ?_)
    · have hdb := hD.box (b := b) (by omega) (by omega)
      have hds := hD.sung (j := 6 * b + k) (by omega) (by omega)
      rw [show 28 + (6 * b + k) = 28 + 6 * b + k by omega] at hds
      refine g_al0 dX2_tune_55 ?_
      refine f_getA 17 fk_X2_26 rfl hM.sh (fun _ _ => rfl) hM.f17 dX2_tune_56 ?_
      refine g_bipush dX2_tune_59 (by decide) (by decide) ?_
      refine g_bipush dX2_tune_61 (by decide) (by decide) ?_
      refine g_il1 dX2_tune_63 ?_
      refine g_imul dX2_tune_64 ?_
      refine g_iadd dX2_tune_65 ?_
      refine g_il2 dX2_tune_66 ?_
      refine g_iadd dX2_tune_67 ?_
      refine g_ialv hM.a17 (by omega) (hM.ssx (j := 28 + 6 * b + k) (by omega)) dX2_tune_68 ?_
      refine g_il3 dX2_tune_69 ?_
      refine g_icmp_eq (tgt := 85) dX2_tune_70 (by decide) (by omega) (fun h70 => ?_) (fun h70 => ?_)
      · refine g_al0 dX2_tune_85 ?_
        refine g_iconst dX2_tune_86 ?_
        refine g_callV1I (d' := 2) lk_X2_427 hM.sh rfl (rm_lt (by decide) (by decide)) (Nat.le_of_ble_eq_true rfl) dX2_tune_87 ?_
        refine mo_isNot hM hE (fun σ2 hM hE => ?_)
        exact g_zret rfl (by omega) dX2_tune_90 ⟨_, rfl, hQ _ _ _ _ _ _ (by unfold aTune_; rw [if_pos ⟨f3, f2, f1⟩, if_pos (by omega), if_pos (by omega)]) (hS.q hM hE) hE.mA.ml⟩
      refine g_al0 dX2_tune_73 ?_
      refine f_getA 17 fk_X2_26 rfl hM.sh (fun _ _ => rfl) hM.f17 dX2_tune_74 ?_
      refine g_bipush dX2_tune_77 (by decide) (by decide) ?_
      refine g_il1 dX2_tune_79 ?_
      refine g_iadd dX2_tune_80 ?_
      refine g_ialv hM.a17 (by omega) (hM.ss _) dX2_tune_81 ?_
      refine g_if_le (tgt := 91) dX2_tune_82 (by decide) (by omega) (fun h82 => ?_) (fun h82 => ?_)
      · refine g_al0 dX2_tune_91 ?_
        refine g_callV0V (d' := 3) lk_X2_424 hM.sh rfl (rm_lt (by decide) (by decide)) (Nat.le_of_ble_eq_true rfl) dX2_tune_92 ?_
        refine mo_note1 hM hS1.2.2.2.2.1.1 hS1.2.2.2.2.1.2.1 hS1.2.2.2.2.1.2.2.1 (fun σ3 hM hF3 h20 hUU => ?_)
        have hF := hE.mA.tr hF3.mn
        have e11 : iv_ σ3 m 11 = 0 := (hF3.2.2.2.2 m 11 (fun q => by unfold mn_ at q; omega)).trans hE.2.2
        have e21 : iv_ σ3 m 21 = im := (hF3.2.2.2.2 m 21 (fun q => by unfold mn_ at q; omega)).trans hS1.2.2.2.2.2.1
        have hII : ∀ k j, 0 ≤ k → k < im → 0 ≤ j → j < 76 → iv_ σ3 (m + 7) (76 * k + j) = I k j := fun k j k0 k1 j0 j1 => (hF3.2.2.2.2 (m + 7) _ (fun q => by unfold mn_ at q; omega)).trans (hS1.2.2.2.2.2.2.2.1 k j k0 k1 j0 j1)
        refine g_al0 dX2_tune_95 ?_
        refine f_getA 17 fk_X2_26 rfl hM.sh (fun _ _ => rfl) hM.f17 dX2_tune_96 ?_
        refine g_bipush dX2_tune_99 (by decide) (by decide) ?_
        refine g_bipush dX2_tune_101 (by decide) (by decide) ?_
        refine g_il1 dX2_tune_103 ?_
        refine g_imul dX2_tune_104 ?_
        refine g_iadd dX2_tune_105 ?_
        refine g_il2 dX2_tune_106 ?_
        refine g_iadd dX2_tune_107 ?_
        refine g_il3 dX2_tune_108 ?_
        refine g_iast hM.a17 hM.g17 (by omega) dX2_tune_109 ?_
        replace hM := hM.ps (k := 28 + 6 * b + k) (x := v)
        refine g_iconst dX2_tune_110 ?_
        exact g_zret rfl (by omega) dX2_tune_111 ⟨_, rfl, hQ _ _ _ _ _ _ (by unfold aTune_; rw [if_pos ⟨f3, f2, f1⟩, if_pos (by omega), if_neg (by omega)]) (hS.act (hF.pi (a := m + 5) (by unfold mA_ ms_; omega)) hM (by rw [iv_pi, if_neg (by omega)]; exact e11) (Or.inr ⟨by omega, hW, pt_sung hD (by omega) (by omega)⟩) (by rw [iv_pi, if_neg (by omega)]; exact h20) (puN_in hS.2.2.2.2.1.2.1) (fun k j k0 k1 j0 j1 => by rw [iv_pi, if_neg (by omega)]; exact hUU k j k0 k1 j0 j1) (pu_D hS.2.2.2.2.1.2.1 hS.2.2.2.2.1.2.2.2 hD) (by rw [iv_pi, if_neg (by omega)]; exact e21) hS.2.2.2.2.2.2.1 (fun k j k0 k1 j0 j1 => by rw [iv_pi, if_neg (by omega)]; exact hII k j k0 k1 j0 j1) hS.2.2.2.2.2.2.2.2) ((hF.pi (a := m + 5) (by unfold mA_ ms_; omega)).ml)⟩
      refine g_al0 dX2_tune_85 ?_
      refine g_iconst dX2_tune_86 ?_
      refine g_callV1I (d' := 2) lk_X2_427 hM.sh rfl (rm_lt (by decide) (by decide)) (Nat.le_of_ble_eq_true rfl) dX2_tune_87 ?_
      refine mo_isNot hM hE (fun σ2 hM hE => ?_)
      exact g_zret rfl (by omega) dX2_tune_90 ⟨_, rfl, hQ _ _ _ _ _ _ (by unfold aTune_; rw [if_pos ⟨f3, f2, f1⟩, if_pos (by omega), if_pos (by omega)]) (hS.q hM hE) hE.mA.ml⟩
    refine g_al0 dX2_tune_49 ?_
    refine g_iconst dX2_tune_50 ?_
    refine g_callV1I (d' := 2) lk_X2_427 hM.sh rfl (rm_lt (by decide) (by decide)) (Nat.le_of_ble_eq_true rfl) dX2_tune_51 ?_
    refine mo_isNot hM hE (fun σ2 hM hE => ?_)
    exact g_zret rfl (by omega) dX2_tune_54 ⟨_, rfl, hQ _ _ _ _ _ _ (by unfold aTune_; rw [if_pos ⟨f3, f2, f1⟩, if_neg (by omega)]) (hS.q hM hE) hE.mA.ml⟩
  refine g_al0 dX2_tune_27 ?_
  refine g_iconst dX2_tune_28 ?_
  refine g_callV1I (d' := 2) lk_X2_427 hM.sh rfl (rm_lt (by decide) (by decide)) (Nat.le_of_ble_eq_true rfl) dX2_tune_29 ?_
  refine mo_isNot hM hE (fun σ2 hM hE => ?_)
  exact g_zret rfl (by omega) dX2_tune_32 ⟨_, rfl, hQ _ _ _ _ _ _ (by unfold aTune_; rw [if_neg (by omega)]) (hS.q hM hE) hE.mA.ml⟩
theorem mo_years {n : Int} {Q : Int → JH → Prop} (hS : MS_ G m σ tp fa pl tr p un im T r s U I) (hn : -2147483648 ≤ n ∧ n < 2147483648)
    (hQ : ∀ (x t : Int) (un' : Int) (U' : Int → Int → Int) (s' : Int → Int) (σ' : JH), aYears_ p s un U n = (x, t, un', U', s') → MS_ G m σ' tp fa pl t p un' im T r s' U' I → Fr_ (ML_ m) σ σ' → Q x σ') : CallI_ G 4 yX2_years cX2_years 2 (some .int) [A_ (some m), I_ n] σ Q := by
  refine call_go [some (A_ (some m)), some (I_ n)] (by decide) (Nat.le_of_ble_eq_true rfl) rfl ?_
  have hM := hS.M
  have hp := hS.p14
  have hP := hS.P
  have hp01 := hP.b
  refine g_al0 dX2_years_0 ?_
  refine g_callV0V (d' := 2) lk_X2_167 hM.sh rfl (rm_lt (by decide) (by decide)) (Nat.le_of_ble_eq_true rfl) dX2_years_1 ?_
  refine mo_good hM (fun σ1 hM hE => ?_)
  have hp := hE.p14.trans hp
  have hS1 := hS.q hM hE
  refine g_al0 dX2_years_4 ?_
  refine f_getv 14 fk_X2_180 rfl hM.sh (fun _ _ => rfl) hp dX2_years_5 ?_
  refine g_if_ne (tgt := 17) dX2_years_8 (by decide) (by omega) (fun h8 => ?_) (fun h8 => ?_)
  · refine g_il1 dX2_years_17 ?_
    refine g_iconst dX2_years_18 ?_
    refine g_bipush dX2_years_19 (by decide) (by decide) ?_
    refine g_callS3I (d' := 2) lk_X2_149 (rm_lt (by decide) (by decide)) (Nat.le_of_ble_eq_true rfl) dX2_years_21 ?_
    refine mo_in (by omega) (by omega) (by omega) (fun x21 hx21 => ?_)
    refine g_if_ne (tgt := 33) dX2_years_24 (by decide) (by omega) (fun h24 => ?_) (fun h24 => ?_)
    · obtain ⟨hW, hD⟩ := hP.get (by omega)
      have hn := hW.n
      have hdn := hD.n
      refine g_al0 dX2_years_33 ?_
      refine f_getA 17 fk_X2_26 rfl hM.sh (fun _ _ => rfl) hM.f17 dX2_years_34 ?_
      refine g_iconst dX2_years_37 ?_
      refine g_ialv hM.a17 (by omega) (hM.ss _) dX2_years_38 ?_
      refine g_il1 dX2_years_39 ?_
      refine g_iadd dX2_years_40 ?_
      refine g_sipush dX2_years_41 (by decide) (by decide) ?_
      refine g_icmp_le (tgt := 53) dX2_years_44 (by decide) (by omega) (fun h44 => ?_) (fun h44 => ?_)
      · refine g_al0 dX2_years_53 ?_
        refine g_callV0V (d' := 3) lk_X2_424 hM.sh rfl (rm_lt (by decide) (by decide)) (Nat.le_of_ble_eq_true rfl) dX2_years_54 ?_
        refine mo_note1 hM hS1.2.2.2.2.1.1 hS1.2.2.2.2.1.2.1 hS1.2.2.2.2.1.2.2.1 (fun σ3 hM hF3 h20 hUU => ?_)
        have hF := hE.mA.tr hF3.mn
        have e11 : iv_ σ3 m 11 = 0 := (hF3.2.2.2.2 m 11 (fun q => by unfold mn_ at q; omega)).trans hE.2.2
        have e21 : iv_ σ3 m 21 = im := (hF3.2.2.2.2 m 21 (fun q => by unfold mn_ at q; omega)).trans hS1.2.2.2.2.2.1
        have hII : ∀ k j, 0 ≤ k → k < im → 0 ≤ j → j < 76 → iv_ σ3 (m + 7) (76 * k + j) = I k j := fun k j k0 k1 j0 j1 => (hF3.2.2.2.2 (m + 7) _ (fun q => by unfold mn_ at q; omega)).trans (hS1.2.2.2.2.2.2.2.1 k j k0 k1 j0 j1)
        refine g_al0 dX2_years_57 ?_
        refine f_getA 17 fk_X2_26 rfl hM.sh (fun _ _ => rfl) hM.f17 dX2_years_58 ?_
        refine g_iconst dX2_years_61 ?_
        refine g_dup2 dX2_years_62 rfl rfl ?_
        refine g_ialv hM.a17 (by omega) (hM.ss _) dX2_years_63 ?_
        refine g_il1 dX2_years_64 ?_
        refine g_iadd dX2_years_65 ?_
        refine g_iast hM.a17 hM.g17 (by omega) dX2_years_66 ?_
        replace hM := hM.ps (k := 0) (x := s 0 + n)
        refine g_al0 dX2_years_67 ?_
        refine f_getA 17 fk_X2_26 rfl hM.sh (fun _ _ => rfl) hM.f17 dX2_years_68 ?_
        refine g_iconst dX2_years_71 ?_
        refine g_ialv hM.a17 (by omega) (show iv_ (pi_ _ _ _ _) _ 0 = s 0 + n by rw [iv_pi, if_pos ⟨rfl, rfl⟩]) dX2_years_72 ?_
        exact g_iret rfl dX2_years_73 ⟨_, rfl, hQ _ _ _ _ _ _ (by unfold aYears_; rw [if_pos (by omega), if_pos (by omega), if_neg (by omega)]) (hS.act (hF.pi (a := m + 5) (by unfold mA_ ms_; omega)) hM (by rw [iv_pi, if_neg (by omega)]; exact e11) (Or.inr ⟨by omega, hW, pt_year hD (by omega)⟩) (by rw [iv_pi, if_neg (by omega)]; exact h20) (puN_in hS.2.2.2.2.1.2.1) (fun k j k0 k1 j0 j1 => by rw [iv_pi, if_neg (by omega)]; exact hUU k j k0 k1 j0 j1) (pu_D hS.2.2.2.2.1.2.1 hS.2.2.2.2.1.2.2.2 hD) (by rw [iv_pi, if_neg (by omega)]; exact e21) hS.2.2.2.2.2.2.1 (fun k j k0 k1 j0 j1 => by rw [iv_pi, if_neg (by omega)]; exact hII k j k0 k1 j0 j1) hS.2.2.2.2.2.2.2.2) ((hF.pi (a := m + 5) (by unfold mA_ ms_; omega)).ml)⟩
      refine g_al0 dX2_years_47 ?_
      refine g_iconst dX2_years_48 ?_
      refine g_callV1I (d' := 2) lk_X2_170 hM.sh rfl (rm_lt (by decide) (by decide)) (Nat.le_of_ble_eq_true rfl) dX2_years_49 ?_
      refine mo_no hM hE (fun σ2 hM hE => ?_)
      exact g_iret rfl dX2_years_52 ⟨_, rfl, hQ _ _ _ _ _ _ (by unfold aYears_; rw [if_pos (by omega), if_pos (by omega), if_pos (by omega)]) (hS.q hM hE) hE.mA.ml⟩
    refine g_al0 dX2_years_27 ?_
    refine g_iconst dX2_years_28 ?_
    refine g_callV1I (d' := 2) lk_X2_170 hM.sh rfl (rm_lt (by decide) (by decide)) (Nat.le_of_ble_eq_true rfl) dX2_years_29 ?_
    refine mo_no hM hE (fun σ2 hM hE => ?_)
    exact g_iret rfl dX2_years_32 ⟨_, rfl, hQ _ _ _ _ _ _ (by unfold aYears_; rw [if_pos (by omega), if_neg (by omega)]) (hS.q hM hE) hE.mA.ml⟩
  refine g_al0 dX2_years_11 ?_
  refine g_iconst dX2_years_12 ?_
  refine g_callV1I (d' := 2) lk_X2_170 hM.sh rfl (rm_lt (by decide) (by decide)) (Nat.le_of_ble_eq_true rfl) dX2_years_13 ?_
  refine mo_no hM hE (fun σ2 hM hE => ?_)
  exact g_iret rfl dX2_years_16 ⟨_, rfl, hQ _ _ _ _ _ _ (by unfold aYears_; rw [if_neg (by omega)]) (hS.q hM hE) hE.mA.ml⟩
theorem mo_close {k is : Int} {Q : Int → JH → Prop} (hS : MS_ G m σ tp fa pl tr p un im T r s U I) (hk : -2147483648 ≤ k ∧ k < 2147483648) (his : -2147483648 ≤ is ∧ is < 2147483648) (hz01 : is = 0 ∨ is = 1)
    (hQ : ∀ (x t : Int) (un' : Int) (U' : Int → Int → Int) (s' : Int → Int) (σ' : JH), aClose_ p r s un U k is = (x, t, un', U', s') → MS_ G m σ' tp fa pl t p un' im T r s' U' I → Fr_ (ML_ m) σ σ' → Q x σ') : CallI_ G 4 yX2_close cX2_close 3 (some .boolean) [A_ (some m), I_ k, I_ is] σ Q := by
  refine call_go [some (A_ (some m)), some (I_ k), some (I_ is)] (by decide) (Nat.le_of_ble_eq_true rfl) rfl ?_
  have hM := hS.M
  have hp := hS.p14
  have hP := hS.P
  have hp01 := hP.b
  refine g_al0 dX2_close_0 ?_
  refine g_callV0V (d' := 2) lk_X2_167 hM.sh rfl (rm_lt (by decide) (by decide)) (Nat.le_of_ble_eq_true rfl) dX2_close_1 ?_
  refine mo_good hM (fun σ1 hM hE => ?_)
  have hp := hE.p14.trans hp
  have hS1 := hS.q hM hE
  refine g_al0 dX2_close_4 ?_
  refine f_getv 14 fk_X2_180 rfl hM.sh (fun _ _ => rfl) hp dX2_close_5 ?_
  refine g_if_eq (tgt := 27) dX2_close_8 (by decide) (by omega) (fun h8 => ?_) (fun h8 => ?_)
  · refine g_al0 dX2_close_27 ?_
    refine g_iconst dX2_close_28 ?_
    refine g_callV1I (d' := 2) lk_X2_427 hM.sh rfl (rm_lt (by decide) (by decide)) (Nat.le_of_ble_eq_true rfl) dX2_close_29 ?_
    refine mo_isNot hM hE (fun σ2 hM hE => ?_)
    exact g_zret rfl (by omega) dX2_close_32 ⟨_, rfl, hQ _ _ _ _ _ _ (by unfold aClose_; rw [if_neg (by omega)]) (hS.q hM hE) hE.mA.ml⟩
  refine g_il1 dX2_close_11 ?_
  refine g_iconst dX2_close_12 ?_
  obtain ⟨hW, hD⟩ := hP.get (by omega)
  have hn := hW.n
  refine g_al0 dX2_close_13 ?_
  refine f_getA 15 fk_X2_20 rfl hM.sh (fun _ _ => rfl) hM.f15 dX2_close_14 ?_
  refine g_iconst dX2_close_17 ?_
  refine g_ialv hM.a15 (by omega) (hM.rr _) dX2_close_18 ?_
  refine g_iconst dX2_close_19 ?_
  refine g_isub dX2_close_20 ?_
  refine g_callS3I (d' := 2) lk_X2_149 (rm_lt (by decide) (by decide)) (Nat.le_of_ble_eq_true rfl) dX2_close_21 ?_
  refine mo_in (by omega) (by omega) (by omega) (fun x21 hx21 => ?_)
  refine g_if_ne (tgt := 33) dX2_close_24 (by decide) (by omega) (fun h24 => ?_) (fun h24 => ?_)
  · refine g_al0 dX2_close_33 ?_
    refine g_il1 dX2_close_34 ?_
    refine g_callV1I (d' := 3) lk_X2_302 hM.sh rfl (rm_lt (by decide) (by decide)) (Nat.le_of_ble_eq_true rfl) dX2_close_35 ?_
    have f1 : 0 ≤ k ∧ k < r 5 := by omega
    have f3 : p = 1 := by omega
    clear hx21
    have hdn := hD.n
    refine mo_isClosed hM (fun z hz => ?_)
    refine g_il2 dX2_close_38 ?_
    refine g_icmp_ne (tgt := 48) dX2_close_39 (by decide) (by omega) (fun h39 => ?_) (fun h39 => ?_)
    · refine g_al0 dX2_close_48 ?_
      refine g_callV0V (d' := 3) lk_X2_424 hM.sh rfl (rm_lt (by decide) (by decide)) (Nat.le_of_ble_eq_true rfl) dX2_close_49 ?_
      refine mo_note1 hM hS1.2.2.2.2.1.1 hS1.2.2.2.2.1.2.1 hS1.2.2.2.2.1.2.2.1 (fun σ3 hM hF3 h20 hUU => ?_)
      have hF := hE.mA.tr hF3.mn
      have e11 : iv_ σ3 m 11 = 0 := (hF3.2.2.2.2 m 11 (fun q => by unfold mn_ at q; omega)).trans hE.2.2
      have e21 : iv_ σ3 m 21 = im := (hF3.2.2.2.2 m 21 (fun q => by unfold mn_ at q; omega)).trans hS1.2.2.2.2.2.1
      have hII : ∀ k j, 0 ≤ k → k < im → 0 ≤ j → j < 76 → iv_ σ3 (m + 7) (76 * k + j) = I k j := fun k j k0 k1 j0 j1 => (hF3.2.2.2.2 (m + 7) _ (fun q => by unfold mn_ at q; omega)).trans (hS1.2.2.2.2.2.2.2.1 k j k0 k1 j0 j1)
      refine g_al0 dX2_close_52 ?_
      refine f_getA 17 fk_X2_26 rfl hM.sh (fun _ _ => rfl) hM.f17 dX2_close_53 ?_
      refine g_iconst dX2_close_56 ?_
      refine g_dup2 dX2_close_57 rfl rfl ?_
      refine g_ialv hM.a17 (by omega) (hM.ss _) dX2_close_58 ?_
      refine g_iconst dX2_close_59 ?_
      refine g_il1 dX2_close_60 ?_
      refine g_ishl dX2_close_61 ?_
      refine g_ixor dX2_close_62 ?_
      refine g_iast hM.a17 hM.g17 (by omega) dX2_close_63 ?_
      replace hM := hM.ps (k := 1) (x := ixor_ (s 1) (ishl_ 1 k))
      refine g_iconst dX2_close_64 ?_
      exact g_zret rfl (by omega) dX2_close_65 ⟨_, rfl, hQ _ _ _ _ _ _ (by unfold aClose_; rw [if_pos ⟨f3, f1⟩, if_neg (by omega)]) (hS.act (hF.pi (a := m + 5) (by unfold mA_ ms_; omega)) hM (by rw [iv_pi, if_neg (by omega)]; exact e11) (Or.inr ⟨by omega, hW, pt_closed hD (xr_in hdn.2 (by omega))⟩) (by rw [iv_pi, if_neg (by omega)]; exact h20) (puN_in hS.2.2.2.2.1.2.1) (fun k j k0 k1 j0 j1 => by rw [iv_pi, if_neg (by omega)]; exact hUU k j k0 k1 j0 j1) (pu_D hS.2.2.2.2.1.2.1 hS.2.2.2.2.1.2.2.2 hD) (by rw [iv_pi, if_neg (by omega)]; exact e21) hS.2.2.2.2.2.2.1 (fun k j k0 k1 j0 j1 => by rw [iv_pi, if_neg (by omega)]; exact hII k j k0 k1 j0 j1) hS.2.2.2.2.2.2.2.2) ((hF.pi (a := m + 5) (by unfold mA_ ms_; omega)).ml)⟩
    refine g_al0 dX2_close_42 ?_
    refine g_iconst dX2_close_43 ?_
    refine g_callV1I (d' := 2) lk_X2_427 hM.sh rfl (rm_lt (by decide) (by decide)) (Nat.le_of_ble_eq_true rfl) dX2_close_44 ?_
    refine mo_isNot hM hE (fun σ2 hM hE => ?_)
    exact g_zret rfl (by omega) dX2_close_47 ⟨_, rfl, hQ _ _ _ _ _ _ (by unfold aClose_; rw [if_pos ⟨f3, f1⟩, if_pos (by omega)]) (hS.q hM hE) hE.mA.ml⟩
  refine g_al0 dX2_close_27 ?_
  refine g_iconst dX2_close_28 ?_
  refine g_callV1I (d' := 2) lk_X2_427 hM.sh rfl (rm_lt (by decide) (by decide)) (Nat.le_of_ble_eq_true rfl) dX2_close_29 ?_
  refine mo_isNot hM hE (fun σ2 hM hE => ?_)
  exact g_zret rfl (by omega) dX2_close_32 ⟨_, rfl, hQ _ _ _ _ _ _ (by unfold aClose_; rw [if_neg (by omega)]) (hS.q hM hE) hE.mA.ml⟩
end
