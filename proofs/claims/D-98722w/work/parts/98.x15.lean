/-! THE COMPONENT: a round. Written by mod/m98.py -/
set_option maxRecDepth 100000
section
variable {G : JG} {X : Nat} {σ : JH} {T : XT} {r s : Int → Int}
theorem xo_rounded  {i : Int} {Q : Int → JH → Prop} (hX : XD_ G X σ T r s) (hW : RW_ r) (hD : DW_ r s) (hlt : ∀ a s, sh_ σ a = some s → a < sz_ σ) (hi : 0 ≤ i ∧ i < r 4)
    (hQ : ∀ σ', Fr_ (xrn_ X) σ σ' → RT_ X σ' r s 0 0 → (∀ a b, 0 ≤ a → a < r 4 → 0 ≤ b → b < r 4 → iv_ σ' (X + 11) (7 * a + b) = nv_ (fw_ r s 7 a b)) → Q (nv_ (rU_ r s (2 ^ i.toNat) i).1) σ') : CallI_ G 7 yX1_rounded cX1_rounded 2 (some .int) [A_ (some X), I_ i] σ Q := by
  refine call_go [some (A_ (some X)), some (I_ i)] (by decide) (Nat.le_of_ble_eq_true rfl) rfl ?_
  have hR := hX.R
  have hn := hW.n
  refine g_al0 dX1_rounded_0 ?_
  refine g_callV0V (d' := 6) lk_X1_401 hR.sh rfl (rm_lt (by decide) (by decide)) (Nat.le_of_ble_eq_true rfl) dX1_rounded_1 ?_
  refine xo_rounds hX hW hD hlt (fun σ1 hF1 hT hFar => ?_)
  have hX := hX.xs hF1.rx hlt
  have hR := hX.R
  have hp4 := p4_ hW
  have p1 : 2 ^ i.toNat < 2 ^ (r 4).toNat := Nat.pow_lt_pow_right (by decide) (by omega)
  have p0 : 0 < 2 ^ i.toNat := Nat.two_pow_pos _
  refine g_al0 dX1_rounded_4 ?_
  refine f_getA 19 fk_X1_53 rfl hR.sh (fun _ _ => rfl) hR.f19 dX1_rounded_5 ?_
  refine g_bipush dX1_rounded_8 (by decide) (by decide) ?_
  refine g_iconst dX1_rounded_10 ?_
  refine g_il1 dX1_rounded_11 ?_
  refine g_ishl dX1_rounded_12 ?_
  rw [ishl_i (by omega) (by omega)]
  refine g_imul dX1_rounded_13 ?_
  refine g_il1 dX1_rounded_14 ?_
  refine g_iadd dX1_rounded_15 ?_
  refine g_ialv hR.a19 (by omega) (hT (2 ^ i.toNat) i p0 (by omega) hi.1 hi.2 (Or.inl (by omega))) dX1_rounded_16 ?_
  exact g_iret rfl dX1_rounded_17 ⟨_, rfl, hQ _ hF1 hT hFar⟩
theorem xo_round {p : Int} {i : Int} {Q : Int → JH → Prop} (hX0 : XQ_ G X σ p T r s) (hP : MP_ p r s) (hi : -2147483648 ≤ i ∧ i < 2147483648)
    (hQ : ∀ (x t : Int) (σ' : JH), qRound_ p r s i = (x, t) → XQ_ G X σ' p T r s → XE_ X σ σ' t → Q x σ') : CallI_ G 8 yX1_round cX1_round 3 (some .int) [A_ (some X), I_ i] σ Q := by
  refine call_go [some (A_ (some X)), some (I_ i), none] (by decide) (Nat.le_of_ble_eq_true rfl) rfl ?_
  refine g_lt (fun hlt hgz => ?_)
  have hR := hX0.1
  have hp01 := hP.b
  refine g_al0 dX1_round_0 ?_
  refine g_il1 dX1_round_1 ?_
  refine g_callV1I (d' := 3) lk_X1_193 hR.sh rfl (rm_lt (by decide) (by decide)) (Nat.le_of_ble_eq_true rfl) dX1_round_2 ?_
  refine xo_isIsland hX0 hP.rw (by omega) (fun x2 hx2 => ?_)
  unfold isI_ at hx2
  refine g_if_ne (tgt := 14) dX1_round_5 (by decide) (by omega) (fun h5 => ?_) (fun h5 => ?_)
  · refine g_al0 dX1_round_14 ?_
    refine g_il1 dX1_round_15 ?_
    refine g_callV1I (d' := 7) lk_X1_404 hR.sh rfl (rm_lt (by decide) (by decide)) (Nat.le_of_ble_eq_true rfl) dX1_round_16 ?_
    obtain ⟨hW, hD⟩ := hP.get (by omega)
    have hX := hX0.get (by omega)
    have hn := hW.n
    have hlt0 := hlt
    refine xo_rounded hX hW hD hlt (by omega) (fun σ1 hF1 hT hFar => ?_)
    have hX := hX.xs hF1.rx hlt
    have hR := hX.R
    have hlt := lt_fr hlt hF1
    have hp4 := p4_ hW
    have p1 : 2 ^ i.toNat < 2 ^ (r 4).toNat := Nat.pow_lt_pow_right (by decide) (by omega)
    have hub := rU_bd (s := s) hW (u := 2 ^ i.toNat) (by omega) i
    have hro : ro_ r s i = if (rU_ r s (2 ^ i.toNat) i).1 = 1000000 then -2 else (rU_ r s (2 ^ i.toNat) i).1 := by unfold ro_; rw [rU_one hW (by omega)]
    have hnv : nv_ (rU_ r s (2 ^ i.toNat) i).1 = 9999999 ∧ (rU_ r s (2 ^ i.toNat) i).1 = 1000000 ∨ nv_ (rU_ r s (2 ^ i.toNat) i).1 = (rU_ r s (2 ^ i.toNat) i).1 ∧ (rU_ r s (2 ^ i.toNat) i).1 ≠ 1000000 := by unfold nv_; split <;> omega
    refine g_is2 dX1_round_19 (by decide) rfl ?_
    refine g_al0 dX1_round_20 ?_
    refine g_il2 dX1_round_21 ?_
    refine g_ldcw (x := 9999999) q1343 dX1_round_22 (by decide) ?_
    refine g_icmp_lt (tgt := 33) dX1_round_25 (by decide) (by omega) (fun h25 => ?_) (fun h25 => ?_)
    · refine g_il2 dX1_round_33 ?_
      refine g_callV1I (d' := 2) lk_X1_69 hR.sh rfl (rm_lt (by decide) (by decide)) (Nat.le_of_ble_eq_true rfl) dX1_round_34 ?_
      refine xo_well hR ?_
      exact g_iret rfl dX1_round_37 ⟨_, rfl, hQ _ _ _ (by unfold qRound_; rw [if_pos (by omega), hro, if_neg (by omega)]; congr 1; omega) (hX0.e (XE_.fr hF1.rx) hlt0) (XE_.fr hF1.rx)⟩
    refine g_bipush dX1_round_28 (by decide) (by decide) ?_
    refine g_goto (tgt := 34) dX1_round_30 (by decide) ?_
    refine g_callV1I (d' := 2) lk_X1_69 hR.sh rfl (rm_lt (by decide) (by decide)) (Nat.le_of_ble_eq_true rfl) dX1_round_34 ?_
    refine xo_well hR ?_
    exact g_iret rfl dX1_round_37 ⟨_, rfl, hQ _ _ _ (by unfold qRound_; rw [if_pos (by omega), hro, if_pos (by omega)]) (hX0.e (XE_.fr hF1.rx) hlt0) (XE_.fr hF1.rx)⟩
  refine g_al0 dX1_round_8 ?_
  refine g_iconst dX1_round_9 ?_
  refine g_callV1I (d' := 2) lk_X1_65 hR.sh rfl (rm_lt (by decide) (by decide)) (Nat.le_of_ble_eq_true rfl) dX1_round_10 ?_
  refine xo_refused hR ?_
  exact g_iret rfl dX1_round_13 ⟨_, rfl, hQ _ _ _ (by unfold qRound_; rw [if_neg (by omega)]) (hX0.e (XE_.rf) hlt) (XE_.rf)⟩
end
