/-! THE COMPONENT: the islands of a round. Written by mod/m9a.py -/
set_option maxRecDepth 100000
section
variable {G : JG} {X : Nat} {σ : JH} {T : XT} {r s : Int → Int}
/-- on a round: st islands on, at island a, the islands u done; in the end it is at x -/
def OC_ (r s : Int → Int) (k st : Int) (u : Nat) (a x : Int) : Prop := (0 < u ∧ u ≤ 2 ^ (r 4).toNat - 1) ∧ (0 ≤ a ∧ a < r 4) ∧ (lfN_ (r 4).toNat u : Int) = r 4 - 1 - st ∧ (rU_ r s u a).1 < 1000000 ∧ (k = st → x = a) ∧ (st < k → x = oc_ r s (r 4 - 1 - st).toNat u a k)
theorem rU_first (hW : RW_ r) {u : Nat} (hu : u < 2 ^ (r 4).toNat - 1) {a : Int} (h : (rU_ r s u a).1 < 1000000) : (0 ≤ (rU_ r s u a).2 ∧ (rU_ r s u a).2 < r 4) ∧ ¬ hb_ (u : Int) (rU_ r s u a).2 ∧ fw_ r s 7 a (rU_ r s u a).2 + (rU_ r s (u ||| 2 ^ (rU_ r s u a).2.toNat) (rU_ r s u a).2).1 = (rU_ r s u a).1 ∧ ∀ t, 0 ≤ t → t < (rU_ r s u a).2 → hb_ (u : Int) t ∨ (rU_ r s u a).1 < fw_ r s 7 a t + (rU_ r s (u ||| 2 ^ t.toNat) t).1 := by
  have hn := hW.n
  have hp := p4_ hW
  have e := rU_s (s := s) hW hu (by omega) a
  have := rf_first (D := fw_ r s 7 a) (F := fun i => rU_ r s (u ||| 2 ^ i.toNat) i) (u := u) (n := r 4) (by omega) (by rw [← e]; exact h)
  rw [← e] at this
  exact this
theorem OC_.lt (hW : RW_ r) {k st a x : Int} {u : Nat} (h : OC_ r s k st u a x) (hst : 0 ≤ st ∧ st < k) (hk : k < r 4) : u < 2 ^ (r 4).toNat - 1 := by
  have hn := hW.n
  have h1 := h.1.2
  have h3 := h.2.2.1
  rcases Nat.lt_or_eq_of_le h1 with q | q
  · exact q
  · have := lfN_all (r 4).toNat (by omega)
    rw [← q] at this
    omega
theorem OC_.step (hW : RW_ r) {k st a x : Int} {u : Nat} (h : OC_ r s k st u a x) (hst : 0 ≤ st ∧ st < k) (hk : k < r 4) : OC_ r s k (st + 1) (u ||| 2 ^ (rU_ r s u a).2.toNat) (rU_ r s u a).2 x := by
  have hn := hW.n
  have hp := p4_ hW
  have hu := h.lt hW hst hk
  obtain ⟨f1, f2, f3, f4⟩ := rU_first (s := s) hW hu h.2.2.2.1
  have hsu := set_up hW (V := u) (t := (rU_ r s u a).2) (by omega) f1 f2
  have hl := h.2.2.1
  have f2' := f2
  rw [hb_i (by omega) f1.1 (by omega)] at f2'
  have hs := lfN_s (r 4).toNat (by omega) u (by omega) (rU_ r s u a).2.toNat (by omega) (by omega) (by simpa using f2')
  have hfw := (fw_in (s := s) hW 7 a (rU_ r s u a).2).1
  have hlt := h.2.2.2.1
  have hx := h.2.2.2.2.2 hst.2
  obtain ⟨j, hj⟩ : ∃ j, (r 4 - 1 - st).toNat = j + 1 := ⟨(r 4 - 1 - st).toNat - 1, by omega⟩
  have e0 : rd_ r s (j + 1) u a = rU_ r s u a := by unfold rU_; rw [show lfN_ (r 4).toNat u = j + 1 by omega]
  rw [hj] at hx
  simp only [oc_] at hx
  rw [e0] at hx
  refine ⟨⟨by omega, hsu.2.2⟩, f1, by omega, by omega, fun e => ?_, fun e => ?_⟩
  · rw [hx, if_pos (by omega)]
  · rw [hx, if_neg (by omega), hsu.1, show (r 4 - 1 - (st + 1)).toNat = j by omega]
theorem xo_roundAt {p : Int} {i k : Int} {Q : Int → JH → Prop} (hX0 : XQ_ G X σ p T r s) (hP : MP_ p r s) (hi : -2147483648 ≤ i ∧ i < 2147483648) (hk : -2147483648 ≤ k ∧ k < 2147483648)
    (hQ : ∀ (x t : Int) (σ' : JH), qRoundAt_ p r s i k = (x, t) → XQ_ G X σ' p T r s → XE_ X σ σ' t → Q x σ') : CallI_ G 8 yX1_roundAt cX1_roundAt 7 (some .int) [A_ (some X), I_ i, I_ k] σ Q := by
  refine call_go [some (A_ (some X)), some (I_ i), some (I_ k), none, none, none, none] (by decide) (Nat.le_of_ble_eq_true rfl) rfl ?_
  refine g_lt (fun hlt hgz => ?_)
  have hR := hX0.1
  have hp01 := hP.b
  refine g_al0 dX1_roundAt_0 ?_
  refine g_il1 dX1_roundAt_1 ?_
  refine g_callV1I (d' := 3) lk_X1_193 hR.sh rfl (rm_lt (by decide) (by decide)) (Nat.le_of_ble_eq_true rfl) dX1_roundAt_2 ?_
  refine xo_isIsland hX0 hP.rw (by omega) (fun x2 hx2 => ?_)
  unfold isI_ at hx2
  refine g_if_eq (tgt := 28) dX1_roundAt_5 (by decide) (by omega) (fun h5 => ?_) (fun h5 => ?_)
  · refine g_al0 dX1_roundAt_28 ?_
    refine g_iconst dX1_roundAt_29 ?_
    refine g_callV1I (d' := 2) lk_X1_65 hR.sh rfl (rm_lt (by decide) (by decide)) (Nat.le_of_ble_eq_true rfl) dX1_roundAt_30 ?_
    refine xo_refused hR ?_
    exact g_iret rfl dX1_roundAt_33 ⟨_, rfl, hQ _ _ _ (by unfold qRoundAt_; rw [if_neg (by omega)]) (hX0.e (XE_.rf) hlt) (XE_.rf)⟩
  refine g_il2 dX1_roundAt_8 ?_
  refine g_iconst dX1_roundAt_9 ?_
  refine g_al0 dX1_roundAt_10 ?_
  obtain ⟨hW, hD⟩ := hP.get (by omega)
  have hX := hX0.get (by omega)
  have hn := hW.n
  refine f_getA 5 fk_X1_104 rfl hR.sh (fun _ _ => rfl) hX.f5 dX1_roundAt_11 ?_
  refine f_getA 4 fk_X1_122 rfl hX.P.sh (fun _ _ => rfl) hX.P.f4 dX1_roundAt_14 ?_
  refine g_callV0I (d' := 2) lk_X1_127 hX.P.l0.1 rfl (rm_lt (by decide) (by decide)) (Nat.le_of_ble_eq_true rfl) dX1_roundAt_17 ?_
  refine js_size hX.P.l0 ?_
  refine g_iconst dX1_roundAt_20 ?_
  refine g_isub dX1_roundAt_21 ?_
  refine g_callS3I (d' := 2) lk_X1_79 (rm_lt (by decide) (by decide)) (Nat.le_of_ble_eq_true rfl) dX1_roundAt_22 ?_
  refine xo_in (by omega) (by omega) (by omega) (fun x22 hx22 => ?_)
  refine g_if_ne (tgt := 34) dX1_roundAt_25 (by decide) (by omega) (fun h25 => ?_) (fun h25 => ?_)
  · refine g_al0 dX1_roundAt_34 ?_
    refine g_il1 dX1_roundAt_35 ?_
    refine g_callV1I (d' := 7) lk_X1_404 hR.sh rfl (rm_lt (by decide) (by decide)) (Nat.le_of_ble_eq_true rfl) dX1_roundAt_36 ?_
    have hlt0 := hlt
    refine xo_rounded hX hW hD hlt (by omega) (fun σ1 hF1 hT hFar => ?_)
    have hX := hX.xs hF1.rx hlt
    have hR := hX.R
    have hlt := lt_fr hlt hF1
    have hp4 := p4_ hW
    have p1 : 2 ^ i.toNat < 2 ^ (r 4).toNat := Nat.pow_lt_pow_right (by decide) (by omega)
    have hub := rU_bd (s := s) hW (u := 2 ^ i.toNat) (by omega) i
    have hro : ro_ r s i = if (rU_ r s (2 ^ i.toNat) i).1 = 1000000 then -2 else (rU_ r s (2 ^ i.toNat) i).1 := by unfold ro_; rw [rU_one hW (by omega)]
    have hnv : nv_ (rU_ r s (2 ^ i.toNat) i).1 = 9999999 ∧ (rU_ r s (2 ^ i.toNat) i).1 = 1000000 ∨ nv_ (rU_ r s (2 ^ i.toNat) i).1 = (rU_ r s (2 ^ i.toNat) i).1 ∧ (rU_ r s (2 ^ i.toNat) i).1 ≠ 1000000 := by unfold nv_; split <;> omega
    refine g_ldcw (x := 9999999) q1343 dX1_roundAt_39 (by decide) ?_
    refine g_icmp_lt (tgt := 52) dX1_roundAt_42 (by decide) (by omega) (fun h42 => ?_) (fun h42 => ?_)
    · obtain ⟨x9, hx9⟩ : ∃ x9, qRoundAt_ p r s i k = (x9, 0) := ⟨_, by unfold qRoundAt_; rw [if_pos (by omega), if_neg (by rw [hro, if_neg (by omega)]; omega)]⟩
      have hO0 : OC_ r s k 0 (2 ^ i.toNat) i x9 := by
        unfold qRoundAt_ at hx9
        rw [if_pos (by omega), if_neg (by rw [hro, if_neg (by omega)]; omega)] at hx9
        have hx := (Prod.mk.inj hx9).1
        have hl1 := lfN_one (r 4).toNat (by omega) i.toNat (by omega) (by omega)
        refine ⟨⟨Nat.two_pow_pos _, by omega⟩, by omega, by omega, by omega, fun e => by rw [← hx, if_pos e], fun e => ?_⟩
        rw [← hx, if_neg (by omega), show r 4 - 1 - 0 = r 4 - 1 by omega, ishl_i (by omega) (by omega)]
      have L62 : ∀ (fu : Nat) (a : Int) (u : Nat) (st : Int) (v6 : Option AV), k - st < (fu : Int) → (0 ≤ st) → (st ≤ k) → (OC_ r s k st u a x9) → GoM_ G 8 yX1_roundAt cX1_roundAt 7 (some .int) σ (fun v σ' => ∃ x : Int, v = some (I_ x) ∧ Q x σ') 62 [some (A_ (some X)), some (I_ i), some (I_ k), some (I_ a), some (I_ ((u : Nat) : Int)), some (I_ st), v6] [] σ1 := by
        intro fu
        induction fu with
        | zero => intro a u st v6 hn h0 h1 hO; exact absurd hn (by omega)
        | succ fu ih =>
          intro a u st v6 hn h0 h1 hO
          refine g_il5 dX1_roundAt_62 ?_
          refine g_il2 dX1_roundAt_64 ?_
          refine g_icmp_ge (tgt := 151) dX1_roundAt_65 (by decide) (by omega) (fun h65 => ?_) (fun h65 => ?_)
          · refine g_al0 dX1_roundAt_151 ?_
            refine g_il3 dX1_roundAt_152 ?_
            refine g_callV1I (d' := 2) lk_X1_69 hR.sh rfl (rm_lt (by decide) (by decide)) (Nat.le_of_ble_eq_true rfl) dX1_roundAt_153 ?_
            refine xo_well hR ?_
            exact g_iret rfl dX1_roundAt_156 ⟨_, rfl, hQ _ _ _ (by rw [hx9, hO.2.2.2.2.1 (by omega)]) (hX0.e (XE_.fr hF1.rx) hlt0) (XE_.fr hF1.rx)⟩
          have hu1 := hO.lt hW (by omega) (by omega)
          have hu0 := hO.1
          have hfi := rU_first (s := s) hW hu1 hO.2.2.2.1
          have ha9 := hO.2.1
          have hq9 := hO.2.2.2.1
          have L71 : ∀ (fu2 : Nat) (t : Int), (rU_ r s u a).2 + 1 - t < (fu2 : Int) → (0 ≤ t) → (t ≤ (rU_ r s u a).2) → GoM_ G 8 yX1_roundAt cX1_roundAt 7 (some .int) σ (fun v σ' => ∃ x : Int, v = some (I_ x) ∧ Q x σ') 71 [some (A_ (some X)), some (I_ i), some (I_ k), some (I_ a), some (I_ ((u : Nat) : Int)), some (I_ st), some (I_ t)] [] σ1 := by
            intro fu2
            induction fu2 with
            | zero => intro t hn t0 t1; exact absurd hn (by omega)
            | succ fu2 ih2 =>
              intro t hn t0 t1
              refine g_il4 dX1_roundAt_71 ?_
              refine g_il6 dX1_roundAt_73 ?_
              refine g_callS2I (d' := 2) lk_X1_222 (rm_lt (by decide) (by decide)) (Nat.le_of_ble_eq_true rfl) dX1_roundAt_75 ?_
              refine xo_has (fun zh hzh => ?_)
              refine g_if_ne (tgt := 127) dX1_roundAt_78 (by decide) (by omega) (fun h78 => ?_) (fun h78 => ?_)
              · refine g_inc6 dX1_roundAt_127 (by decide) rfl ?_
                refine g_goto (tgt := 71) dX1_roundAt_130 (by decide) ?_
                have nt : t ≠ (rU_ r s u a).2 := fun e => by
                  have f2 := hfi.2.1
                  rw [← e] at f2
                  omega
                exact ih2 _ (by omega) (by omega) (by omega)
              refine g_al0 dX1_roundAt_81 ?_
              refine f_getA 18 fk_X1_50 rfl hR.sh (fun _ _ => rfl) hR.f18 dX1_roundAt_82 ?_
              refine g_bipush dX1_roundAt_85 (by decide) (by decide) ?_
              refine g_il3 dX1_roundAt_87 ?_
              refine g_imul dX1_roundAt_88 ?_
              refine g_il6 dX1_roundAt_89 ?_
              refine g_iadd dX1_roundAt_91 ?_
              have hsu := set_up hW (V := u) (t := t) (by omega) (by omega) (by omega)
              have x1 := hFar a t (by omega) (by omega) (by omega) (by omega)
              have x2 := hT (u ||| 2 ^ t.toNat) t (by omega) hsu.2.2 (by omega) (by omega) (Or.inl (by omega))
              have x3 := hT u a (by omega) (by omega) (by omega) (by omega) (Or.inl (by omega))
              have y1 := fw_b7 (s := s) (K := 7) hW (by omega) a t
              have y2 := rU_bd (s := s) hW (u := u ||| 2 ^ t.toNat) (by omega) t
              have y3 := rU_bd (s := s) hW (u := u) (by omega) a
              have n1 : nv_ (fw_ r s 7 a t) = 9999999 ∧ (fw_ r s 7 a t) = 1000000 ∨ nv_ (fw_ r s 7 a t) = (fw_ r s 7 a t) ∧ (fw_ r s 7 a t) ≠ 1000000 := by unfold nv_; split <;> omega
              have n2 : nv_ (rU_ r s (u ||| 2 ^ t.toNat) t).1 = 9999999 ∧ (rU_ r s (u ||| 2 ^ t.toNat) t).1 = 1000000 ∨ nv_ (rU_ r s (u ||| 2 ^ t.toNat) t).1 = (rU_ r s (u ||| 2 ^ t.toNat) t).1 ∧ (rU_ r s (u ||| 2 ^ t.toNat) t).1 ≠ 1000000 := by unfold nv_; split <;> omega
              have n3 : nv_ (rU_ r s u a).1 = 9999999 ∧ (rU_ r s u a).1 = 1000000 ∨ nv_ (rU_ r s u a).1 = (rU_ r s u a).1 ∧ (rU_ r s u a).1 ≠ 1000000 := by unfold nv_; split <;> omega
              refine g_ialv hR.a18 (by omega) x1 dX1_roundAt_92 ?_
              refine g_al0 dX1_roundAt_93 ?_
              refine f_getA 19 fk_X1_53 rfl hR.sh (fun _ _ => rfl) hR.f19 dX1_roundAt_94 ?_
              refine g_bipush dX1_roundAt_97 (by decide) (by decide) ?_
              refine g_il4 dX1_roundAt_99 ?_
              refine g_iconst dX1_roundAt_101 ?_
              refine g_il6 dX1_roundAt_102 ?_
              refine g_ishl dX1_roundAt_104 ?_
              refine g_ior dX1_roundAt_105 ?_
              rw [hsu.1]
              refine g_imul dX1_roundAt_106 ?_
              refine g_il6 dX1_roundAt_107 ?_
              refine g_iadd dX1_roundAt_109 ?_
              refine g_ialv hR.a19 (by omega) x2 dX1_roundAt_110 ?_
              refine g_iadd dX1_roundAt_111 ?_
              refine g_al0 dX1_roundAt_112 ?_
              refine f_getA 19 fk_X1_53 rfl hR.sh (fun _ _ => rfl) hR.f19 dX1_roundAt_113 ?_
              refine g_bipush dX1_roundAt_116 (by decide) (by decide) ?_
              refine g_il4 dX1_roundAt_118 ?_
              refine g_imul dX1_roundAt_120 ?_
              refine g_il3 dX1_roundAt_121 ?_
              refine g_iadd dX1_roundAt_122 ?_
              refine g_ialv hR.a19 (by omega) x3 dX1_roundAt_123 ?_
              refine g_icmp_eq (tgt := 133) dX1_roundAt_124 (by decide) (by omega) (fun h124 => ?_) (fun h124 => ?_)
              · have et : t = (rU_ r s u a).2 := by
                  rcases Int.lt_or_eq_of_le t1 with q | q
                  · rcases hfi.2.2.2 t t0 q with z | z
                    · omega
                    · omega
                  · exact q
                have hO2 := hO.step hW (by omega) (by omega)
                rw [← et] at hO2
                refine g_il4 dX1_roundAt_133 ?_
                refine g_iconst dX1_roundAt_135 ?_
                refine g_il6 dX1_roundAt_136 ?_
                refine g_ishl dX1_roundAt_138 ?_
                refine g_ior dX1_roundAt_139 ?_
                rw [hsu.1]
                refine g_is4 dX1_roundAt_140 (by decide) rfl ?_
                refine g_il6 dX1_roundAt_142 ?_
                refine g_is3 dX1_roundAt_144 (by decide) rfl ?_
                refine g_inc5 dX1_roundAt_145 (by decide) rfl ?_
                refine g_goto (tgt := 62) dX1_roundAt_148 (by decide) ?_
                exact ih _ _ _ _ (by omega) (by omega) (by omega) hO2
              refine g_inc6 dX1_roundAt_127 (by decide) rfl ?_
              refine g_goto (tgt := 71) dX1_roundAt_130 (by decide) ?_
              have nt : t ≠ (rU_ r s u a).2 := fun e => by
                have f3 := hfi.2.2.1
                rw [← e] at f3
                omega
              exact ih2 _ (by omega) (by omega) (by omega)
          refine g_iconst dX1_roundAt_68 ?_
          refine g_is6 dX1_roundAt_69 (by decide) rfl ?_
          exact L71 ((rU_ r s u a).2.toNat + 2) _ (by omega) (by omega) (by omega)
      refine g_il1 dX1_roundAt_52 ?_
      refine g_is3 dX1_roundAt_53 (by decide) rfl ?_
      refine g_iconst dX1_roundAt_54 ?_
      refine g_il1 dX1_roundAt_55 ?_
      refine g_ishl dX1_roundAt_56 ?_
      rw [ishl_i (by omega) (by omega)]
      refine g_is4 dX1_roundAt_57 (by decide) rfl ?_
      refine g_iconst dX1_roundAt_59 ?_
      refine g_is5 dX1_roundAt_60 (by decide) rfl ?_
      exact L62 (k.toNat + 1) _ (2 ^ i.toNat) _ _ (by omega) (by omega) (by omega) hO0
    refine g_al0 dX1_roundAt_45 ?_
    refine g_bipush dX1_roundAt_46 (by decide) (by decide) ?_
    refine g_callV1I (d' := 2) lk_X1_65 hR.sh rfl (rm_lt (by decide) (by decide)) (Nat.le_of_ble_eq_true rfl) dX1_roundAt_48 ?_
    refine xo_refused hR ?_
    exact g_iret rfl dX1_roundAt_51 ⟨_, rfl, hQ _ _ _ (by unfold qRoundAt_; rw [if_pos (by omega), if_pos (by rw [hro, if_pos (by omega)]; omega)]) (hX0.e (XE_.fr hF1.rx) hlt0) (XE_.fr hF1.rx)⟩
  refine g_al0 dX1_roundAt_28 ?_
  refine g_iconst dX1_roundAt_29 ?_
  refine g_callV1I (d' := 2) lk_X1_65 hR.sh rfl (rm_lt (by decide) (by decide)) (Nat.le_of_ble_eq_true rfl) dX1_roundAt_30 ?_
  refine xo_refused hR ?_
  exact g_iret rfl dX1_roundAt_33 ⟨_, rfl, hQ _ _ _ (by unfold qRoundAt_; rw [if_neg (by omega)]) (hX0.e (XE_.rf) hlt) (XE_.rf)⟩
end
