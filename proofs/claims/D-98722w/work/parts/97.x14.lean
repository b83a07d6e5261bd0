/-! THE COMPONENT: rounds. Written by mod/m97.py -/
set_option maxRecDepth 100000
section
variable {G : JG} {X : Nat} {σ : JH} {T : XT} {r s : Int → Int}
def xrn_ (X : Nat) (b : Nat) (_ : Int) : Prop := b = X + 11 ∨ b = X + 12
theorem Fr_.rx {σ σ' : JH} (h : Fr_ (xrn_ X) σ σ') : Fr_ (xs_ X) σ σ' := h.mono (fun b k q => by unfold xrn_ at q; unfold xs_; omega)
/-- the table of rests: the sets from v on; of v the islands below a -/
def RT_ (X : Nat) (σ : JH) (r s : Int → Int) (v : Int) (a : Int) : Prop := ∀ (u : Nat) (c : Int), 0 < u → u ≤ 2 ^ (r 4).toNat - 1 → 0 ≤ c → c < r 4 → (v < u ∨ ((u : Int) = v ∧ c < a)) → iv_ σ (X + 12) (7 * (u : Int) + c) = nv_ (rU_ r s u c).1
theorem RT_.step {V : Nat} {a : Int} (hW : RW_ r) (h : RT_ X σ r s V a) (ha : 0 ≤ a ∧ a < r 4) : RT_ X (pi_ σ (X + 12) (7 * (V : Int) + a) (nv_ (rU_ r s V a).1)) r s V (a + 1) := fun u c u0 u1 c0 c1 q => by
  have hn := hW.n
  rw [iv_pi]
  by_cases e : u = V ∧ c = a
  · obtain ⟨e1, e2⟩ := e
    subst e1 e2
    rw [if_pos ⟨rfl, rfl⟩]
  · rw [if_neg (by omega)]
    exact h u c u0 u1 c0 c1 (by omega)
/-- the least so far -/
def lsu_ (r s : Int → Int) (u : Nat) (a t : Int) : Int × Int := if u = 2 ^ (r 4).toNat - 1 then (0, -1) else iI_ (rf_ (fw_ r s 7 a) (fun i => rU_ r s (u ||| 2 ^ i.toNat) i) u) (1000000, -1) t
theorem p4_ (hW : RW_ r) : 2 ≤ 2 ^ (r 4).toNat ∧ 2 ^ (r 4).toNat ≤ 128 := by
  have hn := hW.n
  exact ⟨(Nat.pow_le_pow_right (n := 2) (i := 1) (by decide) (by omega) : 2 ^ 1 ≤ 2 ^ (r 4).toNat), (Nat.pow_le_pow_right (n := 2) (j := 7) (by decide) (by omega) : 2 ^ (r 4).toNat ≤ 2 ^ 7)⟩
theorem lsu_end (hW : RW_ r) {u : Nat} (hu : u ≤ 2 ^ (r 4).toNat - 1) (a : Int) : lsu_ r s u a (r 4) = rU_ r s u a := by
  have := p4_ hW
  unfold lsu_
  split
  · rename_i e; rw [e, rU_all hW]
  · rw [rU_s hW (by omega) (by omega)]
theorem all_bit (hW : RW_ r) {t : Int} (ht : 0 ≤ t ∧ t < r 4) : hb_ ((2 ^ (r 4).toNat - 1 : Nat) : Int) t := by
  have := p4_ hW
  have hn := hW.n
  rw [hb_i (by omega) ht.1 (by omega), Nat.testBit_two_pow_sub_one]
  exact decide_eq_true (by omega)
theorem lsu_skip (hW : RW_ r) {u : Nat} {a t : Int} (ht : 0 ≤ t) (h : hb_ (u : Int) t) : lsu_ r s u a (t + 1) = lsu_ r s u a t := by
  unfold lsu_
  split
  · rfl
  · rw [iI_s _ _ ht]; exact if_pos h
theorem lsu_go (hW : RW_ r) {u : Nat} {a t : Int} (ht : 0 ≤ t ∧ t < r 4) (h : ¬ hb_ (u : Int) t) : (lsu_ r s u a (t + 1)).1 = if fw_ r s 7 a t + (rU_ r s (u ||| 2 ^ t.toNat) t).1 < (lsu_ r s u a t).1 then fw_ r s 7 a t + (rU_ r s (u ||| 2 ^ t.toNat) t).1 else (lsu_ r s u a t).1 := by
  unfold lsu_
  by_cases e : u = 2 ^ (r 4).toNat - 1
  · subst e; exact absurd (all_bit hW ht) h
  · rw [if_neg e, if_neg e, iI_s _ _ ht.1]
    generalize iI_ (rf_ (fw_ r s 7 a) (fun i => rU_ r s (u ||| 2 ^ i.toNat) i) u) (1000000, -1) t = q
    unfold rf_
    rw [if_neg h]
    split
    · rfl
    · rfl
theorem lsu_bd (hW : RW_ r) {u : Nat} (hu : u < 128) {a t : Int} (ht : 0 ≤ t ∧ t ≤ r 4) : (lsu_ r s u a t).1 = 1000000 ∨ (0 ≤ (lsu_ r s u a t).1 ∧ (lsu_ r s u a t).1 ≤ 112672) := by
  have hn := hW.n
  unfold lsu_
  split
  · exact Or.inr ⟨by decide, by decide⟩
  · refine iI_inv (n := t) (fun k (q : Int × Int) => q.1 = 1000000 ∨ (0 ≤ q.1 ∧ q.1 ≤ 100000 + 12672)) (Or.inl rfl) (fun k q h0 h1 h => ?_) ht.1
    have p1 : 2 ^ k.toNat < 2 ^ 7 := p2_lt (n := 7) h0 (by omega)
    exact rf_bd (by decide) (fw_b7 (s := s) (K := 7) hW (by omega) a k) (rU_bd hW (Nat.or_lt_two_pow (n := 7) hu p1) k) h
theorem set_up (hW : RW_ r) {V : Nat} {t : Int} (hV : V ≤ 2 ^ (r 4).toNat - 1) (ht : 0 ≤ t ∧ t < r 4) (h : ¬ hb_ (V : Int) t) : ior_ (V : Int) (ishl_ 1 t) = ((V ||| 2 ^ t.toNat : Nat) : Int) ∧ V < V ||| 2 ^ t.toNat ∧ V ||| 2 ^ t.toNat ≤ 2 ^ (r 4).toNat - 1 := by
  have hp := p4_ hW
  have hn := hW.n
  have p1 : 2 ^ t.toNat < 2 ^ (r 4).toNat := Nat.pow_lt_pow_right (by decide) (by omega)
  rw [hb_i (by omega) ht.1 (by omega)] at h
  have hl := Nat.or_lt_two_pow (n := (r 4).toNat) (show V < 2 ^ (r 4).toNat by omega) p1
  refine ⟨by rw [ishl_i ht.1 (by omega), ior_n (by omega) (by omega)], ?_, by omega⟩
  have h1 : V ≤ V ||| 2 ^ t.toNat := Nat.left_le_or
  have h2 : V ≠ V ||| 2 ^ t.toNat := fun e => h (by rw [e, Nat.testBit_or, Nat.testBit_two_pow_self, Bool.or_true])
  omega
theorem xo_rounds  {Q : JH → Prop} (hX : XD_ G X σ T r s) (hW : RW_ r) (hD : DW_ r s) (hlt : ∀ a s, sh_ σ a = some s → a < sz_ σ)
    (hQ : ∀ σ', Fr_ (xrn_ X) σ σ' → RT_ X σ' r s 0 0 → (∀ a b, 0 ≤ a → a < r 4 → 0 ≤ b → b < r 4 → iv_ σ' (X + 11) (7 * a + b) = nv_ (fw_ r s 7 a b)) → Q σ') : CallV_ G 6 yX1_rounds cX1_rounds 7 none [A_ (some X)] σ Q := by
  refine call_go [some (A_ (some X)), none, none, none, none, none, none] (by decide) (Nat.le_of_ble_eq_true rfl) rfl ?_
  have hR := hX.R
  have hn := hW.n
  have L23 : ∀ (fu : Nat) (σ' : JH) (v : Int) (v4 : Option AV) (v5 : Option AV) (v6 : Option AV), v < (fu : Int) → (Fr_ (xrn_ X) σ σ') → (0 ≤ v) → (v ≤ (((2 ^ (r 4).toNat - 1 : Nat)) : Int)) → (RT_ X σ' r s v 0) → (∀ a b, 0 ≤ a → a < r 4 → 0 ≤ b → b < r 4 → iv_ σ' (X + 11) (7 * a + b) = nv_ (fw_ r s 7 a b)) → GoM_ G 6 yX1_rounds cX1_rounds 7 none σ (fun v σ' => v = none ∧ Q σ') 23 [some (A_ (some X)), some (I_ (r 4)), some (I_ (((2 ^ (r 4).toNat - 1 : Nat)) : Int)), some (I_ v), v4, v5, v6] [] σ' := by
    intro fu
    induction fu with
    | zero => intro σ' v v4 v5 v6 hn hF h0 h1 hT hFar; exact absurd hn (by omega)
    | succ fu ih =>
      intro σ' v v4 v5 v6 hn hF h0 h1 hT hFar
      have hp4 := p4_ hW
      refine g_il3 dX1_rounds_23 ?_
      refine g_if_le (tgt := 144) dX1_rounds_24 (by decide) (by omega) (fun h24 => ?_) (fun h24 => ?_)
      · exact g_vret rfl dX1_rounds_144 ⟨rfl, hQ _ hF (by rw [show v = 0 by omega] at hT; exact hT) hFar⟩
      obtain ⟨V, rfl⟩ := Int.eq_ofNat_of_zero_le h0
      have hV1 : V ≤ 2 ^ (r 4).toNat - 1 := by omega
      have L30 : ∀ (fu2 : Nat) (σ' : JH) (a : Int) (v5 : Option AV) (v6 : Option AV), r 4 - a < (fu2 : Int) → (Fr_ (xrn_ X) σ σ') → (0 ≤ a) → (a ≤ r 4) → (RT_ X σ' r s V a) → (∀ a b, 0 ≤ a → a < r 4 → 0 ≤ b → b < r 4 → iv_ σ' (X + 11) (7 * a + b) = nv_ (fw_ r s 7 a b)) → GoM_ G 6 yX1_rounds cX1_rounds 7 none σ (fun v σ' => v = none ∧ Q σ') 30 [some (A_ (some X)), some (I_ (r 4)), some (I_ (((2 ^ (r 4).toNat - 1 : Nat)) : Int)), some (I_ (V : Int)), some (I_ a), v5, v6] [] σ' := by
        intro fu2
        induction fu2 with
        | zero => intro σ' a v5 v6 hn hF a0 a1 hT hFar; exact absurd hn (by omega)
        | succ fu2 ih2 =>
          intro σ' a v5 v6 hn hF a0 a1 hT hFar
          have hX := hX.xs hF.rx hlt
          have hR := hX.R
          have hlt := lt_fr hlt hF
          refine g_il4 dX1_rounds_30 ?_
          refine g_il1 dX1_rounds_32 ?_
          refine g_icmp_ge (tgt := 138) dX1_rounds_33 (by decide) (by omega) (fun h33 => ?_) (fun h33 => ?_)
          · refine g_inc3 dX1_rounds_138 (by decide) rfl ?_
            refine g_goto (tgt := 23) dX1_rounds_141 (by decide) ?_
            rw [show (V : Int) + -1 = (V : Int) - 1 by omega]
            exact ih _ _ _ _ _ (by omega) hF (by omega) (by omega) (fun u c u0 u1 c0 c1 q => hT u c u0 u1 c0 c1 (by omega)) hFar
          have L53 : ∀ (fu3 : Nat) (le : Int) (t : Int), r 4 - t < (fu3 : Int) → (0 ≤ t) → (t ≤ r 4) → (le = nv_ (lsu_ r s V a t).1) → GoM_ G 6 yX1_rounds cX1_rounds 7 none σ (fun v σ' => v = none ∧ Q σ') 53 [some (A_ (some X)), some (I_ (r 4)), some (I_ (((2 ^ (r 4).toNat - 1 : Nat)) : Int)), some (I_ (V : Int)), some (I_ a), some (I_ le), some (I_ t)] [] σ' := by
            intro fu3
            induction fu3 with
            | zero => intro le t hn t0 t1 hle; exact absurd hn (by omega)
            | succ fu3 ih3 =>
              intro le t hn t0 t1 hle
              have hlb := lsu_bd (s := s) (a := a) hW (show V < 128 by omega) ⟨t0, t1⟩
              have hln : 0 ≤ nv_ (lsu_ r s V a t).1 ∧ nv_ (lsu_ r s V a t).1 ≤ 9999999 := by unfold nv_; split <;> omega
              refine g_il6 dX1_rounds_53 ?_
              refine g_il1 dX1_rounds_55 ?_
              refine g_icmp_ge (tgt := 112) dX1_rounds_56 (by decide) (by omega) (fun h56 => ?_) (fun h56 => ?_)
              · have et : t = r 4 := by omega
                subst et
                rw [lsu_end hW hV1] at hle hln
                refine g_al0 dX1_rounds_112 ?_
                refine f_getA 19 fk_X1_53 rfl hR.sh (fun _ _ => rfl) hR.f19 dX1_rounds_113 ?_
                refine g_bipush dX1_rounds_116 (by decide) (by decide) ?_
                refine g_il3 dX1_rounds_118 ?_
                refine g_imul dX1_rounds_119 ?_
                refine g_il4 dX1_rounds_120 ?_
                refine g_iadd dX1_rounds_122 ?_
                refine g_il5 dX1_rounds_123 ?_
                refine g_ldcw (x := 9999999) q1343 dX1_rounds_125 (by decide) ?_
                refine g_mmin q1272 (by omega) (rm_64 (by decide)) (Nat.le_of_ble_eq_true rfl) dX1_rounds_128 ?_
                refine g_top (show _ = nv_ (rU_ r s V a).1 by rw [← hle]; split <;> omega) ?_
                refine g_iast hR.a19 hR.g19 (by omega) dX1_rounds_131 ?_
                refine g_inc4 dX1_rounds_132 (by decide) rfl ?_
                refine g_goto (tgt := 30) dX1_rounds_135 (by decide) ?_
                exact ih2 _ _ _ _ (by omega) (hF.pi (Or.inr rfl)) (by omega) (by omega) (hT.step hW (by omega)) (fun a1 b2 g0 g1 g2 g3 => by rw [iv_pi, if_neg (by omega)]; exact hFar a1 b2 g0 g1 g2 g3)
              refine g_il3 dX1_rounds_59 ?_
              refine g_il6 dX1_rounds_60 ?_
              refine g_callS2I (d' := 2) lk_X1_222 (rm_lt (by decide) (by decide)) (Nat.le_of_ble_eq_true rfl) dX1_rounds_62 ?_
              refine xo_has (fun zh hzh => ?_)
              refine g_if_ne (tgt := 106) dX1_rounds_65 (by decide) (by omega) (fun h65 => ?_) (fun h65 => ?_)
              · refine g_inc6 dX1_rounds_106 (by decide) rfl ?_
                refine g_goto (tgt := 53) dX1_rounds_109 (by decide) ?_
                exact ih3 _ _ (by omega) (by omega) (by omega) (by rw [lsu_skip hW t0 (by omega)]; exact hle)
              refine g_il5 dX1_rounds_68 ?_
              refine g_al0 dX1_rounds_70 ?_
              refine f_getA 18 fk_X1_50 rfl hR.sh (fun _ _ => rfl) hR.f18 dX1_rounds_71 ?_
              refine g_bipush dX1_rounds_74 (by decide) (by decide) ?_
              refine g_il4 dX1_rounds_76 ?_
              refine g_imul dX1_rounds_78 ?_
              refine g_il6 dX1_rounds_79 ?_
              refine g_iadd dX1_rounds_81 ?_
              have hsu := set_up hW (V := V) (t := t) hV1 (by omega) (by omega)
              have x1 := hFar a t (by omega) (by omega) (by omega) (by omega)
              have x2 := hT (V ||| 2 ^ t.toNat) t (by omega) hsu.2.2 (by omega) (by omega) (Or.inl (by omega))
              have y1 := fw_b7 (s := s) (K := 7) hW (by omega) a t
              have y2 := rU_bd (s := s) hW (u := V ||| 2 ^ t.toNat) (by omega) t
              have z1 : 0 ≤ nv_ (fw_ r s 7 a t) ∧ nv_ (fw_ r s 7 a t) ≤ 9999999 := by unfold nv_; split <;> omega
              have z2 : 0 ≤ nv_ (rU_ r s (V ||| 2 ^ t.toNat) t).1 ∧ nv_ (rU_ r s (V ||| 2 ^ t.toNat) t).1 ≤ 9999999 := by unfold nv_; split <;> omega
              refine g_ialv hR.a18 (by omega) x1 dX1_rounds_82 ?_
              refine g_al0 dX1_rounds_83 ?_
              refine f_getA 19 fk_X1_53 rfl hR.sh (fun _ _ => rfl) hR.f19 dX1_rounds_84 ?_
              refine g_bipush dX1_rounds_87 (by decide) (by decide) ?_
              refine g_il3 dX1_rounds_89 ?_
              refine g_iconst dX1_rounds_90 ?_
              refine g_il6 dX1_rounds_91 ?_
              refine g_ishl dX1_rounds_93 ?_
              refine g_ior dX1_rounds_94 ?_
              rw [hsu.1]
              refine g_imul dX1_rounds_95 ?_
              refine g_il6 dX1_rounds_96 ?_
              refine g_iadd dX1_rounds_98 ?_
              refine g_ialv hR.a19 (by omega) x2 dX1_rounds_99 ?_
              refine g_iadd dX1_rounds_100 ?_
              refine g_mmin q1272 (by omega) (rm_64 (by decide)) (Nat.le_of_ble_eq_true rfl) dX1_rounds_101 ?_
              rw [hle, nv_lt2 (by omega) (by omega) (by omega), ← lsu_go hW (by omega) (by omega)]
              refine g_is5 dX1_rounds_104 (by decide) rfl ?_
              refine g_inc6 dX1_rounds_106 (by decide) rfl ?_
              refine g_goto (tgt := 53) dX1_rounds_109 (by decide) ?_
              exact ih3 _ _ (by omega) (by omega) (by omega) rfl
          refine g_il3 dX1_rounds_36 ?_
          refine g_il2 dX1_rounds_37 ?_
          refine g_icmp_ne (tgt := 45) dX1_rounds_38 (by decide) (by omega) (fun h38 => ?_) (fun h38 => ?_)
          · refine g_ldcw (x := 9999999) q1343 dX1_rounds_45 (by decide) ?_
            refine g_is5 dX1_rounds_48 (by decide) rfl ?_
            refine g_iconst dX1_rounds_50 ?_
            refine g_is6 dX1_rounds_51 (by decide) rfl ?_
            exact L53 ((r 4).toNat + 1) _ _ (by omega) (by omega) (by omega) (by unfold lsu_; rw [if_neg (by omega), iI_0]; rfl)
          refine g_iconst dX1_rounds_41 ?_
          refine g_goto (tgt := 48) dX1_rounds_42 (by decide) ?_
          refine g_is5 dX1_rounds_48 (by decide) rfl ?_
          refine g_iconst dX1_rounds_50 ?_
          refine g_is6 dX1_rounds_51 (by decide) rfl ?_
          exact L53 ((r 4).toNat + 1) _ _ (by omega) (by omega) (by omega) (by unfold lsu_; rw [if_pos (by omega)]; rfl)
      refine g_iconst dX1_rounds_27 ?_
      refine g_is4 dX1_rounds_28 (by decide) rfl ?_
      exact L30 ((r 4).toNat + 1) _ _ _ _ (by omega) hF (by omega) (by omega) hT hFar
  refine g_al0 dX1_rounds_0 ?_
  refine g_callV0V (d' := 5) lk_X1_398 hR.sh rfl (rm_lt (by decide) (by decide)) (Nat.le_of_ble_eq_true rfl) dX1_rounds_1 ?_
  refine xo_walks hX hW hD hlt (fun σ1 hF1 hFar => ?_)
  have hF : Fr_ (xrn_ X) σ σ1 := hF1.mono (fun b k q => Or.inl q)
  have hX := hX.xs hF.rx hlt
  have hR := hX.R
  have hp4 := p4_ hW
  refine g_al0 dX1_rounds_4 ?_
  refine f_getA 5 fk_X1_104 rfl hR.sh (fun _ _ => rfl) hX.f5 dX1_rounds_5 ?_
  refine f_getA 4 fk_X1_122 rfl hX.P.sh (fun _ _ => rfl) hX.P.f4 dX1_rounds_8 ?_
  refine g_callV0I (d' := 2) lk_X1_127 hX.P.l0.1 rfl (rm_lt (by decide) (by decide)) (Nat.le_of_ble_eq_true rfl) dX1_rounds_11 ?_
  refine js_size hX.P.l0 ?_
  refine g_is1 dX1_rounds_14 (by decide) rfl ?_
  refine g_iconst dX1_rounds_15 ?_
  refine g_il1 dX1_rounds_16 ?_
  refine g_ishl dX1_rounds_17 ?_
  refine g_iconst dX1_rounds_18 ?_
  refine g_isub dX1_rounds_19 ?_
  refine g_top (show _ = (((2 ^ (r 4).toNat - 1 : Nat)) : Int) by rw [ishl_i (by omega) (by omega)]; omega) ?_
  refine g_is2 dX1_rounds_20 (by decide) rfl ?_
  refine g_il2 dX1_rounds_21 ?_
  refine g_is3 dX1_rounds_22 (by decide) rfl ?_
  exact L23 (2 ^ (r 4).toNat + 1) _ _ _ _ _ (by omega) hF (by omega) (by omega) (fun u c u0 u1 c0 c1 q => by omega) hFar
end
