/-! THE COMPONENT: the tape is fed. Written by mod/ma3.py -/
set_option maxRecDepth 100000
section
variable {G : JG} {X lo : Nat} {σ σ' : JH} {tp fa pl tr p un im : Int} {B r s : Int → Int} {U I : Int → Int → Int} {T : XT} {L : XL} {dc du : Nat}
/-- the tape is written -/
theorem XS_.tpw {tp' : Int} {B' : Int → Int} (h : XS_ G X lo σ tp fa pl tr p un im B r s U I T L) (f : Gw_ (fun b k => b = X + 1 ∨ (b = X ∧ k = 1)) dc du σ σ') (hr : ∀ k, rv_ σ' X k = rv_ σ X k) (hlt : ∀ a s, sh_ σ a = some s → a < sz_ σ) (h1 : iv_ σ' X 1 = tp') (h2 : 0 ≤ tp' ∧ tp' ≤ 1000) (h3 : ∀ k, 0 ≤ k → k < tp' → iv_ σ' (X + 1) k = sby_ (B' k)) : XS_ G X lo σ' tp' fa pl tr p un im B' r s U I T L := by
  have hl := h.R.lt hlt
  have hge := h.R.ge
  have hk := h.R.k100
  have hR' : XR_ G X σ' := h.R.to (fun b hb => f.1 b (by omega)) (fun k _ _ => hr k)
  obtain ⟨a1, a2, ⟨-, ⟨b1, b2, b3⟩, b5⟩, a4, a5, a6, a7, a8, a9⟩ := h
  have ef := fun k (hk : k ≠ 1) => (f.2.1 X k (by omega) (fun q => by omega)).2
  refine ⟨⟨hR', ?_⟩, a2, ⟨⟨h1, h2, h3⟩, ⟨(ef 2 (by decide)).trans b1, (ef 3 (by decide)).trans b2, (ef 4 (by decide)).trans b3⟩, (f.1 _ (hlt _ _ b5)).trans b5⟩, a4, a5, ?_, ?_, a8, a9⟩
  · rcases a1.2 with q | q
    · exact Or.inl ⟨q.1, (hr 5).trans q.2⟩
    · exact Or.inr ⟨q.1, hR', (hr 5).trans q.2.f5, (hr 6).trans q.2.f6, q.2.P.gw f hlt (fun b k w => by omega) hk, q.2.K.gw f hlt (fun b k w => by omega)⟩
  · exact PL_.gw (xD_ T) a6 f hlt (fun k q => by omega) (fun k q => by have := a6.2.1; omega) (fun k k0 k1 b j b0 b1 q => by have := (a6.2.2.1 k k0 k1).1.1.2.1; omega)
  · exact PL_.gw (xD_ T) a7 f hlt (fun k q => by omega) (fun k q => by have := a7.2.1; omega) (fun k k0 k1 b j b0 b1 q => by have := (a7.2.2.1 k k0 k1).1.1.2.1; omega)
theorem sby_in {v : Int} (h : 0 ≤ v ∧ v ≤ 255) : -128 ≤ sby_ v ∧ sby_ v ≤ 127 := by
  unfold sby_
  split <;> omega
theorem xo_feed  {a b c d e : Int} {Q : Int → JH → Prop} (hS : XS_ G X lo σ tp fa pl tr p un im B r s U I T L)
    (hQ : ∀ (x tp' : Int) (B' : Int → Int) (σ' : JH), aFeed_ tp B a b c d e = (x, tp', B') → XS_ G X lo σ' tp' fa pl tr p un im B' r s U I T L → Gw_ (xw_ X lo) 0 0 σ σ' → Q x σ') : CallI_ G 2 yX1_feed cX1_feed 8 (some .int) [A_ (some X), I_ a, I_ b, I_ c, I_ d, I_ e] σ Q := by
  refine call_go [some (A_ (some X)), some (I_ a), some (I_ b), some (I_ c), some (I_ d), some (I_ e), none, none] (by decide) (Nat.le_of_ble_eq_true rfl) rfl ?_
  refine g_lt (fun hlt hgz => ?_)
  have hX0 := hS.R
  have hXs := hX0.sh
  have hXg := hX0.ge
  have hXtg := hX0.g0
  have hX0r := hX0.f0
  have hXt := hX0.a0
  have hl := hX0.lt hlt
  have htp := hS.2.2.1.1
  have htpv := htp.1
  have L18 : ∀ (fu : Nat) (σ' : JH) (k : Int) (v7 : Option AV), 20 - k < (fu : Int) → (Gw_ (fun b k => b = X + 1 ∧ tp ≤ k) 0 0 σ σ') → (tp + 20 ≤ 1000) → (0 ≤ k) → (k ≤ 20) → (∀ j, 0 ≤ j → j < k → iv_ σ' (X + 1) (tp + j) = sby_ (fb_ a b c d e j)) → GoM_ G 2 yX1_feed cX1_feed 8 (some .int) σ (fun v σ' => ∃ x : Int, v = some (I_ x) ∧ Q x σ') 18 [some (A_ (some X)), some (I_ a), some (I_ b), some (I_ c), some (I_ d), some (I_ e), some (I_ k), v7] [] σ' := by
    intro fu
    induction fu with
    | zero => intro σ' k v7 hn hw1 h20 k0 k1 hA; exact absurd hn (by omega)
    | succ fu ih =>
      intro σ' k v7 hn hw1 h20 k0 k1 hA
      have hXs := (hw1.1 X (by omega)).trans hX0.sh
      have hX0r := (hw1.2.1 X 0 (by omega) (by omega)).1.trans hX0.f0
      have hXt := (hw1.1 (X + 1) (by omega)).trans hX0.a0
      have htpv := (hw1.2.1 X 1 (by omega) (by omega)).2.trans htp.1
      refine g_il6 dX1_feed_18 ?_
      refine g_bipush dX1_feed_20 (by decide) (by decide) ?_
      refine g_icmp_ge (tgt := 105) dX1_feed_22 (by decide) (by omega) (fun h22 => ?_) (fun h22 => ?_)
      · refine g_al0 dX1_feed_105 ?_
        refine g_dup dX1_feed_106 rfl ?_
        refine f_getv 1 fk_X1_76 rfl hXs (fun _ _ => rfl) htpv dX1_feed_107 ?_
        refine g_bipush dX1_feed_110 (by decide) (by decide) ?_
        refine g_iadd dX1_feed_112 ?_
        refine f_putI 1 fk_X1_76 rfl (nf_ rfl rfl) hXs hXg rfl dX1_feed_113 ?_
        
        refine g_al0 dX1_feed_116 ?_
        refine f_getv 1 fk_X1_76 rfl hXs (fun _ _ => rfl) (show iv_ (pi_ σ' X 1 (tp + 20)) X 1 = tp + 20 by rw [iv_pi, if_pos ⟨rfl, rfl⟩]) dX1_feed_117 ?_
        exact g_iret rfl dX1_feed_120 ⟨_, rfl, by
          have g : Gw_ (fun b k => b = X + 1 ∨ (b = X ∧ k = 1)) 0 0 σ (pi_ σ' X 1 (tp + 20)) := (hw1.mono (fun b k _ q => Or.inl q.1) (Nat.le_refl _) (Nat.le_refl _)).pi (fun _ => Or.inr ⟨rfl, rfl⟩)
          refine hQ (tp + 20) (tp + 20) (fun j => if tp ≤ j ∧ j < tp + 20 then fb_ a b c d e (j - tp) else B j) _ (by unfold aFeed_; rw [if_neg (by omega)]) (hS.tpw g (fun j => (hw1.2.1 X j (by omega) (by omega)).1) hlt (by rw [iv_pi, if_pos ⟨rfl, rfl⟩]) (by omega) (fun j j0 j1 => ?_)) (g.mono (fun b k _ q => by unfold xw_; omega) (Nat.le_refl _) (Nat.le_refl _))
          rw [iv_pi, if_neg (by omega)]
          (try dsimp only)
          by_cases q : tp ≤ j
          · rw [if_pos ⟨q, j1⟩]
            have := hA (j - tp) (by omega) (by omega)
            rw [show tp + (j - tp) = j by omega] at this
            exact this
          · rw [if_neg (fun z => q z.1), (hw1.2.1 (X + 1) j (by omega) (fun z => by omega)).2]
            exact htp.2.2 j j0 (by omega)⟩
      have J71 : ∀ w : Int, w = (if k < 4 then a else if k < 8 then b else if k < 12 then c else if k < 16 then d else e) → GoM_ G 2 yX1_feed cX1_feed 8 (some .int) σ (fun v σ' => ∃ x : Int, v = some (I_ x) ∧ Q x σ') 71 [some (A_ (some X)), some (I_ a), some (I_ b), some (I_ c), some (I_ d), some (I_ e), some (I_ k), v7] [I_ w] σ' := by
        intro w hw
        refine g_is7 dX1_feed_71 (by decide) rfl ?_
        refine g_al0 dX1_feed_73 ?_
        refine f_getA 0 fk_X1_9 rfl hXs (fun _ _ => rfl) hX0r dX1_feed_74 ?_
        refine g_al0 dX1_feed_77 ?_
        refine f_getv 1 fk_X1_76 rfl hXs (fun _ _ => rfl) htpv dX1_feed_78 ?_
        refine g_il6 dX1_feed_81 ?_
        refine g_iadd dX1_feed_83 ?_
        refine g_il7 dX1_feed_84 ?_
        refine g_bipush dX1_feed_86 (by decide) (by decide) ?_
        refine g_bipush dX1_feed_88 (by decide) (by decide) ?_
        refine g_il6 dX1_feed_90 ?_
        refine g_iconst dX1_feed_92 ?_
        refine g_irem dX1_feed_93 (by omega) ?_
        refine g_imul dX1_feed_94 ?_
        refine g_isub dX1_feed_95 ?_
        refine g_iushr dX1_feed_96 ?_
        refine g_i2b dX1_feed_97 ?_
        have hn : 24 - 8 * (k % 4) = 0 ∨ 24 - 8 * (k % 4) = 8 ∨ 24 - 8 * (k % 4) = 16 ∨ 24 - 8 * (k % 4) = 24 := by omega
        have hfb := fb_law w hn
        have hby := and255 (ishr_ w (24 - 8 * (k % 4)))
        have hsb := sby_in hby
        refine g_bast hXt hXtg (by omega) (by rw [hfb]; exact hsb) dX1_feed_98 ?_
        refine g_inc6 dX1_feed_99 (by decide) rfl ?_
        refine g_goto (tgt := 18) dX1_feed_102 (by decide) ?_
        refine ih _ (k + 1) _ (by omega) (hw1.pi (fun _ => ⟨rfl, by omega⟩)) h20 (by omega) (by omega) (fun j j0 j1 => ?_)
        rw [iv_pi]
        by_cases q : j = k
        · rw [if_pos ⟨rfl, by rw [q]⟩, hfb, q, hw]
          rfl
        · rw [if_neg (fun z => q (by omega))]
          exact hA j j0 (by omega)
      refine g_il6 dX1_feed_25 ?_
      refine g_iconst dX1_feed_27 ?_
      refine g_icmp_ge (tgt := 35) dX1_feed_28 (by decide) (by omega) (fun h28 => ?_) (fun h28 => ?_)
      · refine g_il6 dX1_feed_35 ?_
        refine g_bipush dX1_feed_37 (by decide) (by decide) ?_
        refine g_icmp_ge (tgt := 46) dX1_feed_39 (by decide) (by omega) (fun h39 => ?_) (fun h39 => ?_)
        · refine g_il6 dX1_feed_46 ?_
          refine g_bipush dX1_feed_48 (by decide) (by decide) ?_
          refine g_icmp_ge (tgt := 57) dX1_feed_50 (by decide) (by omega) (fun h50 => ?_) (fun h50 => ?_)
          · refine g_il6 dX1_feed_57 ?_
            refine g_bipush dX1_feed_59 (by decide) (by decide) ?_
            refine g_icmp_ge (tgt := 69) dX1_feed_61 (by decide) (by omega) (fun h61 => ?_) (fun h61 => ?_)
            · refine g_il5 dX1_feed_69 ?_
              exact J71 _ (by first | exact (if_pos (by omega)).symm | (rw [if_neg (by omega)]; first | exact (if_pos (by omega)).symm | (rw [if_neg (by omega)]; first | exact (if_pos (by omega)).symm | (rw [if_neg (by omega)]; first | exact (if_pos (by omega)).symm | (rw [if_neg (by omega)])))))
            refine g_il4 dX1_feed_64 ?_
            refine g_goto (tgt := 71) dX1_feed_66 (by decide) ?_
            exact J71 _ (by first | exact (if_pos (by omega)).symm | (rw [if_neg (by omega)]; first | exact (if_pos (by omega)).symm | (rw [if_neg (by omega)]; first | exact (if_pos (by omega)).symm | (rw [if_neg (by omega)]; first | exact (if_pos (by omega)).symm | (rw [if_neg (by omega)])))))
          refine g_il3 dX1_feed_53 ?_
          refine g_goto (tgt := 71) dX1_feed_54 (by decide) ?_
          exact J71 _ (by first | exact (if_pos (by omega)).symm | (rw [if_neg (by omega)]; first | exact (if_pos (by omega)).symm | (rw [if_neg (by omega)]; first | exact (if_pos (by omega)).symm | (rw [if_neg (by omega)]; first | exact (if_pos (by omega)).symm | (rw [if_neg (by omega)])))))
        refine g_il2 dX1_feed_42 ?_
        refine g_goto (tgt := 71) dX1_feed_43 (by decide) ?_
        exact J71 _ (by first | exact (if_pos (by omega)).symm | (rw [if_neg (by omega)]; first | exact (if_pos (by omega)).symm | (rw [if_neg (by omega)]; first | exact (if_pos (by omega)).symm | (rw [if_neg (by omega)]; first | exact (if_pos (by omega)).symm | (rw [if_neg (by omega)])))))
      refine g_il1 dX1_feed_31 ?_
      refine g_goto (tgt := 71) dX1_feed_32 (by decide) ?_
      exact J71 _ (by first | exact (if_pos (by omega)).symm | (rw [if_neg (by omega)]; first | exact (if_pos (by omega)).symm | (rw [if_neg (by omega)]; first | exact (if_pos (by omega)).symm | (rw [if_neg (by omega)]; first | exact (if_pos (by omega)).symm | (rw [if_neg (by omega)])))))
  refine g_al0 dX1_feed_0 ?_
  refine f_getv 1 fk_X1_76 rfl hXs (fun _ _ => rfl) htpv dX1_feed_1 ?_
  refine g_bipush dX1_feed_4 (by decide) (by decide) ?_
  refine g_iadd dX1_feed_6 ?_
  refine g_sipush dX1_feed_7 (by decide) (by decide) ?_
  refine g_icmp_le (tgt := 15) dX1_feed_10 (by decide) (by omega) (fun h10 => ?_) (fun h10 => ?_)
  · refine g_iconst dX1_feed_15 ?_
    refine g_is6 dX1_feed_16 (by decide) rfl ?_
    exact L18 21 σ 0 _ (by omega) Gw_.rf (by omega) (by omega) (by omega) (fun j j0 j1 => by omega)
  refine g_iconst dX1_feed_13 ?_
  exact g_iret rfl dX1_feed_14 ⟨_, rfl, hQ _ _ _ _ (by unfold aFeed_; rw [if_pos (by omega)]) hS (Gw_.rf)⟩
end
