/-! THE REFERENCE: rounds; decades. Written by mod/m48.py -/
set_option maxRecDepth 100000
section
variable {G : JG} {m : Nat} {σ : JH} {r s : Int → Int}
def fwI_ (r s : Int → Int) (K i j : Int) : Int := fw_ r s K.toNat i j
theorem fwI_s {K : Int} (h : 0 ≤ K) (i j : Int) : fwI_ r s (K + 1) i j = if fwI_ r s K i K + fwI_ r s K K j < fwI_ r s K i j then fwI_ r s K i K + fwI_ r s K K j else fwI_ r s K i j := by
  unfold fwI_
  rw [show (K + 1).toNat = K.toNat + 1 by omega]
  simp only [fw_]
  rw [show ((K.toNat : Nat) : Int) = K by omega]
theorem fwI_a (hW : RW_ r) {K : Int} (h : 0 ≤ K) (i : Int) : fwI_ r s (K + 1) i K = fwI_ r s K i K := by
  have := fw_a (s := s) hW K.toNat i
  unfold fwI_
  rw [show ((K.toNat : Nat) : Int) = K by omega] at this
  rw [show (K + 1).toNat = K.toNat + 1 by omega]; exact this
theorem fwI_b (hW : RW_ r) {K : Int} (h : 0 ≤ K) (j : Int) : fwI_ r s (K + 1) K j = fwI_ r s K K j := by
  have := fw_b (s := s) hW K.toNat j
  unfold fwI_
  rw [show ((K.toNat : Nat) : Int) = K by omega] at this
  rw [show (K + 1).toNat = K.toNat + 1 by omega]; exact this
theorem fwI_in (hW : RW_ r) (K i j : Int) : 0 ≤ fwI_ r s K i j ∧ fwI_ r s K i j ≤ 1000000 := fw_in hW _ _ _
/-- the days between islands, as they are laid: by way of the first K; for those ahead of (i, j) of K + 1 -/
def FA_ (r s : Int → Int) (m : Nat) (σ : JH) (K i j : Int) : Prop := ∀ a b, 0 ≤ a → a < 7 → 0 ≤ b → b < 7 → iv_ σ (m + 14) (7 * a + b) = if a < i ∨ (a = i ∧ b < j) then fwI_ r s (K + 1) a b else fwI_ r s K a b
theorem FA_.a (hW : RW_ r) {K i j : Int} (h : FA_ r s m σ K i j) (hK : 0 ≤ K ∧ K < 7) (hi : 0 ≤ i ∧ i < 7) : iv_ σ (m + 14) (7 * i + K) = fwI_ r s K i K := by
  rw [h i K hi.1 hi.2 hK.1 hK.2]
  split
  · exact fwI_a hW hK.1 i
  · rfl
theorem FA_.b (hW : RW_ r) {K i j : Int} (h : FA_ r s m σ K i j) (hK : 0 ≤ K ∧ K < 7) (hj : 0 ≤ j ∧ j < 7) : iv_ σ (m + 14) (7 * K + j) = fwI_ r s K K j := by
  rw [h K j hK.1 hK.2 hj.1 hj.2]
  split
  · exact fwI_b hW hK.1 j
  · rfl
theorem FA_.c {K i j : Int} (h : FA_ r s m σ K i j) (hi : 0 ≤ i ∧ i < 7) (hj : 0 ≤ j ∧ j < 7) : iv_ σ (m + 14) (7 * i + j) = fwI_ r s K i j := by
  rw [h i j hi.1 hi.2 hj.1 hj.2, if_neg (by omega)]
theorem FA_.put {K i j x : Int} (h : FA_ r s m σ K i j) (hi : 0 ≤ i ∧ i < 7) (hj : 0 ≤ j ∧ j < 7) (hx : x = fwI_ r s (K + 1) i j) : FA_ r s m (pi_ σ (m + 14) (7 * i + j) x) K i (j + 1) := by
  intro a b a0 a1 b0 b1
  rw [iv_pi]
  by_cases hq : a = i ∧ b = j
  · rw [if_pos ⟨rfl, by omega⟩, if_pos (by omega), hx, hq.1, hq.2]
  · rw [if_neg (by omega), h a b a0 a1 b0 b1]
    by_cases hz : a < i ∨ (a = i ∧ b < j)
    · rw [if_pos hz, if_pos (by omega)]
    · rw [if_neg hz, if_neg (by omega)]
theorem FA_.keep {K i j : Int} (h : FA_ r s m σ K i j) (hx : fwI_ r s K i j = fwI_ r s (K + 1) i j) : FA_ r s m σ K i (j + 1) := by
  intro a b a0 a1 b0 b1
  rw [h a b a0 a1 b0 b1]
  by_cases hz : a < i ∨ (a = i ∧ b < j)
  · rw [if_pos hz, if_pos (by omega)]
  · rw [if_neg hz]
    by_cases hq : a = i ∧ b = j
    · rw [if_pos (by omega), hq.1, hq.2, hx]
    · rw [if_neg (by omega)]
theorem FA_.row {K i j : Int} (h : FA_ r s m σ K i j) (hj : 7 ≤ j) : FA_ r s m σ K (i + 1) 0 := by
  intro a b a0 a1 b0 b1
  rw [h a b a0 a1 b0 b1]
  by_cases hz : a < i ∨ (a = i ∧ b < j)
  · rw [if_pos hz, if_pos (by omega)]
  · rw [if_neg hz, if_neg (by omega)]
theorem FA_.nxt {K i j : Int} (h : FA_ r s m σ K i j) (hi : 7 ≤ i) : FA_ r s m σ (K + 1) 0 0 := by
  intro a b a0 a1 b0 b1
  rw [h a b a0 a1 b0 b1, if_pos (by omega), if_neg (by omega)]
def m14_ (m : Nat) (b : Nat) (_k : Int) : Prop := b = m + 14
theorem Fr_.m14 {m : Nat} {σ σ' : JH} (h : Fr_ (m14_ m) σ σ') : Fr_ (ms_ m) σ σ' := h.mono fun _ _ q => by unfold m14_ at q; unfold ms_; omega
theorem mo_layFar {Q : JH → Prop} (hM : MD_ G m σ r s) (hW : RW_ r)
    (hQ : ∀ σ', MD_ G m σ' r s → Fr_ (m14_ m) σ σ' → (∀ a b, 0 ≤ a → a < 7 → 0 ≤ b → b < 7 → iv_ σ' (m + 14) (7 * a + b) = fw_ r s 7 a b) → Q σ') : CallV_ G 5 yX2_layFar cX2_layFar 4 none [A_ (some m)] σ Q := by
  refine call_go [some (A_ (some m)), none, none, none] (by decide) (Nat.le_of_ble_eq_true rfl) rfl ?_
  have hn := hW.n
  have L109 : ∀ (n : Nat) (σ' : JH) (K : Int) (v2 : Option AV) (v3 : Option AV), 7 - K < (n : Int) → (MD_ G m σ' r s) → (Fr_ (m14_ m) σ σ') → (0 ≤ K) → (K ≤ 7) → (FA_ r s m σ' K 0 0) → GoM_ G 5 yX2_layFar cX2_layFar 4 none σ (fun v σ' => v = none ∧ Q σ') 109 [some (A_ (some m)), some (I_ K), v2, v3] [] σ' := by
    intro n
    induction n with
    | zero => intro σ' K v2 v3 hn hM hF h00 h1 hA; exact absurd hn (by omega)
    | succ n ih =>
      intro σ' K v2 v3 hn hM hF h00 h1 hA
      refine g_il1 dX2_layFar_109 ?_
      refine g_bipush dX2_layFar_110 (by decide) (by decide) ?_
      refine g_icmp_ge (tgt := 220) dX2_layFar_112 (by decide) (by omega) (fun h112 => ?_) (fun h112 => ?_)
      · exact g_vret rfl dX2_layFar_220 ⟨rfl, hQ _ hM hF (fun a b a0 a1 b0 b1 => by rw [hA a b a0 a1 b0 b1, if_neg (by omega), show K = 7 by omega]; rfl)⟩
      have L117 : ∀ (n : Nat) (σ' : JH) (i : Int) (v3 : Option AV), 7 - i < (n : Int) → (MD_ G m σ' r s) → (Fr_ (m14_ m) σ σ') → (0 ≤ i) → (i ≤ 7) → (FA_ r s m σ' K i 0) → GoM_ G 5 yX2_layFar cX2_layFar 4 none σ (fun v σ' => v = none ∧ Q σ') 117 [some (A_ (some m)), some (I_ K), some (I_ i), v3] [] σ' := by
        intro n2
        induction n2 with
        | zero => intro σ' i v3 hn hM hF f0 f1 hA; exact absurd hn (by omega)
        | succ n2 ih2 =>
          intro σ' i v3 hn hM hF f0 f1 hA
          refine g_il2 dX2_layFar_117 ?_
          refine g_bipush dX2_layFar_118 (by decide) (by decide) ?_
          refine g_icmp_ge (tgt := 214) dX2_layFar_120 (by decide) (by omega) (fun h120 => ?_) (fun h120 => ?_)
          · refine g_inc1 dX2_layFar_214 (by decide) rfl ?_
            refine g_goto (tgt := 109) dX2_layFar_217 (by decide) ?_
            exact ih _ _ _ _ (by omega) hM hF (by omega) (by omega) (hA.nxt (by omega))
          have L125 : ∀ (n : Nat) (σ' : JH) (j : Int), 7 - j < (n : Int) → (MD_ G m σ' r s) → (Fr_ (m14_ m) σ σ') → (0 ≤ j) → (j ≤ 7) → (FA_ r s m σ' K i j) → GoM_ G 5 yX2_layFar cX2_layFar 4 none σ (fun v σ' => v = none ∧ Q σ') 125 [some (A_ (some m)), some (I_ K), some (I_ i), some (I_ j)] [] σ' := by
            intro n3
            induction n3 with
            | zero => intro σ' j hn hM hF g0 g1 hA; exact absurd hn (by omega)
            | succ n3 ih3 =>
              intro σ' j hn hM hF g0 g1 hA
              refine g_il3 dX2_layFar_125 ?_
              refine g_bipush dX2_layFar_126 (by decide) (by decide) ?_
              refine g_icmp_ge (tgt := 208) dX2_layFar_128 (by decide) (by omega) (fun h128 => ?_) (fun h128 => ?_)
              · refine g_inc2 dX2_layFar_208 (by decide) rfl ?_
                refine g_goto (tgt := 117) dX2_layFar_211 (by decide) ?_
                exact ih2 _ _ _ (by omega) hM hF (by omega) (by omega) (hA.row (by omega))
              have b1 := fwI_in (s := s) hW K i K
              have b2 := fwI_in (s := s) hW K K j
              have b3 := fwI_in (s := s) hW K i j
              have hs := fwI_s (r := r) (s := s) h00 i j
              refine g_al0 dX2_layFar_131 ?_
              refine f_getA 35 fk_X2_53 rfl hM.sh (fun _ _ => rfl) hM.f35 dX2_layFar_132 ?_
              refine g_bipush dX2_layFar_135 (by decide) (by decide) ?_
              refine g_il2 dX2_layFar_137 ?_
              refine g_imul dX2_layFar_138 ?_
              refine g_il1 dX2_layFar_139 ?_
              refine g_iadd dX2_layFar_140 ?_
              refine g_ialv hM.a35 (by omega) (hA.a hW (by omega) (by omega)) dX2_layFar_141 ?_
              refine g_al0 dX2_layFar_142 ?_
              refine f_getA 35 fk_X2_53 rfl hM.sh (fun _ _ => rfl) hM.f35 dX2_layFar_143 ?_
              refine g_bipush dX2_layFar_146 (by decide) (by decide) ?_
              refine g_il1 dX2_layFar_148 ?_
              refine g_imul dX2_layFar_149 ?_
              refine g_il3 dX2_layFar_150 ?_
              refine g_iadd dX2_layFar_151 ?_
              refine g_ialv hM.a35 (by omega) (hA.b hW (by omega) (by omega)) dX2_layFar_152 ?_
              refine g_iadd dX2_layFar_153 ?_
              refine g_al0 dX2_layFar_154 ?_
              refine f_getA 35 fk_X2_53 rfl hM.sh (fun _ _ => rfl) hM.f35 dX2_layFar_155 ?_
              refine g_bipush dX2_layFar_158 (by decide) (by decide) ?_
              refine g_il2 dX2_layFar_160 ?_
              refine g_imul dX2_layFar_161 ?_
              refine g_il3 dX2_layFar_162 ?_
              refine g_iadd dX2_layFar_163 ?_
              refine g_ialv hM.a35 (by omega) (hA.c (by omega) (by omega)) dX2_layFar_164 ?_
              refine g_icmp_ge (tgt := 202) dX2_layFar_165 (by decide) (by omega) (fun h165 => ?_) (fun h165 => ?_)
              · refine g_inc3 dX2_layFar_202 (by decide) rfl ?_
                refine g_goto (tgt := 125) dX2_layFar_205 (by decide) ?_
                exact ih3 _ _ (by omega) hM hF (by omega) (by omega) (hA.keep (by rw [hs, if_neg (by omega)]))
              refine g_al0 dX2_layFar_168 ?_
              refine f_getA 35 fk_X2_53 rfl hM.sh (fun _ _ => rfl) hM.f35 dX2_layFar_169 ?_
              refine g_bipush dX2_layFar_172 (by decide) (by decide) ?_
              refine g_il2 dX2_layFar_174 ?_
              refine g_imul dX2_layFar_175 ?_
              refine g_il3 dX2_layFar_176 ?_
              refine g_iadd dX2_layFar_177 ?_
              refine g_al0 dX2_layFar_178 ?_
              refine f_getA 35 fk_X2_53 rfl hM.sh (fun _ _ => rfl) hM.f35 dX2_layFar_179 ?_
              refine g_bipush dX2_layFar_182 (by decide) (by decide) ?_
              refine g_il2 dX2_layFar_184 ?_
              refine g_imul dX2_layFar_185 ?_
              refine g_il1 dX2_layFar_186 ?_
              refine g_iadd dX2_layFar_187 ?_
              refine g_ialv hM.a35 (by omega) (hA.a hW (by omega) (by omega)) dX2_layFar_188 ?_
              refine g_al0 dX2_layFar_189 ?_
              refine f_getA 35 fk_X2_53 rfl hM.sh (fun _ _ => rfl) hM.f35 dX2_layFar_190 ?_
              refine g_bipush dX2_layFar_193 (by decide) (by decide) ?_
              refine g_il1 dX2_layFar_195 ?_
              refine g_imul dX2_layFar_196 ?_
              refine g_il3 dX2_layFar_197 ?_
              refine g_iadd dX2_layFar_198 ?_
              refine g_ialv hM.a35 (by omega) (hA.b hW (by omega) (by omega)) dX2_layFar_199 ?_
              refine g_iadd dX2_layFar_200 ?_
              refine g_iast hM.a35 hM.g35 (by omega) dX2_layFar_201 ?_
              refine g_inc3 dX2_layFar_202 (by decide) rfl ?_
              refine g_goto (tgt := 125) dX2_layFar_205 (by decide) ?_
              exact ih3 _ _ (by omega) (hM.pi ⟨by omega, by omega⟩) (hF.pi rfl) (by omega) (by omega) (hA.put (by omega) (by omega) (by rw [hs, if_pos (by omega)]))
          refine g_iconst dX2_layFar_123 ?_
          refine g_is3 dX2_layFar_124 (by decide) rfl ?_
          exact L125 8 _ _ (by omega) hM hF (by omega) (by omega) hA
      refine g_iconst dX2_layFar_115 ?_
      refine g_is2 dX2_layFar_116 (by decide) rfl ?_
      exact L117 8 _ _ _ (by omega) hM hF (by omega) (by omega) hA
  have L2 : ∀ (n : Nat) (σ' : JH) (i : Int) (v2 : Option AV) (v3 : Option AV), 7 - i < (n : Int) → (MD_ G m σ' r s) → (Fr_ (m14_ m) σ σ') → (0 ≤ i) → (i ≤ 7) → (∀ a b, 0 ≤ a → 0 ≤ b → b < 7 → a < i → iv_ σ' (m + 14) (7 * a + b) = d0_ r s a b) → GoM_ G 5 yX2_layFar cX2_layFar 4 none σ (fun v σ' => v = none ∧ Q σ') 2 [some (A_ (some m)), some (I_ i), v2, v3] [] σ' := by
    intro n
    induction n with
    | zero => intro σ' i v2 v3 hn hM hF f0 f1 hA; exact absurd hn (by omega)
    | succ n ih =>
      intro σ' i v2 v3 hn hM hF f0 f1 hA
      refine g_il1 dX2_layFar_2 ?_
      refine g_bipush dX2_layFar_3 (by decide) (by decide) ?_
      refine g_icmp_ge (tgt := 107) dX2_layFar_5 (by decide) (by omega) (fun h5 => ?_) (fun h5 => ?_)
      · refine g_iconst dX2_layFar_107 ?_
        refine g_is1 dX2_layFar_108 (by decide) rfl ?_
        exact L109 8 _ _ _ _ (by omega) hM hF (by omega) (by omega) (fun a b a0 a1 b0 b1 => by rw [if_neg (by omega)]; exact hA a b a0 b0 b1 (by omega))
      have L10 : ∀ (n : Nat) (σ' : JH) (j : Int) (v3 : Option AV), 7 - j < (n : Int) → (MD_ G m σ' r s) → (Fr_ (m14_ m) σ σ') → (0 ≤ j) → (j ≤ 7) → (∀ a b, 0 ≤ a → 0 ≤ b → b < 7 → (a < i ∨ (a = i ∧ b < j)) → iv_ σ' (m + 14) (7 * a + b) = d0_ r s a b) → GoM_ G 5 yX2_layFar cX2_layFar 4 none σ (fun v σ' => v = none ∧ Q σ') 10 [some (A_ (some m)), some (I_ i), some (I_ j), v3] [] σ' := by
        intro n2
        induction n2 with
        | zero => intro σ' j v3 hn hM hF g0 g1 hA; exact absurd hn (by omega)
        | succ n2 ih2 =>
          intro σ' j v3 hn hM hF g0 g1 hA
          refine g_il2 dX2_layFar_10 ?_
          refine g_bipush dX2_layFar_11 (by decide) (by decide) ?_
          refine g_icmp_ge (tgt := 101) dX2_layFar_13 (by decide) (by omega) (fun h13 => ?_) (fun h13 => ?_)
          · refine g_inc1 dX2_layFar_101 (by decide) rfl ?_
            refine g_goto (tgt := 2) dX2_layFar_104 (by decide) ?_
            exact ih _ _ _ _ (by omega) hM hF (by omega) (by omega) (fun a b a0 b0 b1 q => hA a b a0 b0 b1 (by omega))
          refine g_il1 dX2_layFar_16 ?_
          refine g_al0 dX2_layFar_17 ?_
          refine f_getA 15 fk_X2_20 rfl hM.sh (fun _ _ => rfl) hM.f15 dX2_layFar_18 ?_
          refine g_iconst dX2_layFar_21 ?_
          refine g_ialv hM.a15 (by omega) (hM.rr _) dX2_layFar_22 ?_
          refine g_icmp_ge (tgt := 50) dX2_layFar_23 (by decide) (by omega) (fun h23 => ?_) (fun h23 => ?_)
          · refine g_iconst dX2_layFar_50 ?_
            refine g_is3 dX2_layFar_51 (by decide) rfl ?_
            refine g_al0 dX2_layFar_52 ?_
            refine f_getA 35 fk_X2_53 rfl hM.sh (fun _ _ => rfl) hM.f35 dX2_layFar_53 ?_
            refine g_bipush dX2_layFar_56 (by decide) (by decide) ?_
            refine g_il1 dX2_layFar_58 ?_
            refine g_imul dX2_layFar_59 ?_
            refine g_il2 dX2_layFar_60 ?_
            refine g_iadd dX2_layFar_61 ?_
            refine g_il1 dX2_layFar_62 ?_
            refine g_il2 dX2_layFar_63 ?_
            refine g_icmp_ne (tgt := 71) dX2_layFar_64 (by decide) (by omega) (fun h64 => ?_) (fun h64 => ?_)
            · refine g_il3 dX2_layFar_71 ?_
              refine g_if_ge (tgt := 81) dX2_layFar_72 (by decide) (by omega) (fun h72 => ?_) (fun h72 => ?_)
              · refine g_al0 dX2_layFar_81 ?_
                refine f_getA 15 fk_X2_20 rfl hM.sh (fun _ _ => rfl) hM.f15 dX2_layFar_82 ?_
                refine g_bipush dX2_layFar_85 (by decide) (by decide) ?_
                refine g_iconst dX2_layFar_87 ?_
                refine g_il3 dX2_layFar_88 ?_
                refine g_imul dX2_layFar_89 ?_
                refine g_iadd dX2_layFar_90 ?_
                refine g_iconst dX2_layFar_91 ?_
                refine g_iadd dX2_layFar_92 ?_
                refine g_ialv hM.a15 (by omega) (hM.rrx (j := 61 + 4 * wo_ r s i j) (by omega)) dX2_layFar_93 ?_
                refine g_top (show _ = d0_ r s i j by unfold d0_; first | (exfalso; omega) | (rw [if_pos (by omega)]) | (rw [if_neg (by omega), if_pos (by omega), if_pos (by omega)]) | (rw [if_neg (by omega), if_pos (by omega), if_neg (by omega)]) | (rw [if_neg (by omega), if_neg (by omega)])) ?_
                refine g_iast hM.a35 hM.g35 (by omega) dX2_layFar_94 ?_
                refine g_inc2 dX2_layFar_95 (by decide) rfl ?_
                refine g_goto (tgt := 10) dX2_layFar_98 (by decide) ?_
                refine ih2 _ _ _ (by omega) (hM.pi ⟨by omega, by omega⟩) (hF.pi rfl) (by omega) (by omega) (fun a b a0 b0 b1 q => ?_)
                rw [iv_pi]
                by_cases hq : a = i ∧ b = j
                · rw [if_pos ⟨rfl, by omega⟩, hq.1, hq.2]
                · rw [if_neg (by omega)]; exact hA a b a0 b0 b1 (by omega)
              refine g_ldcw (x := 1000000) q2130 dX2_layFar_75 (by decide) ?_
              refine g_goto (tgt := 94) dX2_layFar_78 (by decide) ?_
              refine g_top (show _ = d0_ r s i j by unfold d0_; first | (exfalso; omega) | (rw [if_pos (by omega)]) | (rw [if_neg (by omega), if_pos (by omega), if_pos (by omega)]) | (rw [if_neg (by omega), if_pos (by omega), if_neg (by omega)]) | (rw [if_neg (by omega), if_neg (by omega)])) ?_
              refine g_iast hM.a35 hM.g35 (by omega) dX2_layFar_94 ?_
              refine g_inc2 dX2_layFar_95 (by decide) rfl ?_
              refine g_goto (tgt := 10) dX2_layFar_98 (by decide) ?_
              refine ih2 _ _ _ (by omega) (hM.pi ⟨by omega, by omega⟩) (hF.pi rfl) (by omega) (by omega) (fun a b a0 b0 b1 q => ?_)
              rw [iv_pi]
              by_cases hq : a = i ∧ b = j
              · rw [if_pos ⟨rfl, by omega⟩, hq.1, hq.2]
              · rw [if_neg (by omega)]; exact hA a b a0 b0 b1 (by omega)
            refine g_iconst dX2_layFar_67 ?_
            refine g_goto (tgt := 94) dX2_layFar_68 (by decide) ?_
            refine g_top (show _ = d0_ r s i j by unfold d0_; first | (exfalso; omega) | (rw [if_pos (by omega)]) | (rw [if_neg (by omega), if_pos (by omega), if_pos (by omega)]) | (rw [if_neg (by omega), if_pos (by omega), if_neg (by omega)]) | (rw [if_neg (by omega), if_neg (by omega)])) ?_
            refine g_iast hM.a35 hM.g35 (by omega) dX2_layFar_94 ?_
            refine g_inc2 dX2_layFar_95 (by decide) rfl ?_
            refine g_goto (tgt := 10) dX2_layFar_98 (by decide) ?_
            refine ih2 _ _ _ (by omega) (hM.pi ⟨by omega, by omega⟩) (hF.pi rfl) (by omega) (by omega) (fun a b a0 b0 b1 q => ?_)
            rw [iv_pi]
            by_cases hq : a = i ∧ b = j
            · rw [if_pos ⟨rfl, by omega⟩, hq.1, hq.2]
            · rw [if_neg (by omega)]; exact hA a b a0 b0 b1 (by omega)
          refine g_il2 dX2_layFar_26 ?_
          refine g_al0 dX2_layFar_27 ?_
          refine f_getA 15 fk_X2_20 rfl hM.sh (fun _ _ => rfl) hM.f15 dX2_layFar_28 ?_
          refine g_iconst dX2_layFar_31 ?_
          refine g_ialv hM.a15 (by omega) (hM.rr _) dX2_layFar_32 ?_
          refine g_icmp_ge (tgt := 50) dX2_layFar_33 (by decide) (by omega) (fun h33 => ?_) (fun h33 => ?_)
          · refine g_iconst dX2_layFar_50 ?_
            refine g_is3 dX2_layFar_51 (by decide) rfl ?_
            refine g_al0 dX2_layFar_52 ?_
            refine f_getA 35 fk_X2_53 rfl hM.sh (fun _ _ => rfl) hM.f35 dX2_layFar_53 ?_
            refine g_bipush dX2_layFar_56 (by decide) (by decide) ?_
            refine g_il1 dX2_layFar_58 ?_
            refine g_imul dX2_layFar_59 ?_
            refine g_il2 dX2_layFar_60 ?_
            refine g_iadd dX2_layFar_61 ?_
            refine g_il1 dX2_layFar_62 ?_
            refine g_il2 dX2_layFar_63 ?_
            refine g_icmp_ne (tgt := 71) dX2_layFar_64 (by decide) (by omega) (fun h64 => ?_) (fun h64 => ?_)
            · refine g_il3 dX2_layFar_71 ?_
              refine g_if_ge (tgt := 81) dX2_layFar_72 (by decide) (by omega) (fun h72 => ?_) (fun h72 => ?_)
              · refine g_al0 dX2_layFar_81 ?_
                refine f_getA 15 fk_X2_20 rfl hM.sh (fun _ _ => rfl) hM.f15 dX2_layFar_82 ?_
                refine g_bipush dX2_layFar_85 (by decide) (by decide) ?_
                refine g_iconst dX2_layFar_87 ?_
                refine g_il3 dX2_layFar_88 ?_
                refine g_imul dX2_layFar_89 ?_
                refine g_iadd dX2_layFar_90 ?_
                refine g_iconst dX2_layFar_91 ?_
                refine g_iadd dX2_layFar_92 ?_
                refine g_ialv hM.a15 (by omega) (hM.rrx (j := 61 + 4 * wo_ r s i j) (by omega)) dX2_layFar_93 ?_
                refine g_top (show _ = d0_ r s i j by unfold d0_; first | (exfalso; omega) | (rw [if_pos (by omega)]) | (rw [if_neg (by omega), if_pos (by omega), if_pos (by omega)]) | (rw [if_neg (by omega), if_pos (by omega), if_neg (by omega)]) | (rw [if_neg (by omega), if_neg (by omega)])) ?_
                refine g_iast hM.a35 hM.g35 (by omega) dX2_layFar_94 ?_
                refine g_inc2 dX2_layFar_95 (by decide) rfl ?_
                refine g_goto (tgt := 10) dX2_layFar_98 (by decide) ?_
                refine ih2 _ _ _ (by omega) (hM.pi ⟨by omega, by omega⟩) (hF.pi rfl) (by omega) (by omega) (fun a b a0 b0 b1 q => ?_)
                rw [iv_pi]
                by_cases hq : a = i ∧ b = j
                · rw [if_pos ⟨rfl, by omega⟩, hq.1, hq.2]
                · rw [if_neg (by omega)]; exact hA a b a0 b0 b1 (by omega)
              refine g_ldcw (x := 1000000) q2130 dX2_layFar_75 (by decide) ?_
              refine g_goto (tgt := 94) dX2_layFar_78 (by decide) ?_
              refine g_top (show _ = d0_ r s i j by unfold d0_; first | (exfalso; omega) | (rw [if_pos (by omega)]) | (rw [if_neg (by omega), if_pos (by omega), if_pos (by omega)]) | (rw [if_neg (by omega), if_pos (by omega), if_neg (by omega)]) | (rw [if_neg (by omega), if_neg (by omega)])) ?_
              refine g_iast hM.a35 hM.g35 (by omega) dX2_layFar_94 ?_
              refine g_inc2 dX2_layFar_95 (by decide) rfl ?_
              refine g_goto (tgt := 10) dX2_layFar_98 (by decide) ?_
              refine ih2 _ _ _ (by omega) (hM.pi ⟨by omega, by omega⟩) (hF.pi rfl) (by omega) (by omega) (fun a b a0 b0 b1 q => ?_)
              rw [iv_pi]
              by_cases hq : a = i ∧ b = j
              · rw [if_pos ⟨rfl, by omega⟩, hq.1, hq.2]
              · rw [if_neg (by omega)]; exact hA a b a0 b0 b1 (by omega)
            refine g_iconst dX2_layFar_67 ?_
            refine g_goto (tgt := 94) dX2_layFar_68 (by decide) ?_
            refine g_top (show _ = d0_ r s i j by unfold d0_; first | (exfalso; omega) | (rw [if_pos (by omega)]) | (rw [if_neg (by omega), if_pos (by omega), if_pos (by omega)]) | (rw [if_neg (by omega), if_pos (by omega), if_neg (by omega)]) | (rw [if_neg (by omega), if_neg (by omega)])) ?_
            refine g_iast hM.a35 hM.g35 (by omega) dX2_layFar_94 ?_
            refine g_inc2 dX2_layFar_95 (by decide) rfl ?_
            refine g_goto (tgt := 10) dX2_layFar_98 (by decide) ?_
            refine ih2 _ _ _ (by omega) (hM.pi ⟨by omega, by omega⟩) (hF.pi rfl) (by omega) (by omega) (fun a b a0 b0 b1 q => ?_)
            rw [iv_pi]
            by_cases hq : a = i ∧ b = j
            · rw [if_pos ⟨rfl, by omega⟩, hq.1, hq.2]
            · rw [if_neg (by omega)]; exact hA a b a0 b0 b1 (by omega)
          refine g_il1 dX2_layFar_36 ?_
          refine g_il2 dX2_layFar_37 ?_
          refine g_icmp_eq (tgt := 50) dX2_layFar_38 (by decide) (by omega) (fun h38 => ?_) (fun h38 => ?_)
          · refine g_iconst dX2_layFar_50 ?_
            refine g_is3 dX2_layFar_51 (by decide) rfl ?_
            refine g_al0 dX2_layFar_52 ?_
            refine f_getA 35 fk_X2_53 rfl hM.sh (fun _ _ => rfl) hM.f35 dX2_layFar_53 ?_
            refine g_bipush dX2_layFar_56 (by decide) (by decide) ?_
            refine g_il1 dX2_layFar_58 ?_
            refine g_imul dX2_layFar_59 ?_
            refine g_il2 dX2_layFar_60 ?_
            refine g_iadd dX2_layFar_61 ?_
            refine g_il1 dX2_layFar_62 ?_
            refine g_il2 dX2_layFar_63 ?_
            refine g_icmp_ne (tgt := 71) dX2_layFar_64 (by decide) (by omega) (fun h64 => ?_) (fun h64 => ?_)
            · refine g_il3 dX2_layFar_71 ?_
              refine g_if_ge (tgt := 81) dX2_layFar_72 (by decide) (by omega) (fun h72 => ?_) (fun h72 => ?_)
              · refine g_al0 dX2_layFar_81 ?_
                refine f_getA 15 fk_X2_20 rfl hM.sh (fun _ _ => rfl) hM.f15 dX2_layFar_82 ?_
                refine g_bipush dX2_layFar_85 (by decide) (by decide) ?_
                refine g_iconst dX2_layFar_87 ?_
                refine g_il3 dX2_layFar_88 ?_
                refine g_imul dX2_layFar_89 ?_
                refine g_iadd dX2_layFar_90 ?_
                refine g_iconst dX2_layFar_91 ?_
                refine g_iadd dX2_layFar_92 ?_
                refine g_ialv hM.a15 (by omega) (hM.rrx (j := 61 + 4 * wo_ r s i j) (by omega)) dX2_layFar_93 ?_
                refine g_top (show _ = d0_ r s i j by unfold d0_; first | (exfalso; omega) | (rw [if_pos (by omega)]) | (rw [if_neg (by omega), if_pos (by omega), if_pos (by omega)]) | (rw [if_neg (by omega), if_pos (by omega), if_neg (by omega)]) | (rw [if_neg (by omega), if_neg (by omega)])) ?_
                refine g_iast hM.a35 hM.g35 (by omega) dX2_layFar_94 ?_
                refine g_inc2 dX2_layFar_95 (by decide) rfl ?_
                refine g_goto (tgt := 10) dX2_layFar_98 (by decide) ?_
                refine ih2 _ _ _ (by omega) (hM.pi ⟨by omega, by omega⟩) (hF.pi rfl) (by omega) (by omega) (fun a b a0 b0 b1 q => ?_)
                rw [iv_pi]
                by_cases hq : a = i ∧ b = j
                · rw [if_pos ⟨rfl, by omega⟩, hq.1, hq.2]
                · rw [if_neg (by omega)]; exact hA a b a0 b0 b1 (by omega)
              refine g_ldcw (x := 1000000) q2130 dX2_layFar_75 (by decide) ?_
              refine g_goto (tgt := 94) dX2_layFar_78 (by decide) ?_
              refine g_top (show _ = d0_ r s i j by unfold d0_; first | (exfalso; omega) | (rw [if_pos (by omega)]) | (rw [if_neg (by omega), if_pos (by omega), if_pos (by omega)]) | (rw [if_neg (by omega), if_pos (by omega), if_neg (by omega)]) | (rw [if_neg (by omega), if_neg (by omega)])) ?_
              refine g_iast hM.a35 hM.g35 (by omega) dX2_layFar_94 ?_
              refine g_inc2 dX2_layFar_95 (by decide) rfl ?_
              refine g_goto (tgt := 10) dX2_layFar_98 (by decide) ?_
              refine ih2 _ _ _ (by omega) (hM.pi ⟨by omega, by omega⟩) (hF.pi rfl) (by omega) (by omega) (fun a b a0 b0 b1 q => ?_)
              rw [iv_pi]
              by_cases hq : a = i ∧ b = j
              · rw [if_pos ⟨rfl, by omega⟩, hq.1, hq.2]
              · rw [if_neg (by omega)]; exact hA a b a0 b0 b1 (by omega)
            refine g_iconst dX2_layFar_67 ?_
            refine g_goto (tgt := 94) dX2_layFar_68 (by decide) ?_
            refine g_top (show _ = d0_ r s i j by unfold d0_; first | (exfalso; omega) | (rw [if_pos (by omega)]) | (rw [if_neg (by omega), if_pos (by omega), if_pos (by omega)]) | (rw [if_neg (by omega), if_pos (by omega), if_neg (by omega)]) | (rw [if_neg (by omega), if_neg (by omega)])) ?_
            refine g_iast hM.a35 hM.g35 (by omega) dX2_layFar_94 ?_
            refine g_inc2 dX2_layFar_95 (by decide) rfl ?_
            refine g_goto (tgt := 10) dX2_layFar_98 (by decide) ?_
            refine ih2 _ _ _ (by omega) (hM.pi ⟨by omega, by omega⟩) (hF.pi rfl) (by omega) (by omega) (fun a b a0 b0 b1 q => ?_)
            rw [iv_pi]
            by_cases hq : a = i ∧ b = j
            · rw [if_pos ⟨rfl, by omega⟩, hq.1, hq.2]
            · rw [if_neg (by omega)]; exact hA a b a0 b0 b1 (by omega)
          refine g_al0 dX2_layFar_41 ?_
          refine g_il1 dX2_layFar_42 ?_
          refine g_il2 dX2_layFar_43 ?_
          refine g_callV2I (d' := 4) lk_X2_305 hM.sh rfl (rm_lt (by decide) (by decide)) (Nat.le_of_ble_eq_true rfl) dX2_layFar_44 ?_
          refine mo_wayOf hM hW (by omega) (by omega) ?_
          have hwo := wo_in (r := r) (s := s) (a := i) (b := j) (by omega)
          refine g_goto (tgt := 51) dX2_layFar_47 (by decide) ?_
          refine g_is3 dX2_layFar_51 (by decide) rfl ?_
          refine g_al0 dX2_layFar_52 ?_
          refine f_getA 35 fk_X2_53 rfl hM.sh (fun _ _ => rfl) hM.f35 dX2_layFar_53 ?_
          refine g_bipush dX2_layFar_56 (by decide) (by decide) ?_
          refine g_il1 dX2_layFar_58 ?_
          refine g_imul dX2_layFar_59 ?_
          refine g_il2 dX2_layFar_60 ?_
          refine g_iadd dX2_layFar_61 ?_
          refine g_il1 dX2_layFar_62 ?_
          refine g_il2 dX2_layFar_63 ?_
          refine g_icmp_ne (tgt := 71) dX2_layFar_64 (by decide) (by omega) (fun h64 => ?_) (fun h64 => ?_)
          · refine g_il3 dX2_layFar_71 ?_
            refine g_if_ge (tgt := 81) dX2_layFar_72 (by decide) (by omega) (fun h72 => ?_) (fun h72 => ?_)
            · refine g_al0 dX2_layFar_81 ?_
              refine f_getA 15 fk_X2_20 rfl hM.sh (fun _ _ => rfl) hM.f15 dX2_layFar_82 ?_
              refine g_bipush dX2_layFar_85 (by decide) (by decide) ?_
              refine g_iconst dX2_layFar_87 ?_
              refine g_il3 dX2_layFar_88 ?_
              refine g_imul dX2_layFar_89 ?_
              refine g_iadd dX2_layFar_90 ?_
              refine g_iconst dX2_layFar_91 ?_
              refine g_iadd dX2_layFar_92 ?_
              refine g_ialv hM.a15 (by omega) (hM.rrx (j := 61 + 4 * wo_ r s i j) (by omega)) dX2_layFar_93 ?_
              refine g_top (show _ = d0_ r s i j by unfold d0_; first | (exfalso; omega) | (rw [if_pos (by omega)]) | (rw [if_neg (by omega), if_pos (by omega), if_pos (by omega)]) | (rw [if_neg (by omega), if_pos (by omega), if_neg (by omega)]) | (rw [if_neg (by omega), if_neg (by omega)])) ?_
              refine g_iast hM.a35 hM.g35 (by omega) dX2_layFar_94 ?_
              refine g_inc2 dX2_layFar_95 (by decide) rfl ?_
              refine g_goto (tgt := 10) dX2_layFar_98 (by decide) ?_
              refine ih2 _ _ _ (by omega) (hM.pi ⟨by omega, by omega⟩) (hF.pi rfl) (by omega) (by omega) (fun a b a0 b0 b1 q => ?_)
              rw [iv_pi]
              by_cases hq : a = i ∧ b = j
              · rw [if_pos ⟨rfl, by omega⟩, hq.1, hq.2]
              · rw [if_neg (by omega)]; exact hA a b a0 b0 b1 (by omega)
            refine g_ldcw (x := 1000000) q2130 dX2_layFar_75 (by decide) ?_
            refine g_goto (tgt := 94) dX2_layFar_78 (by decide) ?_
            refine g_top (show _ = d0_ r s i j by unfold d0_; first | (exfalso; omega) | (rw [if_pos (by omega)]) | (rw [if_neg (by omega), if_pos (by omega), if_pos (by omega)]) | (rw [if_neg (by omega), if_pos (by omega), if_neg (by omega)]) | (rw [if_neg (by omega), if_neg (by omega)])) ?_
            refine g_iast hM.a35 hM.g35 (by omega) dX2_layFar_94 ?_
            refine g_inc2 dX2_layFar_95 (by decide) rfl ?_
            refine g_goto (tgt := 10) dX2_layFar_98 (by decide) ?_
            refine ih2 _ _ _ (by omega) (hM.pi ⟨by omega, by omega⟩) (hF.pi rfl) (by omega) (by omega) (fun a b a0 b0 b1 q => ?_)
            rw [iv_pi]
            by_cases hq : a = i ∧ b = j
            · rw [if_pos ⟨rfl, by omega⟩, hq.1, hq.2]
            · rw [if_neg (by omega)]; exact hA a b a0 b0 b1 (by omega)
          refine g_iconst dX2_layFar_67 ?_
          refine g_goto (tgt := 94) dX2_layFar_68 (by decide) ?_
          refine g_top (show _ = d0_ r s i j by unfold d0_; first | (exfalso; omega) | (rw [if_pos (by omega)]) | (rw [if_neg (by omega), if_pos (by omega), if_pos (by omega)]) | (rw [if_neg (by omega), if_pos (by omega), if_neg (by omega)]) | (rw [if_neg (by omega), if_neg (by omega)])) ?_
          refine g_iast hM.a35 hM.g35 (by omega) dX2_layFar_94 ?_
          refine g_inc2 dX2_layFar_95 (by decide) rfl ?_
          refine g_goto (tgt := 10) dX2_layFar_98 (by decide) ?_
          refine ih2 _ _ _ (by omega) (hM.pi ⟨by omega, by omega⟩) (hF.pi rfl) (by omega) (by omega) (fun a b a0 b0 b1 q => ?_)
          rw [iv_pi]
          by_cases hq : a = i ∧ b = j
          · rw [if_pos ⟨rfl, by omega⟩, hq.1, hq.2]
          · rw [if_neg (by omega)]; exact hA a b a0 b0 b1 (by omega)
      refine g_iconst dX2_layFar_8 ?_
      refine g_is2 dX2_layFar_9 (by decide) rfl ?_
      exact L10 8 _ _ _ (by omega) hM hF (by omega) (by omega) (fun a b a0 b0 b1 q => hA a b a0 b0 b1 (by omega))
  refine g_iconst dX2_layFar_0 ?_
  refine g_is1 dX2_layFar_1 (by decide) rfl ?_
  exact L2 8 _ _ _ _ (by omega) hM Fr_.rf (by omega) (by omega) (fun a b a0 b0 b1 q => by omega)
def FD_ (r s : Int → Int) (m : Nat) (σ : JH) : Prop := ∀ a b, 0 ≤ a → a < 7 → 0 ≤ b → b < 7 → iv_ σ (m + 14) (7 * a + b) = fw_ r s 7 a b
theorem FD_.fr {S : Nat → Int → Prop} {σ' : JH} (h : FD_ r s m σ) (f : Fr_ S σ σ') (hn : ∀ k, ¬ S (m + 14) k) : FD_ r s m σ' := fun a b h0 h1 h2 h3 => (f.2.2.2.2 _ _ (hn _)).trans (h a b h0 h1 h2 h3)
def mr_ (m : Nat) (b : Nat) (k : Int) : Prop := b = m + 15 ∨ b = m + 16 ∨ (b = m ∧ k = 38)
theorem Fr_.mr {m : Nat} {σ σ' : JH} (h : Fr_ (mr_ m) σ σ') : Fr_ (ms_ m) σ σ' := h.mono fun _ _ q => by unfold mr_ at q; unfold ms_; omega
theorem tr0_ {k u a sm : Int} {σ3 : JH} {Q : JH → Prop} (hM : MD_ G m σ r s) (hF3 : Fr_ (fun bb i => bb = m + 16 ∧ 0 ≤ i ∧ i < 0 + k) (pi_ σ m 38 sm) σ3) (hc3 : ∀ j, 0 ≤ j → j < k → iv_ σ3 (m + 16) (0 + j) = iv_ (pi_ σ m 38 sm) (m + 15) (0 + j)) (hb : r 4 ≤ k) (hbet : sm < iv_ σ m 38)
    (hQ : ∀ σ', MD_ G m σ' r s → Fr_ (mr_ m) σ σ' → (∀ c, 0 ≤ c → c < k → iv_ σ' (m + 15) c = iv_ σ (m + 15) c) → ru_ r s k (iv_ σ (m + 15)) 0 u a sm (iv_ σ m 38) (iv_ σ (m + 16)) (iv_ σ' m 38) (iv_ σ' (m + 16)) → Q σ') : Q σ3 := by
  have hF : Fr_ (mr_ m) σ σ3 := ((Fr_.rf (S := mr_ m) (σ := σ)).pi (a := m) (k := 38) (x := sm) (by unfold mr_; omega)).tr (hF3.mono fun bb k q => Or.inr (Or.inl q.1))
  have e11 : ∀ c, iv_ σ3 (m + 15) c = iv_ σ (m + 15) c := fun c => by
    rw [hF3.2.2.2.2 (m + 15) c (fun q => by omega), iv_pi, if_neg (by omega)]
  refine hQ σ3 (hM.ms hF.mr) hF (fun c _ _ => e11 c) (Or.inl ⟨by simp only [rd_]; omega, ?_, fun c c0 c1 => ?_, fun c c0 c1 => by omega⟩)
  · rw [hF3.2.2.2.2 m 38 (fun q => by omega), iv_pi, if_pos ⟨rfl, rfl⟩]; simp [rd_]
  · have := hc3 c c0 c1
    rw [Int.zero_add, iv_pi, if_neg (by omega)] at this
    exact this
theorem tr1_ {k1 : Int} {T : Int → Int} {j : Nat} {u a sm k w br' : Int} {F' : Int → Int} (h : ru_ r s k1 T j u a sm (iv_ (pi_ σ (m + 15) k w) m 38) (iv_ (pi_ σ (m + 15) k w) (m + 16)) br' F') : ru_ r s k1 T j u a sm (iv_ σ m 38) (iv_ σ (m + 16)) br' F' := by
  have e : iv_ (pi_ σ (m + 15) k w) (m + 16) = iv_ σ (m + 16) := funext fun c => by rw [iv_pi, if_neg (by omega)]
  rw [e, iv_pi, if_neg (by omega)] at h
  exact h
theorem trb_ (hW : RW_ r) {k1 : Int} {T : Int → Int} {j : Nat} {u a sm br br' : Int} {F F' : Int → Int} (h : ru_ r s k1 T j u a sm br F br' F') (h1 : 0 ≤ br ∧ br ≤ 1000000) (h4 : 0 ≤ sm) : 0 ≤ br' ∧ br' ≤ 1000000 := by
  have q := rd_in (s := s) hW j u a
  rcases h with ⟨x1, x2, -⟩ | ⟨-, x2, -⟩ <;> omega
theorem mo_tryRound (hW : RW_ r) : ∀ (j : Nat), (j : Int) ≤ r 4 → ∀ {σ : JH} {k u a sm : Int} {Q : JH → Prop} (hM : MD_ G m σ r s) (hB : FD_ r s m σ) (hbr : 0 ≤ iv_ σ m 38 ∧ iv_ σ m 38 ≤ 1000000) (hk : 1 ≤ k ∧ k = r 4 - j) (ha : iv_ σ (m + 15) (k - 1) = a) (ha2 : 0 ≤ a ∧ a < r 4) (hsm : 0 ≤ sm ∧ sm ≤ 2000000)
    (hQ : ∀ σ', MD_ G m σ' r s → Fr_ (mr_ m) σ σ' → (∀ c, 0 ≤ c → c < k → iv_ σ' (m + 15) c = iv_ σ (m + 15) c) → ru_ r s k (iv_ σ (m + 15)) j u a sm (iv_ σ m 38) (iv_ σ (m + 16)) (iv_ σ' m 38) (iv_ σ' (m + 16)) → Q σ'), CallV_ G (4 + j) yX2_tryRound cX2_tryRound 5 none [A_ (some m), I_ k, I_ u, I_ sm] σ Q := by
  have hn := hW.n
  intro j
  induction j with
  | zero =>
    intro hj σ k u a sm Q hM hB hbr hk ha ha2 hsm hQ
    have hk4 : k = r 4 := by omega
    refine call_go [some (A_ (some m)), some (I_ k), some (I_ u), some (I_ sm), none] (by decide) (Nat.le_of_ble_eq_true rfl) rfl ?_
    refine g_il3 dX2_tryRound_0 ?_
    refine g_al0 dX2_tryRound_1 ?_
    refine f_getI 38 fk_X2_410 rfl hM.sh (fun _ _ => rfl) dX2_tryRound_2 ?_
    refine g_icmp_lt (tgt := 9) dX2_tryRound_5 (by decide) (by omega) (fun h5 => ?_) (fun h5 => ?_)
    · refine g_il1 dX2_tryRound_9 ?_
      refine g_al0 dX2_tryRound_10 ?_
      refine f_getA 15 fk_X2_20 rfl hM.sh (fun _ _ => rfl) hM.f15 dX2_tryRound_11 ?_
      refine g_iconst dX2_tryRound_14 ?_
      refine g_ialv hM.a15 (by omega) (hM.rr _) dX2_tryRound_15 ?_
      refine g_icmp_ne (tgt := 39) dX2_tryRound_16 (by decide) (by omega) (fun h16 => ?_) (fun h16 => ?_)
      · exact absurd h16 (by omega)
      refine g_al0 dX2_tryRound_19 ?_
      refine g_il3 dX2_tryRound_20 ?_
      refine f_putI 38 fk_X2_410 rfl (nf_ rfl rfl) hM.sh hM.ge rfl dX2_tryRound_21 ?_
      have hM1 := hM.pi (a := m) (k := 38) (x := sm) ⟨by omega, by omega⟩
      refine g_al0 dX2_tryRound_24 ?_
      refine f_getA 36 fk_X2_56 rfl hM.sh (fun _ _ => rfl) hM.f36 dX2_tryRound_25 ?_
      refine g_iconst dX2_tryRound_28 ?_
      refine g_al0 dX2_tryRound_29 ?_
      refine f_getA 37 fk_X2_59 rfl hM.sh (fun _ _ => rfl) hM.f37 dX2_tryRound_30 ?_
      refine g_iconst dX2_tryRound_33 ?_
      refine g_il1 dX2_tryRound_34 ?_
      refine g_callS5V (d' := 2) lk_X2_176 (rm_lt (by omega) (by decide)) (Nat.le_of_ble_eq_true rfl) dX2_tryRound_35 ?_
      refine mo_copy hM1.a36 hM1.a37 hM1.g37 (by omega) (by omega) (by omega) (by omega) (by omega) (fun σ3 hF3 hc3 => ?_)
      exact g_vret rfl dX2_tryRound_38 ⟨rfl, tr0_ hM hF3 hc3 (by omega) (by omega) hQ⟩
    exact g_vret rfl dX2_tryRound_8 ⟨rfl, hQ _ hM Fr_.rf (fun _ _ _ => rfl) (Or.inr ⟨by simp only [rd_]; omega, rfl, fun _ => rfl⟩)⟩
  | succ j ih =>
    intro hj σ k u a sm Q hM hB hbr hk ha ha2 hsm hQ
    have hk4 : k = r 4 - (j + 1) := by omega
    refine call_go [some (A_ (some m)), some (I_ k), some (I_ u), some (I_ sm), none] (by decide) (Nat.le_of_ble_eq_true rfl) rfl ?_
    have L42 : ∀ (n : Nat) (σ' : JH) (i : Int), r 4 - i < (n : Int) → (MD_ G m σ' r s) → (FD_ r s m σ') → (Fr_ (mr_ m) σ σ') → (sm < 1000000) → (0 ≤ i) → (i ≤ r 4) → (∀ c, 0 ≤ c → c < k → iv_ σ' (m + 15) c = iv_ σ (m + 15) c) → (0 ≤ iv_ σ' m 38 ∧ iv_ σ' m 38 ≤ 1000000) → (ri_ r s k (iv_ σ (m + 15)) j u sm (iv_ σ m 38) (iv_ σ (m + 16)) (iI_ (rf_ (fw_ r s 7 a) (fun i => rd_ r s j (ior_ u (ishl_ 1 i)) i) u) (1000000, -1) i) (iv_ σ' m 38) (iv_ σ' (m + 16))) → GoM_ G (4 + (j + 1)) yX2_tryRound cX2_tryRound 5 none σ (fun v σ' => v = none ∧ Q σ') 42 [some (A_ (some m)), some (I_ k), some (I_ u), some (I_ sm), some (I_ i)] [] σ' := by
      intro n9
      induction n9 with
      | zero => intro σ' i hn hM hB hF hsl h0 h1 hT hv hI; exact absurd hn (by omega)
      | succ n9 ih9 =>
        intro σ' i hn hM hB hF hsl h0 h1 hT hv hI
        refine g_il4 dX2_tryRound_42 ?_
        refine g_al0 dX2_tryRound_44 ?_
        refine f_getA 15 fk_X2_20 rfl hM.sh (fun _ _ => rfl) hM.f15 dX2_tryRound_45 ?_
        refine g_iconst dX2_tryRound_48 ?_
        refine g_ialv hM.a15 (by omega) (hM.rr _) dX2_tryRound_49 ?_
        refine g_icmp_ge (tgt := 113) dX2_tryRound_50 (by decide) (by omega) (fun h50 => ?_) (fun h50 => ?_)
        · exact g_vret rfl dX2_tryRound_113 ⟨rfl, hQ _ hM hF hT (ri_.done (by omega) (by rw [show i = r 4 by omega] at hI; exact hI))⟩
        refine g_il2 dX2_tryRound_53 ?_
        refine g_il4 dX2_tryRound_54 ?_
        refine g_callS2I (d' := 2) lk_X2_298 (rm_lt (by omega) (by decide)) (Nat.le_of_ble_eq_true rfl) dX2_tryRound_56 ?_
        refine mo_hasBit (fun z hz => ?_)
        refine g_if_eq (tgt := 65) dX2_tryRound_59 (by decide) (by omega) (fun h59 => ?_) (fun h59 => ?_)
        · refine g_al0 dX2_tryRound_65 ?_
          refine f_getA 36 fk_X2_56 rfl hM.sh (fun _ _ => rfl) hM.f36 dX2_tryRound_66 ?_
          refine g_il1 dX2_tryRound_69 ?_
          refine g_il4 dX2_tryRound_70 ?_
          refine g_iast hM.a36 hM.g36 (by omega) dX2_tryRound_72 ?_
          have hM1 := hM.pi (a := m + 15) (k := k) (x := i) ⟨by omega, by omega⟩
          have hB1 : FD_ r s m (pi_ σ' (m + 15) k i) := hB.fr (S := mr_ m) (Fr_.rf.pi (Or.inl rfl)) (fun k q => by unfold mr_ at q; omega)
          have hfi := fw_in (s := s) hW 7 a i
          refine g_al0 dX2_tryRound_73 ?_
          refine g_il1 dX2_tryRound_74 ?_
          refine g_iconst dX2_tryRound_75 ?_
          refine g_iadd dX2_tryRound_76 ?_
          refine g_il2 dX2_tryRound_77 ?_
          refine g_iconst dX2_tryRound_78 ?_
          refine g_il4 dX2_tryRound_79 ?_
          refine g_ishl dX2_tryRound_81 ?_
          refine g_ior dX2_tryRound_82 ?_
          refine g_il3 dX2_tryRound_83 ?_
          refine g_al0 dX2_tryRound_84 ?_
          refine f_getA 35 fk_X2_53 rfl hM.sh (fun _ _ => rfl) hM1.f35 dX2_tryRound_85 ?_
          refine g_bipush dX2_tryRound_88 (by decide) (by decide) ?_
          refine g_al0 dX2_tryRound_90 ?_
          refine f_getA 36 fk_X2_56 rfl hM.sh (fun _ _ => rfl) hM1.f36 dX2_tryRound_91 ?_
          refine g_il1 dX2_tryRound_94 ?_
          refine g_iconst dX2_tryRound_95 ?_
          refine g_isub dX2_tryRound_96 ?_
          refine g_ialv hM1.a36 (by omega) (show iv_ (pi_ σ' (m + 15) k i) (m + 15) (k - 1) = a by rw [iv_pi, if_neg (by omega), hT _ (by omega) (by omega)]; exact ha) dX2_tryRound_97 ?_
          refine g_imul dX2_tryRound_98 ?_
          refine g_il4 dX2_tryRound_99 ?_
          refine g_iadd dX2_tryRound_101 ?_
          refine g_ialv hM1.a35 (by omega) (hB1 a i (by omega) (by omega) (by omega) (by omega)) dX2_tryRound_102 ?_
          refine g_iadd dX2_tryRound_103 ?_
          refine g_callV3V (d' := 4 + j) lk_X2_413 hM.sh rfl (rm_lt (by omega) (by decide)) (Nat.le_of_ble_eq_true rfl) dX2_tryRound_104 ?_
          refine ih (by omega) hM1 hB1 (by rw [iv_pi, if_neg (by omega)]; exact hv) (by omega) (show iv_ (pi_ σ' (m + 15) k i) (m + 15) (k + 1 - 1) = i by rw [show k + 1 - 1 = k by omega, iv_pi, if_pos ⟨rfl, rfl⟩]) (by omega) (by omega) (fun σ4 hM4 hF4 hT4 hu4 => ?_)
          replace hu4 := tr1_ hu4
          refine g_inc4 dX2_tryRound_107 (by decide) rfl ?_
          refine g_goto (tgt := 42) dX2_tryRound_110 (by decide) ?_
          have hI2 := hI.one (i := i) (D := fw_ r s 7 a) (T' := iv_ (pi_ σ' (m + 15) k i) (m + 15)) (by omega) (by omega) (fun c c0 c1 => by rw [iv_pi, if_neg (by omega)]; exact hT c c0 c1) (by rw [iv_pi, if_pos ⟨rfl, rfl⟩]) hu4
          refine ih9 _ _ (by omega) hM4 (hB1.fr hF4 (fun k q => by unfold mr_ at q; omega)) ((hF.pi (Or.inl rfl)).tr hF4) hsl (by omega) (by omega) (fun c c0 c1 => ((hT4 c c0 (by omega)).trans (by rw [iv_pi, if_neg (by omega)])).trans (hT c c0 c1)) (trb_ hW hu4 hv (by omega)) ?_
          rw [iI_s _ _ h0]
          exact hI2
        refine g_goto (tgt := 107) dX2_tryRound_62 (by decide) ?_
        refine g_inc4 dX2_tryRound_107 (by decide) rfl ?_
        refine g_goto (tgt := 42) dX2_tryRound_110 (by decide) ?_
        refine ih9 _ _ (by omega) hM hB hF hsl (by omega) (by omega) hT hv ?_
        rw [iI_s _ _ h0]
        exact hI.skip (by omega)
    refine g_il3 dX2_tryRound_0 ?_
    refine g_al0 dX2_tryRound_1 ?_
    refine f_getI 38 fk_X2_410 rfl hM.sh (fun _ _ => rfl) dX2_tryRound_2 ?_
    refine g_icmp_lt (tgt := 9) dX2_tryRound_5 (by decide) (by omega) (fun h5 => ?_) (fun h5 => ?_)
    · refine g_il1 dX2_tryRound_9 ?_
      refine g_al0 dX2_tryRound_10 ?_
      refine f_getA 15 fk_X2_20 rfl hM.sh (fun _ _ => rfl) hM.f15 dX2_tryRound_11 ?_
      refine g_iconst dX2_tryRound_14 ?_
      refine g_ialv hM.a15 (by omega) (hM.rr _) dX2_tryRound_15 ?_
      refine g_icmp_ne (tgt := 39) dX2_tryRound_16 (by decide) (by omega) (fun h16 => ?_) (fun h16 => ?_)
      · refine g_iconst dX2_tryRound_39 ?_
        refine g_is4 dX2_tryRound_40 (by decide) rfl ?_
        exact L42 ((r 4).toNat + 1) _ _ (by omega) hM hB Fr_.rf (by omega) (by omega) (by omega) (fun _ _ _ => rfl) hbr (ri_.start (by omega) (by omega))
      exact absurd h16 (by omega)
    exact g_vret rfl dX2_tryRound_8 ⟨rfl, hQ _ hM Fr_.rf (fun _ _ _ => rfl) (Or.inr ⟨by have := rd_in (s := s) hW (j + 1) u a; omega, rfl, fun _ => rfl⟩)⟩
theorem sr_ (hW : RW_ r) {i : Int} (hi : 0 ≤ i ∧ i < r 4) {σ1 σ4 : JH} (h : ru_ r s 1 (iv_ (pi_ (pi_ σ1 m 38 1000000) (m + 15) 0 i) (m + 15)) (r 4 - 1).toNat (ishl_ 1 i) i 0 (iv_ (pi_ (pi_ σ1 m 38 1000000) (m + 15) 0 i) m 38) (iv_ (pi_ (pi_ σ1 m 38 1000000) (m + 15) 0 i) (m + 16)) (iv_ σ4 m 38) (iv_ σ4 (m + 16))) :
    iv_ σ4 m 38 = (rd_ r s (r 4 - 1).toNat (ishl_ 1 i) i).1 ∧ (0 ≤ ro_ r s i → ∀ c, 0 ≤ c → c < r 4 → iv_ σ4 (m + 16) c = if c = 0 then i else oc_ r s (r 4 - 1).toNat (ishl_ 1 i) i c) := by
  have hq := rd_in (s := s) hW (r 4 - 1).toNat (ishl_ 1 i) i
  have e1 : iv_ (pi_ (pi_ σ1 m 38 1000000) (m + 15) 0 i) m 38 = 1000000 := by simp [iv_pi]
  have e2 : iv_ (pi_ (pi_ σ1 m 38 1000000) (m + 15) 0 i) (m + 15) 0 = i := by simp [iv_pi]
  unfold ru_ at h
  rw [e1] at h
  rcases h with ⟨x1, x2, x3, x4⟩ | ⟨x1, x2, x3⟩
  · refine ⟨by omega, fun _ c c0 c1 => ?_⟩
    by_cases hc : c = 0
    · rw [if_pos hc, hc, x3 0 (by omega) (by omega), e2]
    · rw [if_neg hc]; exact x4 c (by omega) c1
  · refine ⟨by omega, fun hr => ?_⟩
    unfold ro_ at hr
    rw [if_pos (by omega)] at hr
    exact absurd hr (by omega)
theorem mo_seekRound {i : Int} {Q : Int → JH → Prop} (hM : MD_ G m σ r s) (hW : RW_ r) (hi : 0 ≤ i ∧ i < r 4)
    (hQ : ∀ σ', MD_ G m σ' r s → Fr_ (ms_ m) σ σ' → (0 ≤ ro_ r s i → ∀ c, 0 ≤ c → c < r 4 → iv_ σ' (m + 16) c = if c = 0 then i else oc_ r s (r 4 - 1).toNat (ishl_ 1 i) i c) → Q (ro_ r s i) σ') : CallI_ G 14 yX2_seekRound cX2_seekRound 2 (some .int) [A_ (some m), I_ i] σ Q := by
  refine call_go [some (A_ (some m)), some (I_ i)] (by decide) (Nat.le_of_ble_eq_true rfl) rfl ?_
  have hn := hW.n
  refine g_al0 dX2_seekRound_0 ?_
  refine g_callV0V (d' := 5) lk_X2_416 hM.sh rfl (rm_lt (by decide) (by decide)) (Nat.le_of_ble_eq_true rfl) dX2_seekRound_1 ?_
  refine mo_layFar hM hW (fun σ1 hM hF1 hA => ?_)
  refine g_al0 dX2_seekRound_4 ?_
  refine g_ldcw (x := 1000000) q2130 dX2_seekRound_5 (by decide) ?_
  refine f_putI 38 fk_X2_410 rfl (nf_ rfl rfl) hM.sh hM.ge rfl dX2_seekRound_8 ?_
  have hM1 := hM.pi (a := m) (k := 38) (x := 1000000) ⟨by omega, by omega⟩
  refine g_al0 dX2_seekRound_11 ?_
  refine f_getA 36 fk_X2_56 rfl hM.sh (fun _ _ => rfl) hM1.f36 dX2_seekRound_12 ?_
  refine g_iconst dX2_seekRound_15 ?_
  refine g_il1 dX2_seekRound_16 ?_
  refine g_iast hM1.a36 hM1.g36 (by omega) dX2_seekRound_17 ?_
  have hM2 := hM1.pi (a := m + 15) (k := 0) (x := i) ⟨by omega, by omega⟩
  have hFa : Fr_ (ms_ m) σ (pi_ (pi_ σ1 m 38 1000000) (m + 15) 0 i) := (hF1.m14.pi (a := m) (k := 38) (by unfold ms_; omega)).pi (a := m + 15) (by unfold ms_; omega)
  refine g_al0 dX2_seekRound_18 ?_
  refine g_iconst dX2_seekRound_19 ?_
  refine g_iconst dX2_seekRound_20 ?_
  refine g_il1 dX2_seekRound_21 ?_
  refine g_ishl dX2_seekRound_22 ?_
  refine g_iconst dX2_seekRound_23 ?_
  refine g_callV3V (d' := 4 + (r 4 - 1).toNat) lk_X2_413 hM.sh rfl (rm_lt (by omega) (by decide)) (Nat.le_of_ble_eq_true rfl) dX2_seekRound_24 ?_
  refine mo_tryRound hW (r 4 - 1).toNat (by omega) hM2 (fun a b a0 a1 b0 b1 => by rw [iv_pi, if_neg (by omega), iv_pi, if_neg (by omega)]; exact hA a b a0 a1 b0 b1) (by simp [iv_pi]) (by omega) (a := i) (by simp [iv_pi]) (by omega) (by omega) (fun σ4 hM hF4 hT4 hu4 => ?_)
  have hv := sr_ hW hi hu4
  refine g_al0 dX2_seekRound_27 ?_
  refine f_getv 38 fk_X2_410 rfl hM.sh (fun _ _ => rfl) hv.1 dX2_seekRound_28 ?_
  refine g_ldcw (x := 1000000) q2130 dX2_seekRound_31 (by decide) ?_
  have hrd := rd_in (s := s) hW (r 4 - 1).toNat (ishl_ 1 i) i
  refine g_icmp_ne (tgt := 42) dX2_seekRound_34 (by decide) (by omega) (fun h34 => ?_) (fun h34 => ?_)
  · refine g_al0 dX2_seekRound_42 ?_
    refine f_getv 38 fk_X2_410 rfl hM.sh (fun _ _ => rfl) hv.1 dX2_seekRound_43 ?_
    exact g_iret rfl dX2_seekRound_46 ⟨_, rfl, by have q := hQ _ hM (hFa.tr hF4.mr) hv.2; unfold ro_ at q; rw [if_neg h34] at q; exact q⟩
  refine g_bipush dX2_seekRound_37 (by decide) (by decide) ?_
  refine g_goto (tgt := 46) dX2_seekRound_39 (by decide) ?_
  exact g_iret rfl dX2_seekRound_46 ⟨_, rfl, by have q := hQ _ hM (hFa.tr hF4.mr) hv.2; unfold ro_ at q; rw [if_pos h34] at q; exact q⟩
theorem mo_round {p : Int} {i : Int} {Q : Int → JH → Prop} (hM : MD_ G m σ r s) (hp : iv_ σ m 14 = p) (hP : MP_ p r s) (hi : -2147483648 ≤ i ∧ i < 2147483648)
    (hQ : ∀ (x t : Int) (σ' : JH), qRound_ p r s i = (x, t) → MD_ G m σ' r s → ME_ m σ σ' t → Q x σ') : CallI_ G 15 yX2_round cX2_round 2 (some .int) [A_ (some m), I_ i] σ Q := by
  refine call_go [some (A_ (some m)), some (I_ i)] (by decide) (Nat.le_of_ble_eq_true rfl) rfl ?_
  have hp01 := hP.b
  refine g_al0 dX2_round_0 ?_
  refine g_callV0V (d' := 2) lk_X2_167 hM.sh rfl (rm_lt (by decide) (by decide)) (Nat.le_of_ble_eq_true rfl) dX2_round_1 ?_
  refine mo_good hM (fun σ1 hM hE => ?_)
  have hp := hE.p14.trans hp
  refine g_al0 dX2_round_4 ?_
  refine g_il1 dX2_round_5 ?_
  refine g_callV1I (d' := 3) lk_X2_277 hM.sh rfl (rm_lt (by decide) (by decide)) (Nat.le_of_ble_eq_true rfl) dX2_round_6 ?_
  refine mo_isIsland hM hp hP.rw (by omega) (fun x6 hx6 => ?_)
  unfold isI_ at hx6
  refine g_if_eq (tgt := 20) dX2_round_9 (by decide) (by omega) (fun h9 => ?_) (fun h9 => ?_)
  · refine g_al0 dX2_round_20 ?_
    refine g_iconst dX2_round_21 ?_
    refine g_callV1I (d' := 2) lk_X2_170 hM.sh rfl (rm_lt (by decide) (by decide)) (Nat.le_of_ble_eq_true rfl) dX2_round_22 ?_
    refine mo_no hM hE (fun σ2 hM hE => ?_)
    exact g_iret rfl dX2_round_25 ⟨_, rfl, hQ _ _ _ (by unfold qRound_; rw [if_neg (by omega)]) hM hE⟩
  refine g_al0 dX2_round_12 ?_
  refine g_il1 dX2_round_13 ?_
  refine g_callV1I (d' := 14) lk_X2_419 hM.sh rfl (rm_lt (by decide) (by decide)) (Nat.le_of_ble_eq_true rfl) dX2_round_14 ?_
  obtain ⟨hW, hD⟩ := hP.get (by omega)
  have hn := hW.n
  refine mo_seekRound hM hW (by omega) (fun σ2 hM hF hO => ?_)
  have hE := hE.fr hF
  refine g_goto (tgt := 25) dX2_round_17 (by decide) ?_
  exact g_iret rfl dX2_round_25 ⟨_, rfl, hQ _ _ _ (by unfold qRound_; rw [if_pos (by omega)]) hM hE⟩
theorem mo_roundAt {p : Int} {i k : Int} {Q : Int → JH → Prop} (hM : MD_ G m σ r s) (hp : iv_ σ m 14 = p) (hP : MP_ p r s) (hi : -2147483648 ≤ i ∧ i < 2147483648) (hk : -2147483648 ≤ k ∧ k < 2147483648)
    (hQ : ∀ (x t : Int) (σ' : JH), qRoundAt_ p r s i k = (x, t) → MD_ G m σ' r s → ME_ m σ σ' t → Q x σ') : CallI_ G 15 yX2_roundAt cX2_roundAt 3 (some .int) [A_ (some m), I_ i, I_ k] σ Q := by
  refine call_go [some (A_ (some m)), some (I_ i), some (I_ k)] (by decide) (Nat.le_of_ble_eq_true rfl) rfl ?_
  have hp01 := hP.b
  refine g_al0 dX2_roundAt_0 ?_
  refine g_callV0V (d' := 2) lk_X2_167 hM.sh rfl (rm_lt (by decide) (by decide)) (Nat.le_of_ble_eq_true rfl) dX2_roundAt_1 ?_
  refine mo_good hM (fun σ1 hM hE => ?_)
  have hp := hE.p14.trans hp
  refine g_al0 dX2_roundAt_4 ?_
  refine g_il1 dX2_roundAt_5 ?_
  refine g_callV1I (d' := 3) lk_X2_277 hM.sh rfl (rm_lt (by decide) (by decide)) (Nat.le_of_ble_eq_true rfl) dX2_roundAt_6 ?_
  refine mo_isIsland hM hp hP.rw (by omega) (fun x6 hx6 => ?_)
  unfold isI_ at hx6
  refine g_if_eq (tgt := 28) dX2_roundAt_9 (by decide) (by omega) (fun h9 => ?_) (fun h9 => ?_)
  · refine g_al0 dX2_roundAt_28 ?_
    refine g_iconst dX2_roundAt_29 ?_
    refine g_callV1I (d' := 2) lk_X2_170 hM.sh rfl (rm_lt (by decide) (by decide)) (Nat.le_of_ble_eq_true rfl) dX2_roundAt_30 ?_
    refine mo_no hM hE (fun σ2 hM hE => ?_)
    exact g_iret rfl dX2_roundAt_33 ⟨_, rfl, hQ _ _ _ (by unfold qRoundAt_; rw [if_neg (by omega)]) hM hE⟩
  obtain ⟨hW, hD⟩ := hP.get (by omega)
  have hn := hW.n
  refine g_il2 dX2_roundAt_12 ?_
  refine g_iconst dX2_roundAt_13 ?_
  refine g_al0 dX2_roundAt_14 ?_
  refine f_getA 15 fk_X2_20 rfl hM.sh (fun _ _ => rfl) hM.f15 dX2_roundAt_15 ?_
  refine g_iconst dX2_roundAt_18 ?_
  refine g_ialv hM.a15 (by omega) (hM.rr _) dX2_roundAt_19 ?_
  refine g_iconst dX2_roundAt_20 ?_
  refine g_isub dX2_roundAt_21 ?_
  refine g_callS3I (d' := 2) lk_X2_149 (rm_lt (by decide) (by decide)) (Nat.le_of_ble_eq_true rfl) dX2_roundAt_22 ?_
  refine mo_in (by omega) (by omega) (by omega) (fun x22 hx22 => ?_)
  refine g_if_ne (tgt := 34) dX2_roundAt_25 (by decide) (by omega) (fun h25 => ?_) (fun h25 => ?_)
  · refine g_al0 dX2_roundAt_34 ?_
    refine g_il1 dX2_roundAt_35 ?_
    refine g_callV1I (d' := 14) lk_X2_419 hM.sh rfl (rm_lt (by decide) (by decide)) (Nat.le_of_ble_eq_true rfl) dX2_roundAt_36 ?_
    refine mo_seekRound hM hW (by omega) (fun σ2 hM hF hO => ?_)
    have hE := hE.fr hF
    have hri : -2 ≤ ro_ r s i ∧ ro_ r s i ≤ 1000000 := by
      have := rd_in (s := s) hW (r 4 - 1).toNat (ishl_ 1 i) i
      unfold ro_
      split <;> omega
    refine g_if_ge (tgt := 51) dX2_roundAt_39 (by decide) (by omega) (fun h39 => ?_) (fun h39 => ?_)
    · refine g_al0 dX2_roundAt_51 ?_
      refine f_getA 37 fk_X2_59 rfl hM.sh (fun _ _ => rfl) hM.f37 dX2_roundAt_52 ?_
      refine g_il2 dX2_roundAt_55 ?_
      refine g_ialv hM.a37 (by omega) (hO (by omega) k (by omega) (by omega)) dX2_roundAt_56 ?_
      exact g_iret rfl dX2_roundAt_57 ⟨_, rfl, hQ _ _ _ (by unfold qRoundAt_; rw [if_pos (by omega), if_neg (by omega)]) hM hE⟩
    refine g_al0 dX2_roundAt_42 ?_
    refine g_bipush dX2_roundAt_43 (by decide) (by decide) ?_
    refine g_callV1I (d' := 2) lk_X2_170 hM.sh rfl (rm_lt (by decide) (by decide)) (Nat.le_of_ble_eq_true rfl) dX2_roundAt_45 ?_
    refine mo_no hM hE (fun σ2 hM hE => ?_)
    refine g_goto (tgt := 57) dX2_roundAt_48 (by decide) ?_
    exact g_iret rfl dX2_roundAt_57 ⟨_, rfl, hQ _ _ _ (by unfold qRoundAt_; rw [if_pos (by omega), if_pos (by omega)]) hM hE⟩
  refine g_al0 dX2_roundAt_28 ?_
  refine g_iconst dX2_roundAt_29 ?_
  refine g_callV1I (d' := 2) lk_X2_170 hM.sh rfl (rm_lt (by decide) (by decide)) (Nat.le_of_ble_eq_true rfl) dX2_roundAt_30 ?_
  refine mo_no hM hE (fun σ2 hM hE => ?_)
  exact g_iret rfl dX2_roundAt_33 ⟨_, rfl, hQ _ _ _ (by unfold qRoundAt_; rw [if_neg (by omega)]) hM hE⟩
theorem mo_decade {p : Int} {sd ny : Int} {Q : Int → JH → Prop} (hM : MD_ G m σ r s) (hp : iv_ σ m 14 = p) (hP : MP_ p r s) (hsd : -2147483648 ≤ sd ∧ sd < 2147483648) (hny : -2147483648 ≤ ny ∧ ny < 2147483648)
    (hQ : ∀ (x t : Int) (σ' : JH), qDecade_ p r s sd ny = (x, t) → MD_ G m σ' r s → ME_ m σ σ' t → Q x σ') : CallI_ G 6 yX2_decade cX2_decade 9 (some .int) [A_ (some m), I_ sd, I_ ny] σ Q := by
  refine call_go [some (A_ (some m)), some (I_ sd), some (I_ ny), none, none, none, none, none, none] (by decide) (Nat.le_of_ble_eq_true rfl) rfl ?_
  have hp01 := hP.b
  refine g_al0 dX2_decade_0 ?_
  refine g_callV0V (d' := 2) lk_X2_167 hM.sh rfl (rm_lt (by decide) (by decide)) (Nat.le_of_ble_eq_true rfl) dX2_decade_1 ?_
  refine mo_good hM (fun σ1 hM hE => ?_)
  have hp := hE.p14.trans hp
  refine g_al0 dX2_decade_4 ?_
  refine f_getv 14 fk_X2_180 rfl hM.sh (fun _ _ => rfl) hp dX2_decade_5 ?_
  refine g_if_ne (tgt := 17) dX2_decade_8 (by decide) (by omega) (fun h8 => ?_) (fun h8 => ?_)
  · refine g_il1 dX2_decade_17 ?_
    refine g_iconst dX2_decade_18 ?_
    refine g_ldcw (x := 65536) q2257 dX2_decade_19 (by decide) ?_
    refine g_callS3I (d' := 2) lk_X2_149 (rm_lt (by decide) (by decide)) (Nat.le_of_ble_eq_true rfl) dX2_decade_22 ?_
    refine mo_in (by omega) (by omega) (by omega) (fun x22 hx22 => ?_)
    refine g_if_eq (tgt := 38) dX2_decade_25 (by decide) (by omega) (fun h25 => ?_) (fun h25 => ?_)
    · refine g_al0 dX2_decade_38 ?_
      refine g_iconst dX2_decade_39 ?_
      refine g_callV1I (d' := 2) lk_X2_170 hM.sh rfl (rm_lt (by decide) (by decide)) (Nat.le_of_ble_eq_true rfl) dX2_decade_40 ?_
      refine mo_no hM hE (fun σ2 hM hE => ?_)
      exact g_iret rfl dX2_decade_43 ⟨_, rfl, hQ _ _ _ (by unfold qDecade_; rw [if_pos (by omega), if_neg (by omega)]) hM hE⟩
    refine g_il2 dX2_decade_28 ?_
    refine g_iconst dX2_decade_29 ?_
    refine g_bipush dX2_decade_30 (by decide) (by decide) ?_
    refine g_callS3I (d' := 2) lk_X2_149 (rm_lt (by decide) (by decide)) (Nat.le_of_ble_eq_true rfl) dX2_decade_32 ?_
    refine mo_in (by omega) (by omega) (by omega) (fun x32 hx32 => ?_)
    refine g_if_ne (tgt := 44) dX2_decade_35 (by decide) (by omega) (fun h35 => ?_) (fun h35 => ?_)
    · obtain ⟨hW, hD⟩ := hP.get (by omega)
      have hn := hW.n
      have hd := hD.n
      have f1 : 0 ≤ sd ∧ sd ≤ 65536 := by omega
      have f2 : 0 ≤ ny ∧ ny ≤ 50 := by omega
      have f3 : p = 1 := by omega
      clear hx22 hx32
      have L52 : ∀ (n : Nat) (d0 : Int) (c : Int) (y : Int) (v6 : Option AV) (v7 : Option AV) (v8 : Option AV), ny - y < (n : Int) → (0 ≤ y) → (y ≤ ny) → (0 ≤ d0 ∧ d0 ≤ 65536) → (0 ≤ c ∧ c ≤ 8 * y) → ((d0, c) = iI_ (fun y q => iI_ (df_ r s y) q (r 7)) (sd, 0) y) → GoM_ G 6 yX2_decade cX2_decade 9 (some .int) σ (fun v σ' => ∃ x : Int, v = some (I_ x) ∧ Q x σ') 52 [some (A_ (some m)), some (I_ sd), some (I_ ny), some (I_ d0), some (I_ c), some (I_ y), v6, v7, v8] [] σ1 := by
        intro n
        induction n with
        | zero => intro d0 c y v6 v7 v8 hn h0 h1 hd0 hc hv; exact absurd hn (by omega)
        | succ n ih =>
          intro d0 c y v6 v7 v8 hn h0 h1 hd0 hc hv
          refine g_il5 dX2_decade_52 ?_
          refine g_il2 dX2_decade_54 ?_
          refine g_icmp_ge (tgt := 199) dX2_decade_55 (by decide) (by omega) (fun h55 => ?_) (fun h55 => ?_)
          · refine g_il4 dX2_decade_199 ?_
            exact g_iret rfl dX2_decade_201 ⟨_, rfl, hQ _ _ _ (by unfold qDecade_; rw [if_pos (by omega), if_pos (by omega), show ny = y by omega, ← hv]) hM hE⟩
          have L61 : ∀ (n : Nat) (d0 : Int) (c : Int) (b : Int) (v7 : Option AV) (v8 : Option AV), r 7 - b < (n : Int) → (0 ≤ b) → (b ≤ r 7) → (0 ≤ d0 ∧ d0 ≤ 65536) → (0 ≤ c ∧ c ≤ 8 * y + b) → ((d0, c) = iI_ (df_ r s y) (iI_ (fun y q => iI_ (df_ r s y) q (r 7)) (sd, 0) y) b) → GoM_ G 6 yX2_decade cX2_decade 9 (some .int) σ (fun v σ' => ∃ x : Int, v = some (I_ x) ∧ Q x σ') 61 [some (A_ (some m)), some (I_ sd), some (I_ ny), some (I_ d0), some (I_ c), some (I_ y), some (I_ b), v7, v8] [] σ1 := by
            intro n2
            induction n2 with
            | zero => intro d0 c b v7 v8 hn g0 g1 gd gc gv; exact absurd hn (by omega)
            | succ n2 ih2 =>
              intro d0 c b v7 v8 hn g0 g1 gd gc gv
              refine g_il6 dX2_decade_61 ?_
              refine g_al0 dX2_decade_63 ?_
              refine f_getA 15 fk_X2_20 rfl hM.sh (fun _ _ => rfl) hM.f15 dX2_decade_64 ?_
              refine g_bipush dX2_decade_67 (by decide) (by decide) ?_
              refine g_ialv hM.a15 (by omega) (hM.rr _) dX2_decade_69 ?_
              refine g_icmp_ge (tgt := 193) dX2_decade_70 (by decide) (by omega) (fun h70 => ?_) (fun h70 => ?_)
              · refine g_inc5 dX2_decade_193 (by decide) rfl ?_
                refine g_goto (tgt := 52) dX2_decade_196 (by decide) ?_
                exact ih _ _ _ _ _ _ (by omega) (by omega) (by omega) (by omega) (by omega) (by rw [iI_s _ _ h0]; rw [show b = r 7 by omega] at gv; exact gv)
              refine g_iconst dX2_decade_73 ?_
              refine g_is7 dX2_decade_74 (by decide) rfl ?_
              refine g_iconst dX2_decade_76 ?_
              refine g_is8 dX2_decade_77 (by decide) rfl ?_
              refine g_bipush dX2_decade_79 (by decide) (by decide) ?_
              refine g_il3 dX2_decade_81 ?_
              refine g_imul dX2_decade_82 ?_
              refine g_bipush dX2_decade_83 (by decide) (by decide) ?_
              refine g_iadd dX2_decade_85 ?_
              refine g_ldcw (x := 65537) q2258 dX2_decade_86 (by decide) ?_
              refine g_irem dX2_decade_89 (by omega) ?_
              refine g_top (show _ = nx_ d0 from rfl) ?_
              have n2 := nx_in d0
              refine g_is3 dX2_decade_90 (by decide) rfl ?_
              refine g_il3 dX2_decade_91 ?_
              refine g_bipush dX2_decade_92 (by decide) (by decide) ?_
              refine g_irem dX2_decade_94 (by omega) ?_
              have hmd : 0 ≤ nx_ d0 % 100 ∧ nx_ d0 % 100 < 100 := by omega
              refine g_al0 dX2_decade_95 ?_
              refine f_getA 15 fk_X2_20 rfl hM.sh (fun _ _ => rfl) hM.f15 dX2_decade_96 ?_
              refine g_iconst dX2_decade_99 ?_
              refine g_ialv hM.a15 (by omega) (hM.rr _) dX2_decade_100 ?_
              refine g_icmp_ge (tgt := 148) dX2_decade_101 (by decide) (by omega) (fun h101 => ?_) (fun h101 => ?_)
              · refine g_il4 dX2_decade_148 ?_
                refine g_al0 dX2_decade_150 ?_
                refine g_il6 dX2_decade_151 ?_
                refine g_al0 dX2_decade_153 ?_
                refine f_getA 17 fk_X2_26 rfl hM.sh (fun _ _ => rfl) hM.f17 dX2_decade_154 ?_
                refine g_iconst dX2_decade_157 ?_
                refine g_ialv hM.a17 (by omega) (hM.ss _) dX2_decade_158 ?_
                refine g_il5 dX2_decade_159 ?_
                refine g_iadd dX2_decade_161 ?_
                refine g_il7 dX2_decade_162 ?_
                refine g_il8 dX2_decade_164 ?_
                refine g_callV4I (d' := 5) lk_X2_291 hM.sh rfl (rm_lt (by decide) (by decide)) (Nat.le_of_ble_eq_true rfl) dX2_decade_166 ?_
                have hbx := hW.box (b := b) (by omega) (by omega)
                refine mo_hearsIn hM hW hD (by omega) (by omega) (by omega) (by omega) ?_
                have hhd := hd_in (r := r) (row := rb_ s b (-1) 0) (L := bl_ r b) (y := s 0 + y) (by omega)
                refine g_al0 dX2_decade_169 ?_
                refine g_il6 dX2_decade_170 ?_
                refine g_iconst dX2_decade_172 ?_
                refine g_callV2I (d' := 2) lk_X2_262 hM.sh rfl (rm_lt (by decide) (by decide)) (Nat.le_of_ble_eq_true rfl) dX2_decade_173 ?_
                refine mo_ofBox hM (by omega) (by omega) ?_
                rw [show 127 + 4 * b + 1 = 128 + 4 * b by omega]
                refine g_icmp_ne (tgt := 183) dX2_decade_176 (by decide) (by omega) (fun h176 => ?_) (fun h176 => ?_)
                · refine g_iconst dX2_decade_183 ?_
                  refine g_iadd dX2_decade_184 ?_
                  refine g_top (show _ = c + dg_ r s y b (-1) 0 by unfold dg_; rw [if_neg (by omega)]) ?_
                  have hdg := dg_in r s y b (-1) 0
                  refine g_is4 dX2_decade_185 (by decide) rfl ?_
                  refine g_inc6 dX2_decade_187 (by decide) rfl ?_
                  refine g_goto (tgt := 61) dX2_decade_190 (by decide) ?_
                  refine ih2 _ _ _ _ _ (by omega) (by omega) (by omega) (by omega) (by omega) ?_
                  rw [iI_s _ _ g0, ← gv]
                  unfold df_
                  dsimp only
                  rw [if_neg (by omega)]
                refine g_iconst dX2_decade_179 ?_
                refine g_goto (tgt := 184) dX2_decade_180 (by decide) ?_
                refine g_iadd dX2_decade_184 ?_
                refine g_top (show _ = c + dg_ r s y b (-1) 0 by unfold dg_; rw [if_pos (by omega)]) ?_
                have hdg := dg_in r s y b (-1) 0
                refine g_is4 dX2_decade_185 (by decide) rfl ?_
                refine g_inc6 dX2_decade_187 (by decide) rfl ?_
                refine g_goto (tgt := 61) dX2_decade_190 (by decide) ?_
                refine ih2 _ _ _ _ _ (by omega) (by omega) (by omega) (by omega) (by omega) ?_
                rw [iI_s _ _ g0, ← gv]
                unfold df_
                dsimp only
                rw [if_neg (by omega)]
              refine g_bipush dX2_decade_104 (by decide) (by decide) ?_
              refine g_il3 dX2_decade_106 ?_
              refine g_imul dX2_decade_107 ?_
              refine g_bipush dX2_decade_108 (by decide) (by decide) ?_
              refine g_iadd dX2_decade_110 ?_
              refine g_ldcw (x := 65537) q2258 dX2_decade_111 (by decide) ?_
              refine g_irem dX2_decade_114 (by omega) ?_
              refine g_top (show _ = nx_ (nx_ d0) from rfl) ?_
              have n8 := nx_in (nx_ d0)
              refine g_is3 dX2_decade_115 (by decide) rfl ?_
              refine g_il3 dX2_decade_116 ?_
              refine g_al0 dX2_decade_117 ?_
              refine g_il6 dX2_decade_118 ?_
              refine g_callV1I (d' := 3) lk_X2_284 hM.sh rfl (rm_lt (by decide) (by decide)) (Nat.le_of_ble_eq_true rfl) dX2_decade_120 ?_
              refine mo_boxLong hM hW (by omega) ?_
              have hbl := bl_in hW (b := b) (by omega)
              refine g_irem dX2_decade_123 (by omega) ?_
              refine g_nm fun wh hwh => ?_
              have hwh2 : 0 ≤ wh ∧ wh < bl_ r b := by rw [hwh]; exact ⟨Int.emod_nonneg _ (by omega), Int.emod_lt_of_pos _ (by omega)⟩
              refine g_is7 dX2_decade_124 (by decide) rfl ?_
              refine g_bipush dX2_decade_126 (by decide) (by decide) ?_
              refine g_il3 dX2_decade_128 ?_
              refine g_imul dX2_decade_129 ?_
              refine g_bipush dX2_decade_130 (by decide) (by decide) ?_
              refine g_iadd dX2_decade_132 ?_
              refine g_ldcw (x := 65537) q2258 dX2_decade_133 (by decide) ?_
              refine g_irem dX2_decade_136 (by omega) ?_
              refine g_top (show _ = nx_ (nx_ (nx_ d0)) from rfl) ?_
              have n14 := nx_in (nx_ (nx_ d0))
              refine g_is3 dX2_decade_137 (by decide) rfl ?_
              refine g_il3 dX2_decade_138 ?_
              refine g_al0 dX2_decade_139 ?_
              refine f_getA 15 fk_X2_20 rfl hM.sh (fun _ _ => rfl) hM.f15 dX2_decade_140 ?_
              refine g_iconst dX2_decade_143 ?_
              refine g_ialv hM.a15 (by omega) (hM.rr _) dX2_decade_144 ?_
              refine g_irem dX2_decade_145 (by omega) ?_
              refine g_nm fun ot hot => ?_
              have hot2 : 0 ≤ ot ∧ ot < r 0 := by rw [hot]; exact ⟨Int.emod_nonneg _ (by omega), Int.emod_lt_of_pos _ (by omega)⟩
              refine g_is8 dX2_decade_146 (by decide) rfl ?_
              refine g_il4 dX2_decade_148 ?_
              refine g_al0 dX2_decade_150 ?_
              refine g_il6 dX2_decade_151 ?_
              refine g_al0 dX2_decade_153 ?_
              refine f_getA 17 fk_X2_26 rfl hM.sh (fun _ _ => rfl) hM.f17 dX2_decade_154 ?_
              refine g_iconst dX2_decade_157 ?_
              refine g_ialv hM.a17 (by omega) (hM.ss _) dX2_decade_158 ?_
              refine g_il5 dX2_decade_159 ?_
              refine g_iadd dX2_decade_161 ?_
              refine g_il7 dX2_decade_162 ?_
              refine g_il8 dX2_decade_164 ?_
              refine g_callV4I (d' := 5) lk_X2_291 hM.sh rfl (rm_lt (by decide) (by decide)) (Nat.le_of_ble_eq_true rfl) dX2_decade_166 ?_
              have hbx := hW.box (b := b) (by omega) (by omega)
              refine mo_hearsIn hM hW hD (by omega) (by omega) (by omega) (by omega) ?_
              have hhd := hd_in (r := r) (row := rb_ s b wh ot) (L := bl_ r b) (y := s 0 + y) (by omega)
              refine g_al0 dX2_decade_169 ?_
              refine g_il6 dX2_decade_170 ?_
              refine g_iconst dX2_decade_172 ?_
              refine g_callV2I (d' := 2) lk_X2_262 hM.sh rfl (rm_lt (by decide) (by decide)) (Nat.le_of_ble_eq_true rfl) dX2_decade_173 ?_
              refine mo_ofBox hM (by omega) (by omega) ?_
              rw [show 127 + 4 * b + 1 = 128 + 4 * b by omega]
              refine g_icmp_ne (tgt := 183) dX2_decade_176 (by decide) (by omega) (fun h176 => ?_) (fun h176 => ?_)
              · refine g_iconst dX2_decade_183 ?_
                refine g_iadd dX2_decade_184 ?_
                refine g_top (show _ = c + dg_ r s y b wh ot by unfold dg_; rw [if_neg (by omega)]) ?_
                have hdg := dg_in r s y b wh ot
                refine g_is4 dX2_decade_185 (by decide) rfl ?_
                refine g_inc6 dX2_decade_187 (by decide) rfl ?_
                refine g_goto (tgt := 61) dX2_decade_190 (by decide) ?_
                refine ih2 _ _ _ _ _ (by omega) (by omega) (by omega) (by omega) (by omega) ?_
                rw [iI_s _ _ g0, ← gv]
                unfold df_
                dsimp only
                rw [if_pos (by omega), ← hwh, ← hot]
              refine g_iconst dX2_decade_179 ?_
              refine g_goto (tgt := 184) dX2_decade_180 (by decide) ?_
              refine g_iadd dX2_decade_184 ?_
              refine g_top (show _ = c + dg_ r s y b wh ot by unfold dg_; rw [if_pos (by omega)]) ?_
              have hdg := dg_in r s y b wh ot
              refine g_is4 dX2_decade_185 (by decide) rfl ?_
              refine g_inc6 dX2_decade_187 (by decide) rfl ?_
              refine g_goto (tgt := 61) dX2_decade_190 (by decide) ?_
              refine ih2 _ _ _ _ _ (by omega) (by omega) (by omega) (by omega) (by omega) ?_
              rw [iI_s _ _ g0, ← gv]
              unfold df_
              dsimp only
              rw [if_pos (by omega), ← hwh, ← hot]
          refine g_iconst dX2_decade_58 ?_
          refine g_is6 dX2_decade_59 (by decide) rfl ?_
          exact L61 ((r 7).toNat + 1) _ _ _ _ _ (by omega) (by omega) (by omega) (by omega) (by omega) hv
      refine g_il1 dX2_decade_44 ?_
      refine g_is3 dX2_decade_45 (by decide) rfl ?_
      refine g_iconst dX2_decade_46 ?_
      refine g_is4 dX2_decade_47 (by decide) rfl ?_
      refine g_iconst dX2_decade_49 ?_
      refine g_is5 dX2_decade_50 (by decide) rfl ?_
      exact L52 (ny.toNat + 1) _ _ _ _ _ _ (by omega) (by omega) (by omega) (by omega) (by omega) rfl
    refine g_al0 dX2_decade_38 ?_
    refine g_iconst dX2_decade_39 ?_
    refine g_callV1I (d' := 2) lk_X2_170 hM.sh rfl (rm_lt (by decide) (by decide)) (Nat.le_of_ble_eq_true rfl) dX2_decade_40 ?_
    refine mo_no hM hE (fun σ2 hM hE => ?_)
    exact g_iret rfl dX2_decade_43 ⟨_, rfl, hQ _ _ _ (by unfold qDecade_; rw [if_pos (by omega), if_neg (by omega)]) hM hE⟩
  refine g_al0 dX2_decade_11 ?_
  refine g_iconst dX2_decade_12 ?_
  refine g_callV1I (d' := 2) lk_X2_170 hM.sh rfl (rm_lt (by decide) (by decide)) (Nat.le_of_ble_eq_true rfl) dX2_decade_13 ?_
  refine mo_no hM hE (fun σ2 hM hE => ?_)
  exact g_iret rfl dX2_decade_16 ⟨_, rfl, hQ _ _ _ (by unfold qDecade_; rw [if_neg (by omega)]) hM hE⟩
end
