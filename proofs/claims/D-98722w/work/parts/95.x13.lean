/-! THE COMPONENT: shortest ways. Written by mod/m95.py -/
set_option maxRecDepth 100000
section
variable {G : JG} {X : Nat} {σ : JH} {T : XT} {r s : Int → Int}
theorem fI_skip {P : Int → Bool} {k : Int} (h0 : 0 ≤ k) (h : P k = false) : fI_ P (k + 1) = fI_ P k := by
  rcases fI_spec P h0 with ⟨e, q⟩ | ⟨a, b, c, d⟩
  · rw [e]
    refine fI_none (fun j j0 j1 => ?_)
    by_cases hj : j = k
    · rw [hj]; exact h
    · exact q j j0 (by omega)
  · exact fI_hit a (by omega) c d
/-- the first open one of the first k ways that joins two islands; its days -/
def wk_ (r s : Int → Int) (k i j : Int) : Int := fI_ (fun n => decide (jn_ r n i j ∧ ¬ hb_ (s 1) n)) k
def dk_ (r s : Int → Int) (k i j : Int) : Int := if i = j then 0 else if wk_ r s k i j < 0 then 1000000 else r (61 + 4 * wk_ r s k i j)
theorem dk_0 (i j : Int) : dk_ r s 0 i j = if i = j then 0 else 1000000 := by
  unfold dk_
  rw [show wk_ r s 0 i j = -1 from fI_none (fun k k0 k1 => by omega), if_pos (show (-1 : Int) < 0 by decide)]
theorem dk_end {i j : Int} (hi : i < r 4) (hj : j < r 4) : dk_ r s (r 5) i j = d0_ r s i j := by
  unfold dk_ d0_
  rw [if_pos (show i < r 4 ∧ j < r 4 from ⟨hi, hj⟩)]
  rfl
theorem dk_no {k i j : Int} (hk : 0 ≤ k) (h : hb_ (s 1) k ∨ ¬ jn_ r k i j) : dk_ r s (k + 1) i j = dk_ r s k i j := by
  unfold dk_ wk_
  rw [fI_skip hk (decide_eq_false (fun q => h.elim (fun w => q.2 w) (fun w => w q.1)))]
theorem dk_yes {k i j : Int} (hW : RW_ r) (hk : 0 ≤ k ∧ k < r 5) (ho : ¬ hb_ (s 1) k) (hj : jn_ r k i j) : dk_ r s (k + 1) i j = r (61 + 4 * k) := by
  have hw := hW.way hk.1 hk.2
  have e : wk_ r s (k + 1) i j = k := fI_hit hk.1 (by omega) (decide_eq_true ⟨hj, ho⟩) (fun n n0 n1 => decide_eq_false (fun q => by
    have := hW.apart n0 n1 hk.2
    have q1 := q.1
    unfold jn_ at q1 hj
    omega))
  unfold dk_
  rw [e, if_neg (by unfold jn_ at hj; omega), if_neg (by omega)]
/-- the table of days, the first rows done -/
def F0_ (X : Nat) (σ : JH) (r : Int → Int) (i j : Int) : Prop := ∀ a b, 0 ≤ a → a < r 4 → 0 ≤ b → b < r 4 → (a < i ∨ (a = i ∧ b < j)) → iv_ σ (X + 11) (7 * a + b) = if a = b then 0 else 9999999
theorem F0_.step {i j x : Int} (hW : RW_ r) (h : F0_ X σ r i j) (hi : 0 ≤ i ∧ i < r 4) (hj : 0 ≤ j ∧ j < r 4) (hx : x = if i = j then 0 else 9999999) : F0_ X (pi_ σ (X + 11) (7 * i + j) x) r i (j + 1) := fun a b a0 a1 b0 b1 q => by
  have hn := hW.n
  rw [iv_pi]
  by_cases e : a = i ∧ b = j
  · rw [e.1, e.2, if_pos ⟨rfl, rfl⟩]; exact hx
  · rw [if_neg (by omega)]; exact h a b a0 a1 b0 b1 (by omega)
def F1_ (X : Nat) (σ : JH) (r s : Int → Int) (k : Int) : Prop := ∀ a b, 0 ≤ a → a < r 4 → 0 ≤ b → b < r 4 → iv_ σ (X + 11) (7 * a + b) = nv_ (dk_ r s k a b)
theorem F1_.step {k : Int} (hW : RW_ r) (h : F1_ X σ r s k) (hk : 0 ≤ k ∧ k < r 5) (ho : ¬ hb_ (s 1) k) : F1_ X (pi_ (pi_ σ (X + 11) (7 * r (59 + 4 * k) + r (60 + 4 * k)) (r (61 + 4 * k))) (X + 11) (7 * r (60 + 4 * k) + r (59 + 4 * k)) (r (61 + 4 * k))) r s (k + 1) := fun a b a0 a1 b0 b1 => by
  have hn := hW.n
  have hw := hW.way hk.1 hk.2
  have h61 : nv_ (r (61 + 4 * k)) = r (61 + 4 * k) := if_neg (by omega)
  by_cases q : jn_ r k a b
  · rw [dk_yes hW hk ho q, h61]
    unfold jn_ at q
    rw [iv_pi, iv_pi]
    rcases q with q | q
    · rw [← q.1, ← q.2, if_neg (by omega), if_pos ⟨rfl, rfl⟩]
    · rw [← q.1, ← q.2, if_pos ⟨rfl, rfl⟩]
  · rw [dk_no hk.1 (Or.inr q), ← h a b a0 a1 b0 b1]
    unfold jn_ at q
    rw [iv_pi, if_neg (by omega), iv_pi, if_neg (by omega)]
theorem F1_.shut {k : Int} (h : F1_ X σ r s k) (hk : 0 ≤ k) (ho : hb_ (s 1) k) : F1_ X σ r s (k + 1) := fun a b a0 a1 b0 b1 => by
  rw [dk_no hk (Or.inl ho)]; exact h a b a0 a1 b0 b1
def F2_ (X : Nat) (σ : JH) (r s : Int → Int) (K i j : Int) : Prop := ∀ a b, 0 ≤ a → a < r 4 → 0 ≤ b → b < r 4 → iv_ σ (X + 11) (7 * a + b) = nv_ (if a < i ∨ (a = i ∧ b < j) then fwI_ r s (K + 1) a b else fwI_ r s K a b)
theorem F2_.step {K i j : Int} (hW : RW_ r) (h : F2_ X σ r s K i j) (hK : 0 ≤ K ∧ K < r 4) (hi : 0 ≤ i ∧ i < r 4) (hj : 0 ≤ j ∧ j < r 4) : F2_ X (pi_ σ (X + 11) (7 * i + j) (nv_ (fwI_ r s (K + 1) i j))) r s K i (j + 1) := fun a b a0 a1 b0 b1 => by
  have hn := hW.n
  rw [iv_pi]
  by_cases e : a = i ∧ b = j
  · rw [e.1, e.2, if_pos ⟨rfl, rfl⟩, if_pos (by omega)]
  · rw [if_neg (by omega), h a b a0 a1 b0 b1]
    by_cases c : a < i ∨ (a = i ∧ b < j)
    · rw [if_pos c, if_pos (by omega)]
    · rw [if_neg c, if_neg (by omega)]
theorem xo_walks  {Q : JH → Prop} (hX : XD_ G X σ T r s) (hW : RW_ r) (hD : DW_ r s) (hlt : ∀ a s, sh_ σ a = some s → a < sz_ σ)
    (hQ : ∀ σ', Fr_ (fun b _ => b = X + 11) σ σ' → (∀ a b, 0 ≤ a → a < r 4 → 0 ≤ b → b < r 4 → iv_ σ' (X + 11) (7 * a + b) = nv_ (fw_ r s 7 a b)) → Q σ') : CallV_ G 5 yX1_walks cX1_walks 5 none [A_ (some X)] σ Q := by
  refine call_go [some (A_ (some X)), none, none, none, none] (by decide) (Nat.le_of_ble_eq_true rfl) rfl ?_
  have hR := hX.R
  have hn := hW.n
  have L152 : ∀ (fu : Nat) (σ' : JH) (K : Int) (v3 : Option AV) (v4 : Option AV), r 4 - K < (fu : Int) → (Fr_ (fun b _ => b = X + 11) σ σ') → (0 ≤ K) → (K ≤ r 4) → (F2_ X σ' r s K 0 0) → GoM_ G 5 yX1_walks cX1_walks 5 none σ (fun v σ' => v = none ∧ Q σ') 152 [some (A_ (some X)), some (I_ (r 4)), some (I_ K), v3, v4] [] σ' := by
    intro fu
    induction fu with
    | zero => intro σ' K v3 v4 hn hF h0 h1 hT; exact absurd hn (by omega)
    | succ fu ih =>
      intro σ' K v3 v4 hn hF h0 h1 hT
      have hX9 := hX
      have hlt9 := hlt
      have hX := hX.xs (hF.mono (fun b k q => by unfold xs_; omega)) hlt
      have hR := hX.R
      have hlt := lt_fr hlt hF
      refine g_il2 dX1_walks_152 ?_
      refine g_il1 dX1_walks_153 ?_
      refine g_icmp_ge (tgt := 242) dX1_walks_154 (by decide) (by omega) (fun h154 => ?_) (fun h154 => ?_)
      · exact g_vret rfl dX1_walks_242 ⟨rfl, hQ _ hF (fun a b a0 a1 b0 b1 => by rw [hT a b a0 a1 b0 b1, if_neg (by omega), fw_7 hW a1 b1, show K = r 4 by omega]; rfl)⟩
      have hX := hX9
      have hlt := hlt9
      have L159 : ∀ (fu2 : Nat) (σ' : JH) (a : Int) (v4 : Option AV), r 4 - a < (fu2 : Int) → (Fr_ (fun b _ => b = X + 11) σ σ') → (0 ≤ a) → (a ≤ r 4) → (F2_ X σ' r s K a 0) → GoM_ G 5 yX1_walks cX1_walks 5 none σ (fun v σ' => v = none ∧ Q σ') 159 [some (A_ (some X)), some (I_ (r 4)), some (I_ K), some (I_ a), v4] [] σ' := by
        intro fu2
        induction fu2 with
        | zero => intro σ' a v4 hn hF a0 a1 hT; exact absurd hn (by omega)
        | succ fu2 ih2 =>
          intro σ' a v4 hn hF a0 a1 hT
          have hX9 := hX
          have hlt9 := hlt
          have hX := hX.xs (hF.mono (fun b k q => by unfold xs_; omega)) hlt
          have hR := hX.R
          have hlt := lt_fr hlt hF
          refine g_il3 dX1_walks_159 ?_
          refine g_il1 dX1_walks_160 ?_
          refine g_icmp_ge (tgt := 236) dX1_walks_161 (by decide) (by omega) (fun h161 => ?_) (fun h161 => ?_)
          · refine g_inc2 dX1_walks_236 (by decide) rfl ?_
            refine g_goto (tgt := 152) dX1_walks_239 (by decide) ?_
            exact ih _ _ _ _ (by omega) hF (by omega) (by omega) (fun a1 b2 g0 g1 g2 g3 => by rw [hT a1 b2 g0 g1 g2 g3, if_pos (by omega), if_neg (by omega)])
          have hX := hX9
          have hlt := hlt9
          have L167 : ∀ (fu3 : Nat) (σ' : JH) (b : Int), r 4 - b < (fu3 : Int) → (Fr_ (fun b _ => b = X + 11) σ σ') → (0 ≤ b) → (b ≤ r 4) → (F2_ X σ' r s K a b) → GoM_ G 5 yX1_walks cX1_walks 5 none σ (fun v σ' => v = none ∧ Q σ') 167 [some (A_ (some X)), some (I_ (r 4)), some (I_ K), some (I_ a), some (I_ b)] [] σ' := by
            intro fu3
            induction fu3 with
            | zero => intro σ' b hn hF b0 b1 hT; exact absurd hn (by omega)
            | succ fu3 ih3 =>
              intro σ' b hn hF b0 b1 hT
              have hX := hX.xs (hF.mono (fun b k q => by unfold xs_; omega)) hlt
              have hR := hX.R
              have hlt := lt_fr hlt hF
              refine g_il4 dX1_walks_167 ?_
              refine g_il1 dX1_walks_169 ?_
              refine g_icmp_ge (tgt := 230) dX1_walks_170 (by decide) (by omega) (fun h170 => ?_) (fun h170 => ?_)
              · refine g_inc3 dX1_walks_230 (by decide) rfl ?_
                refine g_goto (tgt := 159) dX1_walks_233 (by decide) ?_
                exact ih2 _ _ _ (by omega) hF (by omega) (by omega) (fun a1 b2 g0 g1 g2 g3 => by rw [hT a1 b2 g0 g1 g2 g3]; congr 1; (by_cases c : a1 < a ∨ a1 = a ∧ b2 < b; (rw [if_pos c, if_pos (by omega)]); (rw [if_neg c, if_neg (by omega)])))
              refine g_al0 dX1_walks_173 ?_
              refine f_getA 18 fk_X1_50 rfl hR.sh (fun _ _ => rfl) hR.f18 dX1_walks_174 ?_
              refine g_bipush dX1_walks_177 (by decide) (by decide) ?_
              refine g_il3 dX1_walks_179 ?_
              refine g_imul dX1_walks_180 ?_
              refine g_il4 dX1_walks_181 ?_
              refine g_iadd dX1_walks_183 ?_
              refine g_al0 dX1_walks_184 ?_
              refine f_getA 18 fk_X1_50 rfl hR.sh (fun _ _ => rfl) hR.f18 dX1_walks_185 ?_
              refine g_bipush dX1_walks_188 (by decide) (by decide) ?_
              refine g_il3 dX1_walks_190 ?_
              refine g_imul dX1_walks_191 ?_
              refine g_il4 dX1_walks_192 ?_
              refine g_iadd dX1_walks_194 ?_
              have x1 := hT a b (by omega) (by omega) (by omega) (by omega)
              rw [if_neg (by omega)] at x1
              have x2 := hT a K (by omega) (by omega) (by omega) (by omega)
              rw [show (if a < a ∨ a = a ∧ K < b then fwI_ r s (K + 1) a K else fwI_ r s K a K) = fwI_ r s K a K by (split; exact fwI_a hW (by omega) a; rfl)] at x2
              have x3 := hT K b (by omega) (by omega) (by omega) (by omega)
              rw [show (if K < a ∨ K = a ∧ b < b then fwI_ r s (K + 1) K b else fwI_ r s K K b) = fwI_ r s K K b by (split; exact fwI_b hW (by omega) b; rfl)] at x3
              have y1 : fwI_ r s K a b = 1000000 ∨ (0 ≤ fwI_ r s K a b ∧ fwI_ r s K a b ≤ 12672) := fw_b7 (s := s) (K := K.toNat) hW (by omega) a b
              have y2 : fwI_ r s K a K = 1000000 ∨ (0 ≤ fwI_ r s K a K ∧ fwI_ r s K a K ≤ 12672) := fw_b7 (s := s) (K := K.toNat) hW (by omega) a K
              have y3 : fwI_ r s K K b = 1000000 ∨ (0 ≤ fwI_ r s K K b ∧ fwI_ r s K K b ≤ 12672) := fw_b7 (s := s) (K := K.toNat) hW (by omega) K b
              have z1 : ∀ x : Int, x = 1000000 ∨ (0 ≤ x ∧ x ≤ 12672) → 0 ≤ nv_ x ∧ nv_ x ≤ 9999999 := fun x hx => by unfold nv_; split <;> omega
              have w1 := z1 _ y1
              have w2 := z1 _ y2
              have w3 := z1 _ y3
              refine g_ialv hR.a18 (by omega) x1 dX1_walks_195 ?_
              refine g_al0 dX1_walks_196 ?_
              refine f_getA 18 fk_X1_50 rfl hR.sh (fun _ _ => rfl) hR.f18 dX1_walks_197 ?_
              refine g_bipush dX1_walks_200 (by decide) (by decide) ?_
              refine g_il3 dX1_walks_202 ?_
              refine g_imul dX1_walks_203 ?_
              refine g_il2 dX1_walks_204 ?_
              refine g_iadd dX1_walks_205 ?_
              refine g_ialv hR.a18 (by omega) x2 dX1_walks_206 ?_
              refine g_al0 dX1_walks_207 ?_
              refine f_getA 18 fk_X1_50 rfl hR.sh (fun _ _ => rfl) hR.f18 dX1_walks_208 ?_
              refine g_bipush dX1_walks_211 (by decide) (by decide) ?_
              refine g_il2 dX1_walks_213 ?_
              refine g_imul dX1_walks_214 ?_
              refine g_il4 dX1_walks_215 ?_
              refine g_iadd dX1_walks_217 ?_
              refine g_ialv hR.a18 (by omega) x3 dX1_walks_218 ?_
              refine g_iadd dX1_walks_219 ?_
              refine g_mmin q1272 (by omega) (rm_64 (by decide)) (Nat.le_of_ble_eq_true rfl) dX1_walks_220 ?_
              rw [nv_lt (by omega) (by omega) (by omega)]
              refine g_top (show _ = nv_ (fwI_ r s (K + 1) a b) by rw [fwI_s (by omega)]) ?_
              refine g_iast hR.a18 hR.g18 (by omega) dX1_walks_223 ?_
              refine g_inc4 dX1_walks_224 (by decide) rfl ?_
              refine g_goto (tgt := 167) dX1_walks_227 (by decide) ?_
              exact ih3 _ _ (by omega) (hF.pi rfl) (by omega) (by omega) (hT.step hW (by omega) (by omega) (by omega))
          refine g_iconst dX1_walks_164 ?_
          refine g_is4 dX1_walks_165 (by decide) rfl ?_
          exact L167 ((r 4).toNat + 1) _ _ (by omega) hF (by omega) (by omega) hT
      refine g_iconst dX1_walks_157 ?_
      refine g_is3 dX1_walks_158 (by decide) rfl ?_
      exact L159 ((r 4).toNat + 1) _ _ _ (by omega) hF (by omega) (by omega) hT
  have L62 : ∀ (fu : Nat) (σ' : JH) (k : Int) (v3 : Option AV), r 5 - k < (fu : Int) → (Fr_ (fun b _ => b = X + 11) σ σ') → (0 ≤ k) → (k ≤ r 5) → (F1_ X σ' r s k) → GoM_ G 5 yX1_walks cX1_walks 5 none σ (fun v σ' => v = none ∧ Q σ') 62 [some (A_ (some X)), some (I_ (r 4)), some (I_ k), v3, none] [] σ' := by
    intro fu
    induction fu with
    | zero => intro σ' k v3 hn hF h0 h1 hT; exact absurd hn (by omega)
    | succ fu ih =>
      intro σ' k v3 hn hF h0 h1 hT
      have hX9 := hX
      have hlt9 := hlt
      have hX := hX.xs (hF.mono (fun b k q => by unfold xs_; omega)) hlt
      have hR := hX.R
      have hlt := lt_fr hlt hF
      refine g_il2 dX1_walks_62 ?_
      refine g_al0 dX1_walks_63 ?_
      refine f_getA 5 fk_X1_104 rfl hR.sh (fun _ _ => rfl) hX.f5 dX1_walks_64 ?_
      refine f_getA 5 fk_X1_226 rfl hX.P.sh (fun _ _ => rfl) hX.P.f5 dX1_walks_67 ?_
      refine g_callV0I (d' := 2) lk_X1_127 hX.P.l1.1 rfl (rm_lt (by decide) (by decide)) (Nat.le_of_ble_eq_true rfl) dX1_walks_70 ?_
      refine js_size hX.P.l1 ?_
      refine g_icmp_ge (tgt := 150) dX1_walks_73 (by decide) (by omega) (fun h73 => ?_) (fun h73 => ?_)
      · refine g_iconst dX1_walks_150 ?_
        refine g_is2 dX1_walks_151 (by decide) rfl ?_
        exact L152 ((r 4).toNat + 1) _ _ _ _ (by omega) hF (by omega) (by omega) (fun a b a0 a1 b0 b1 => by rw [hT a b a0 a1 b0 b1, if_neg (by omega), show k = r 5 by omega, dk_end a1 b1]; rfl)
      refine g_al0 dX1_walks_76 ?_
      refine f_getA 5 fk_X1_104 rfl hR.sh (fun _ _ => rfl) hX.f5 dX1_walks_77 ?_
      refine f_getA 5 fk_X1_226 rfl hX.P.sh (fun _ _ => rfl) hX.P.f5 dX1_walks_80 ?_
      refine g_il2 dX1_walks_83 ?_
      refine g_callV1A (d' := 4) lk_X1_137 hX.P.l1.1 rfl (rm_lt (by decide) (by decide)) (Nat.le_of_ble_eq_true rfl) dX1_walks_84 ?_
      refine js_get hX.P.l1 (by omega) ?_
      have hYw := hX.P.way (k := k) (by omega) (by omega)
      have hyw := hW.way (k := k) (by omega) (by omega)
      refine g_cast q1215 hYw.1 (Or.inl rfl) dX1_walks_87 ?_
      refine g_as3 dX1_walks_90 (by decide) rfl ?_
      refine g_al0 dX1_walks_91 ?_
      refine g_il2 dX1_walks_92 ?_
      refine g_callV1I (d' := 3) lk_X1_234 hR.sh rfl (rm_lt (by decide) (by decide)) (Nat.le_of_ble_eq_true rfl) dX1_walks_93 ?_
      refine xo_isClosed hX hW hD (fun zc hzc => ?_)
      refine g_if_eq (tgt := 102) dX1_walks_96 (by decide) (by omega) (fun h96 => ?_) (fun h96 => ?_)
      · refine g_al0 dX1_walks_102 ?_
        refine f_getA 18 fk_X1_50 rfl hR.sh (fun _ _ => rfl) hR.f18 dX1_walks_103 ?_
        refine g_bipush dX1_walks_106 (by decide) (by decide) ?_
        refine g_al3 dX1_walks_108 ?_
        refine f_getv 0 fk_X1_304 rfl hYw.1 (fun _ _ => rfl) hYw.2.2.1 dX1_walks_109 ?_
        refine g_imul dX1_walks_112 ?_
        refine g_al3 dX1_walks_113 ?_
        refine f_getv 1 fk_X1_307 rfl hYw.1 (fun _ _ => rfl) hYw.2.2.2.1 dX1_walks_114 ?_
        refine g_iadd dX1_walks_117 ?_
        refine g_al3 dX1_walks_118 ?_
        refine f_getv 2 fk_X1_237 rfl hYw.1 (fun _ _ => rfl) hYw.2.2.2.2.1 dX1_walks_119 ?_
        refine g_iast hR.a18 hR.g18 (by omega) dX1_walks_122 ?_
        have hFq : Fr_ (fun b _ => b = X + 11) σ' (pi_ σ' (X + 11) (7 * r (59 + 4 * k) + r (60 + 4 * k)) (r (61 + 4 * k))) := Fr_.rf.pi rfl
        have hX := hX.xs (hFq.mono (fun b k q => by unfold xs_; omega)) hlt
        have hR := hX.R
        have hYw := hX.P.way (k := k) (by omega) (by omega)
        refine g_al0 dX1_walks_123 ?_
        refine f_getA 18 fk_X1_50 rfl hR.sh (fun _ _ => rfl) hR.f18 dX1_walks_124 ?_
        refine g_bipush dX1_walks_127 (by decide) (by decide) ?_
        refine g_al3 dX1_walks_129 ?_
        refine f_getv 1 fk_X1_307 rfl hYw.1 (fun _ _ => rfl) hYw.2.2.2.1 dX1_walks_130 ?_
        refine g_imul dX1_walks_133 ?_
        refine g_al3 dX1_walks_134 ?_
        refine f_getv 0 fk_X1_304 rfl hYw.1 (fun _ _ => rfl) hYw.2.2.1 dX1_walks_135 ?_
        refine g_iadd dX1_walks_138 ?_
        refine g_al3 dX1_walks_139 ?_
        refine f_getv 2 fk_X1_237 rfl hYw.1 (fun _ _ => rfl) hYw.2.2.2.2.1 dX1_walks_140 ?_
        refine g_iast hR.a18 hR.g18 (by omega) dX1_walks_143 ?_
        refine g_inc2 dX1_walks_144 (by decide) rfl ?_
        refine g_goto (tgt := 62) dX1_walks_147 (by decide) ?_
        exact ih _ _ _ (by omega) ((hF.pi rfl).pi rfl) (by omega) (by omega) (hT.step hW (by omega) (by omega))
      refine g_goto (tgt := 144) dX1_walks_99 (by decide) ?_
      refine g_inc2 dX1_walks_144 (by decide) rfl ?_
      refine g_goto (tgt := 62) dX1_walks_147 (by decide) ?_
      exact ih _ _ _ (by omega) hF (by omega) (by omega) (hT.shut h0 (by omega))
  have L13 : ∀ (fu : Nat) (σ' : JH) (a : Int) (v3 : Option AV), r 4 - a < (fu : Int) → (Fr_ (fun b _ => b = X + 11) σ σ') → (0 ≤ a) → (a ≤ r 4) → (F0_ X σ' r a 0) → GoM_ G 5 yX1_walks cX1_walks 5 none σ (fun v σ' => v = none ∧ Q σ') 13 [some (A_ (some X)), some (I_ (r 4)), some (I_ a), v3, none] [] σ' := by
    intro fu
    induction fu with
    | zero => intro σ' a v3 hn hF h0 h1 hT; exact absurd hn (by omega)
    | succ fu ih =>
      intro σ' a v3 hn hF h0 h1 hT
      have hX9 := hX
      have hlt9 := hlt
      have hX := hX.xs (hF.mono (fun b k q => by unfold xs_; omega)) hlt
      have hR := hX.R
      have hlt := lt_fr hlt hF
      refine g_il2 dX1_walks_13 ?_
      refine g_il1 dX1_walks_14 ?_
      refine g_icmp_ge (tgt := 60) dX1_walks_15 (by decide) (by omega) (fun h15 => ?_) (fun h15 => ?_)
      · refine g_iconst dX1_walks_60 ?_
        refine g_is2 dX1_walks_61 (by decide) rfl ?_
        exact L62 ((r 5).toNat + 1) _ _ _ (by omega) hF (by omega) (by omega) (fun a1 b2 g0 g1 g2 g3 => by rw [hT a1 b2 g0 g1 g2 g3 (by omega), dk_0]; unfold nv_; (repeat' split) <;> omega)
      have hX := hX9
      have hlt := hlt9
      have L20 : ∀ (fu2 : Nat) (σ' : JH) (b : Int), r 4 - b < (fu2 : Int) → (Fr_ (fun b _ => b = X + 11) σ σ') → (0 ≤ b) → (b ≤ r 4) → (F0_ X σ' r a b) → GoM_ G 5 yX1_walks cX1_walks 5 none σ (fun v σ' => v = none ∧ Q σ') 20 [some (A_ (some X)), some (I_ (r 4)), some (I_ a), some (I_ b), none] [] σ' := by
        intro fu2
        induction fu2 with
        | zero => intro σ' b hn hF b0 b1 hT; exact absurd hn (by omega)
        | succ fu2 ih2 =>
          intro σ' b hn hF b0 b1 hT
          have hX := hX.xs (hF.mono (fun b k q => by unfold xs_; omega)) hlt
          have hR := hX.R
          have hlt := lt_fr hlt hF
          refine g_il3 dX1_walks_20 ?_
          refine g_il1 dX1_walks_21 ?_
          refine g_icmp_ge (tgt := 54) dX1_walks_22 (by decide) (by omega) (fun h22 => ?_) (fun h22 => ?_)
          · refine g_inc2 dX1_walks_54 (by decide) rfl ?_
            refine g_goto (tgt := 13) dX1_walks_57 (by decide) ?_
            exact ih _ _ _ (by omega) hF (by omega) (by omega) (fun a1 b2 g0 g1 g2 g3 q => hT a1 b2 g0 g1 g2 g3 (by omega))
          refine g_al0 dX1_walks_25 ?_
          refine f_getA 18 fk_X1_50 rfl hR.sh (fun _ _ => rfl) hR.f18 dX1_walks_26 ?_
          refine g_bipush dX1_walks_29 (by decide) (by decide) ?_
          refine g_il2 dX1_walks_31 ?_
          refine g_imul dX1_walks_32 ?_
          refine g_il3 dX1_walks_33 ?_
          refine g_iadd dX1_walks_34 ?_
          refine g_il2 dX1_walks_35 ?_
          refine g_il3 dX1_walks_36 ?_
          refine g_icmp_ne (tgt := 44) dX1_walks_37 (by decide) (by omega) (fun h37 => ?_) (fun h37 => ?_)
          · refine g_ldcw (x := 9999999) q1343 dX1_walks_44 (by decide) ?_
            refine g_iast hR.a18 hR.g18 (by omega) dX1_walks_47 ?_
            refine g_inc3 dX1_walks_48 (by decide) rfl ?_
            refine g_goto (tgt := 20) dX1_walks_51 (by decide) ?_
            exact ih2 _ _ (by omega) (hF.pi rfl) (by omega) (by omega) (hT.step hW (by omega) (by omega) (by rw [if_neg (by omega)]))
          refine g_iconst dX1_walks_40 ?_
          refine g_goto (tgt := 47) dX1_walks_41 (by decide) ?_
          refine g_iast hR.a18 hR.g18 (by omega) dX1_walks_47 ?_
          refine g_inc3 dX1_walks_48 (by decide) rfl ?_
          refine g_goto (tgt := 20) dX1_walks_51 (by decide) ?_
          exact ih2 _ _ (by omega) (hF.pi rfl) (by omega) (by omega) (hT.step hW (by omega) (by omega) (by rw [if_pos (by omega)]))
      refine g_iconst dX1_walks_18 ?_
      refine g_is3 dX1_walks_19 (by decide) rfl ?_
      exact L20 ((r 4).toNat + 1) _ _ (by omega) hF (by omega) (by omega) hT
  refine g_al0 dX1_walks_0 ?_
  refine f_getA 5 fk_X1_104 rfl hR.sh (fun _ _ => rfl) hX.f5 dX1_walks_1 ?_
  refine f_getA 4 fk_X1_122 rfl hX.P.sh (fun _ _ => rfl) hX.P.f4 dX1_walks_4 ?_
  refine g_callV0I (d' := 2) lk_X1_127 hX.P.l0.1 rfl (rm_lt (by decide) (by decide)) (Nat.le_of_ble_eq_true rfl) dX1_walks_7 ?_
  refine js_size hX.P.l0 ?_
  refine g_is1 dX1_walks_10 (by decide) rfl ?_
  refine g_iconst dX1_walks_11 ?_
  refine g_is2 dX1_walks_12 (by decide) rfl ?_
  exact L13 ((r 4).toNat + 1) _ _ _ (by omega) Fr_.rf (by omega) (by omega) (fun a1 b2 g0 g1 g2 g3 q => by omega)
end
