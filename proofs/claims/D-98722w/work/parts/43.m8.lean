/-! THE REFERENCE: who brings which; spouts. Written by mod/m43.py -/
set_option maxRecDepth 100000
section
variable {G : JG} {m : Nat} {σ : JH} {r s : Int → Int}
theorem mo_copy {a c na nc : Nat} {sp dp n : Int} {Q : JH → Prop} (hsa : sh_ σ a = some (.inr (0, na))) (hsc : sh_ σ c = some (.inr (0, nc))) (hgc : (gH_ G).size ≤ c) (hac : a ≠ c) (hn : 0 ≤ n ∧ n ≤ 1000) (h1 : 0 ≤ sp ∧ sp + n ≤ na) (h2 : 0 ≤ dp ∧ dp + n ≤ nc) (hb : na ≤ 100000 ∧ nc ≤ 100000)
    (hQ : ∀ σ', Fr_ (fun b k => b = c ∧ dp ≤ k ∧ k < dp + n) σ σ' → (∀ j, 0 ≤ j → j < n → iv_ σ' c (dp + j) = iv_ σ a (sp + j)) → Q σ') : CallV_ G 2 yX2_copy cX2_copy 6 none [A_ (some a), I_ sp, A_ (some c), I_ dp, I_ n] σ Q := by
  refine call_go [some (A_ (some a)), some (I_ sp), some (A_ (some c)), some (I_ dp), some (I_ n), none] (by decide) (Nat.le_of_ble_eq_true rfl) rfl ?_
  have L3 : ∀ (n0 : Nat) (σ' : JH) (i : Int), n - i < (n0 : Int) → (Fr_ (fun b k => b = c ∧ dp ≤ k ∧ k < dp + n) σ σ') → (0 ≤ i) → (i ≤ n) → (∀ j, 0 ≤ j → j < i → iv_ σ' c (dp + j) = iv_ σ a (sp + j)) → GoM_ G 2 yX2_copy cX2_copy 6 none σ (fun v σ' => v = none ∧ Q σ') 3 [some (A_ (some a)), some (I_ sp), some (A_ (some c)), some (I_ dp), some (I_ n), some (I_ i)] [] σ' := by
    intro n0
    induction n0 with
    | zero => intro σ' i hn hF h0 h1 hc; exact absurd hn (by omega)
    | succ n0 ih =>
      intro σ' i hn hF h0 h1 hc
      refine g_il5 dX2_copy_3 ?_
      refine g_il4 dX2_copy_5 ?_
      refine g_icmp_ge (tgt := 28) dX2_copy_7 (by decide) (by omega) (fun h7 => ?_) (fun h7 => ?_)
      · exact g_vret rfl dX2_copy_28 ⟨rfl, hQ _ hF (fun j g0 g1 => hc j g0 (by omega))⟩
      refine g_al2 dX2_copy_10 ?_
      refine g_il3 dX2_copy_11 ?_
      refine g_il5 dX2_copy_12 ?_
      refine g_iadd dX2_copy_14 ?_
      refine g_al0 dX2_copy_15 ?_
      refine g_il1 dX2_copy_16 ?_
      refine g_il5 dX2_copy_17 ?_
      refine g_iadd dX2_copy_19 ?_
      refine g_ialv (hF.1 _ |>.trans hsa) (by omega) (hF.2.2.2.2 a (sp + i) (fun q => hac q.1)) dX2_copy_20 ?_
      refine g_iast (hF.1 _ |>.trans hsc) hgc (by omega) dX2_copy_21 ?_
      refine g_inc5 dX2_copy_22 (by decide) rfl ?_
      refine g_goto (tgt := 3) dX2_copy_25 (by decide) ?_
      refine ih _ _ (by omega) (hF.pi ⟨rfl, by omega, by omega⟩) (by omega) (by omega) (fun j g0 g1 => ?_)
      rw [iv_pi]
      by_cases hj : j = i
      · subst hj; rw [if_pos ⟨rfl, rfl⟩]
      · rw [if_neg (by omega)]; exact hc j g0 (by omega)
  refine g_iconst dX2_copy_0 ?_
  refine g_is5 dX2_copy_1 (by decide) rfl ?_
  exact L3 (n.toNat + 1) _ _ (by omega) Fr_.rf (by omega) (by omega) (fun j g0 g1 => by omega)
/-- the days of all, as laid -/
def BD_ (r s : Int → Int) (m : Nat) (σ : JH) : Prop := ∀ b w, 0 ≤ b → b < r 7 → 0 ≤ w → w < r 6 → iv_ σ (m + 13) (5 * b + w) = bg_ r s w b
theorem BD_.fr {S : Nat → Int → Prop} {σ' : JH} (h : BD_ r s m σ) (f : Fr_ S σ σ') (hn : ∀ k, ¬ S (m + 13) k) : BD_ r s m σ' := fun b w h0 h1 h2 h3 => (f.2.2.2.2 _ _ (hn _)).trans (h b w h0 h1 h2 h3)
/-- what trying writes -/
def my_ (m : Nat) (b : Nat) (k : Int) : Prop := b = m + 11 ∨ b = m + 12 ∨ (b = m ∧ (k = 31 ∨ k = 32))
theorem Fr_.my {m : Nat} {σ σ' : JH} (h : Fr_ (my_ m) σ σ') : Fr_ (ms_ m) σ σ' := h.mono fun _ _ q => by unfold my_ at q; unfold ms_; omega
theorem tm0_ {b u mn sm : Int} {σ3 : JH} {Q : JH → Prop} (hM : MD_ G m σ r s) (hF3 : Fr_ (fun bb k => bb = m + 12 ∧ 0 ≤ k ∧ k < 0 + b) (pi_ (pi_ σ m 31 mn) m 32 sm) σ3) (hc3 : ∀ j, 0 ≤ j → j < b → iv_ σ3 (m + 12) (0 + j) = iv_ (pi_ (pi_ σ m 31 mn) m 32 sm) (m + 11) (0 + j)) (hb0 : 0 ≤ b) (hb : r 7 ≤ b) (hbet : mb_ (mn + (mw_ r s 0 u).1) (sm + (mw_ r s 0 u).2.1) (iv_ σ m 31) (iv_ σ m 32))
    (hQ : ∀ σ', MD_ G m σ' r s → Fr_ (my_ m) σ σ' → (∀ c, 0 ≤ c → c < b → iv_ σ' (m + 11) c = iv_ σ (m + 11) c) → mu_ r s b (iv_ σ (m + 11)) 0 u mn sm (iv_ σ m 31) (iv_ σ m 32) (iv_ σ (m + 12)) (iv_ σ' m 31) (iv_ σ' m 32) (iv_ σ' (m + 12)) → Q σ') : Q σ3 := by
  have hF : Fr_ (my_ m) σ σ3 := (((Fr_.rf (S := my_ m) (σ := σ)).pi (a := m) (k := 31) (x := mn) (by unfold my_; omega)).pi (a := m) (k := 32) (x := sm) (by unfold my_; omega)).tr (hF3.mono fun bb k q => Or.inr (Or.inl q.1))
  have e11 : ∀ c, iv_ σ3 (m + 11) c = iv_ σ (m + 11) c := fun c => by
    rw [hF3.2.2.2.2 (m + 11) c (fun q => by omega), iv_pi, if_neg (by omega), iv_pi, if_neg (by omega)]
  refine hQ σ3 (hM.ms hF.my) hF (fun c _ _ => e11 c) (Or.inl ⟨hbet, ?_, ?_, fun c c0 c1 => ?_, fun c c0 c1 => by omega⟩)
  · rw [hF3.2.2.2.2 m 31 (fun q => by omega), iv_pi, if_neg (by omega), iv_pi, if_pos ⟨rfl, rfl⟩]; simp [mw_]
  · rw [hF3.2.2.2.2 m 32 (fun q => by omega), iv_pi, if_pos ⟨rfl, rfl⟩]; simp [mw_]
  · have := hc3 c c0 c1
    rw [Int.zero_add, iv_pi, if_neg (by omega), iv_pi, if_neg (by omega)] at this
    exact this
theorem tm1_ {b1 : Int} {T : Int → Int} {j : Nat} {u mn sm : Int} {b w bm' bs' : Int} {F' : Int → Int} (h : mu_ r s b1 T j u mn sm (iv_ (pi_ σ (m + 11) b w) m 31) (iv_ (pi_ σ (m + 11) b w) m 32) (iv_ (pi_ σ (m + 11) b w) (m + 12)) bm' bs' F') : mu_ r s b1 T j u mn sm (iv_ σ m 31) (iv_ σ m 32) (iv_ σ (m + 12)) bm' bs' F' := by
  have e : iv_ (pi_ σ (m + 11) b w) (m + 12) = iv_ σ (m + 12) := funext fun c => by rw [iv_pi, if_neg (by omega)]
  rw [e, iv_pi, if_neg (by omega), iv_pi, if_neg (by omega)] at h
  exact h
theorem tmb_ (hW : RW_ r) (hD : DW_ r s) {b1 : Int} {T : Int → Int} {j : Nat} {u mn sm bm bs bm' bs' : Int} {F F' : Int → Int} (hj : (j : Int) ≤ r 7) (h : mu_ r s b1 T j u mn sm bm bs F bm' bs' F') (h1 : -1 ≤ bm ∧ bm ≤ 8) (h2 : 0 ≤ bs ∧ bs ≤ 1000000) (h3 : 0 ≤ mn ∧ mn + j ≤ 8) (h4 : 0 ≤ sm) (h5 : sm + 96651 * j ≤ 1000000) : (-1 ≤ bm' ∧ bm' ≤ 8) ∧ 0 ≤ bs' ∧ bs' ≤ 1000000 := by
  have q := mw_in hW hD j hj u
  rcases h with ⟨-, x2, x3, -⟩ | ⟨-, x2, x3, -⟩ <;> omega
theorem mo_tryMatch (hW : RW_ r) (hD : DW_ r s) : ∀ (j : Nat), (j : Int) ≤ r 7 → ∀ {σ : JH} {b u mn sm : Int} {Q : JH → Prop} (hM : MD_ G m σ r s) (hB : BD_ r s m σ) (hbm : -1 ≤ iv_ σ m 31 ∧ iv_ σ m 31 ≤ 8) (hbs : 0 ≤ iv_ σ m 32 ∧ iv_ σ m 32 ≤ 1000000) (hb : 0 ≤ b ∧ b = r 7 - j) (hmy : 0 ≤ mn ∧ mn ≤ b) (hsm : 0 ≤ sm ∧ sm ≤ 96651 * b)
    (hQ : ∀ σ', MD_ G m σ' r s → Fr_ (my_ m) σ σ' → (∀ c, 0 ≤ c → c < b → iv_ σ' (m + 11) c = iv_ σ (m + 11) c) → mu_ r s b (iv_ σ (m + 11)) j u mn sm (iv_ σ m 31) (iv_ σ m 32) (iv_ σ (m + 12)) (iv_ σ' m 31) (iv_ σ' m 32) (iv_ σ' (m + 12)) → Q σ'), CallV_ G (4 + j) yX2_tryMatch cX2_tryMatch 6 none [A_ (some m), I_ b, I_ u, I_ mn, I_ sm] σ Q := by
  have hn := hW.n
  intro j
  induction j with
  | zero =>
    intro hj σ b u mn sm Q hM hB hbm hbs hb hmy hsm hQ
    refine call_go [some (A_ (some m)), some (I_ b), some (I_ u), some (I_ mn), some (I_ sm), none] (by decide) (Nat.le_of_ble_eq_true rfl) rfl ?_
    refine g_il1 dX2_tryMatch_0 ?_
    refine g_al0 dX2_tryMatch_1 ?_
    refine f_getA 15 fk_X2_20 rfl hM.sh (fun _ _ => rfl) hM.f15 dX2_tryMatch_2 ?_
    refine g_bipush dX2_tryMatch_5 (by decide) (by decide) ?_
    refine g_ialv hM.a15 (by omega) (hM.rr _) dX2_tryMatch_7 ?_
    refine g_icmp_ne (tgt := 63) dX2_tryMatch_8 (by decide) (by omega) (fun h8 => ?_) (fun h8 => ?_)
    · exact absurd h8 (by omega)
    refine g_il3 dX2_tryMatch_11 ?_
    refine g_al0 dX2_tryMatch_12 ?_
    refine f_getI 31 fk_X2_379 rfl hM.sh (fun _ _ => rfl) dX2_tryMatch_13 ?_
    refine g_icmp_lt (tgt := 36) dX2_tryMatch_16 (by decide) (by omega) (fun h16 => ?_) (fun h16 => ?_)
    · exact g_vret rfl dX2_tryMatch_36 ⟨rfl, hQ _ hM Fr_.rf (fun _ _ _ => rfl) (Or.inr ⟨by simp only [mw_]; omega, rfl, rfl, fun _ => rfl⟩)⟩
    refine g_il3 dX2_tryMatch_19 ?_
    refine g_al0 dX2_tryMatch_20 ?_
    refine f_getI 31 fk_X2_379 rfl hM.sh (fun _ _ => rfl) dX2_tryMatch_21 ?_
    refine g_icmp_ne (tgt := 37) dX2_tryMatch_24 (by decide) (by omega) (fun h24 => ?_) (fun h24 => ?_)
    · refine g_al0 dX2_tryMatch_37 ?_
      refine g_il3 dX2_tryMatch_38 ?_
      refine f_putI 31 fk_X2_379 rfl (nf_ rfl rfl) hM.sh hM.ge rfl dX2_tryMatch_39 ?_
      have hM1 := hM.pi (a := m) (k := 31) (x := mn) ⟨by omega, by omega⟩
      refine g_al0 dX2_tryMatch_42 ?_
      refine g_il4 dX2_tryMatch_43 ?_
      refine f_putI 32 fk_X2_382 rfl (nf_ rfl rfl) hM.sh hM.ge rfl dX2_tryMatch_45 ?_
      have hM2 := hM1.pi (a := m) (k := 32) (x := sm) ⟨by omega, by omega⟩
      refine g_al0 dX2_tryMatch_48 ?_
      refine f_getA 28 fk_X2_44 rfl hM.sh (fun _ _ => rfl) hM.f28 dX2_tryMatch_49 ?_
      refine g_iconst dX2_tryMatch_52 ?_
      refine g_al0 dX2_tryMatch_53 ?_
      refine f_getA 29 fk_X2_47 rfl hM.sh (fun _ _ => rfl) hM.f29 dX2_tryMatch_54 ?_
      refine g_iconst dX2_tryMatch_57 ?_
      refine g_il1 dX2_tryMatch_58 ?_
      refine g_callS5V (d' := 2) lk_X2_176 (rm_lt (by omega) (by decide)) (Nat.le_of_ble_eq_true rfl) dX2_tryMatch_59 ?_
      refine mo_copy hM2.a28 hM2.a29 hM2.g29 (by omega) (by omega) (by omega) (by omega) (by omega) (fun σ3 hF3 hc3 => ?_)
      exact g_vret rfl dX2_tryMatch_62 ⟨rfl, tm0_ hM hF3 hc3 (by omega) (by omega) (by simp only [mw_]; omega) hQ⟩
    refine g_il4 dX2_tryMatch_27 ?_
    refine g_al0 dX2_tryMatch_29 ?_
    refine f_getI 32 fk_X2_382 rfl hM.sh (fun _ _ => rfl) dX2_tryMatch_30 ?_
    refine g_icmp_lt (tgt := 37) dX2_tryMatch_33 (by decide) (by omega) (fun h33 => ?_) (fun h33 => ?_)
    · refine g_al0 dX2_tryMatch_37 ?_
      refine g_il3 dX2_tryMatch_38 ?_
      refine f_putI 31 fk_X2_379 rfl (nf_ rfl rfl) hM.sh hM.ge rfl dX2_tryMatch_39 ?_
      have hM1 := hM.pi (a := m) (k := 31) (x := mn) ⟨by omega, by omega⟩
      refine g_al0 dX2_tryMatch_42 ?_
      refine g_il4 dX2_tryMatch_43 ?_
      refine f_putI 32 fk_X2_382 rfl (nf_ rfl rfl) hM.sh hM.ge rfl dX2_tryMatch_45 ?_
      have hM2 := hM1.pi (a := m) (k := 32) (x := sm) ⟨by omega, by omega⟩
      refine g_al0 dX2_tryMatch_48 ?_
      refine f_getA 28 fk_X2_44 rfl hM.sh (fun _ _ => rfl) hM.f28 dX2_tryMatch_49 ?_
      refine g_iconst dX2_tryMatch_52 ?_
      refine g_al0 dX2_tryMatch_53 ?_
      refine f_getA 29 fk_X2_47 rfl hM.sh (fun _ _ => rfl) hM.f29 dX2_tryMatch_54 ?_
      refine g_iconst dX2_tryMatch_57 ?_
      refine g_il1 dX2_tryMatch_58 ?_
      refine g_callS5V (d' := 2) lk_X2_176 (rm_lt (by omega) (by decide)) (Nat.le_of_ble_eq_true rfl) dX2_tryMatch_59 ?_
      refine mo_copy hM2.a28 hM2.a29 hM2.g29 (by omega) (by omega) (by omega) (by omega) (by omega) (fun σ3 hF3 hc3 => ?_)
      exact g_vret rfl dX2_tryMatch_62 ⟨rfl, tm0_ hM hF3 hc3 (by omega) (by omega) (by simp only [mw_]; omega) hQ⟩
    exact g_vret rfl dX2_tryMatch_36 ⟨rfl, hQ _ hM Fr_.rf (fun _ _ _ => rfl) (Or.inr ⟨by simp only [mw_]; omega, rfl, rfl, fun _ => rfl⟩)⟩
  | succ j ih =>
    intro hj σ b u mn sm Q hM hB hbm hbs hb hmy hsm hQ
    have hcl : ((j + 1 : Nat) : Int) = j + 1 := by omega
    refine call_go [some (A_ (some m)), some (I_ b), some (I_ u), some (I_ mn), some (I_ sm), none] (by decide) (Nat.le_of_ble_eq_true rfl) rfl ?_
    have hb2 : b = r 7 - (j + 1) := by omega
    have J148 : ∀ (σ' : JH) (w : Int), MD_ G m σ' r s → BD_ r s m σ' → Fr_ (my_ m) σ σ' → mi_ r s b (iv_ σ (m + 11)) j u mn sm (iv_ σ m 31) (iv_ σ m 32) (iv_ σ (m + 12)) (iI_ (mf_ (fun w => bg_ r s w (r 7 - (j + 1))) (mw_ r s j) u) (-100, 0, -2) (r 6)) (iv_ σ' m 31) (iv_ σ' m 32) (iv_ σ' (m + 12)) → (∀ c, 0 ≤ c → c < b → iv_ σ' (m + 11) c = iv_ σ (m + 11) c) → (-1 ≤ iv_ σ' m 31 ∧ iv_ σ' m 31 ≤ 8) → (0 ≤ iv_ σ' m 32 ∧ iv_ σ' m 32 ≤ 1000000) → GoM_ G (4 + (j + 1)) yX2_tryMatch cX2_tryMatch 6 none σ (fun v σ' => v = none ∧ Q σ') 148 [some (A_ (some m)), some (I_ b), some (I_ u), some (I_ mn), some (I_ sm), some (I_ w)] [] σ' := by
      intro σ' w hM hB hF hI hT hv hv2
      refine g_al0 dX2_tryMatch_148 ?_
      refine f_getA 28 fk_X2_44 rfl hM.sh (fun _ _ => rfl) hM.f28 dX2_tryMatch_149 ?_
      refine g_il1 dX2_tryMatch_152 ?_
      refine g_bipush dX2_tryMatch_153 (by decide) (by decide) ?_
      refine g_iast hM.a28 hM.g28 (by omega) dX2_tryMatch_155 ?_
      have hM1 := hM.pi (a := m + 11) (k := b) (x := -2) ⟨by omega, by omega⟩
      have hB1 : BD_ r s m (pi_ σ' (m + 11) b (-2)) := hB.fr (S := my_ m) (Fr_.rf.pi (Or.inl rfl)) (fun k q => by unfold my_ at q; omega)
      refine g_al0 dX2_tryMatch_156 ?_
      refine g_il1 dX2_tryMatch_157 ?_
      refine g_iconst dX2_tryMatch_158 ?_
      refine g_iadd dX2_tryMatch_159 ?_
      refine g_il2 dX2_tryMatch_160 ?_
      refine g_il3 dX2_tryMatch_161 ?_
      refine g_il4 dX2_tryMatch_162 ?_
      refine g_callV4V (d' := 4 + j) lk_X2_385 hM.sh rfl (rm_lt (by omega) (by decide)) (Nat.le_of_ble_eq_true rfl) dX2_tryMatch_164 ?_
      refine ih (by omega) hM1 hB1 (by rw [iv_pi, if_neg (by omega)]; exact hv) (by rw [iv_pi, if_neg (by omega)]; exact hv2) (by omega) (by omega) (by omega) (fun σ4 hM4 hF4 hT4 hu4 => ?_)
      exact g_vret rfl dX2_tryMatch_167 ⟨rfl, hQ _ hM4 ((hF.pi (Or.inl rfl)).tr hF4) (fun c c0 c1 => ((hT4 c c0 (by omega)).trans (by rw [iv_pi, if_neg (by omega)])).trans (hT c c0 c1)) (hI.done (by omega) (by omega) (fun c c0 c1 => (show iv_ (pi_ σ' (m + 11) b (-2)) (m + 11) c = _ by rw [iv_pi, if_neg (by omega)]; exact hT c c0 c1)) (show iv_ (pi_ σ' (m + 11) b (-2)) (m + 11) b = -2 by rw [iv_pi, if_pos ⟨rfl, rfl⟩]) (tm1_ hu4))⟩
    have L66 : ∀ (n : Nat) (σ' : JH) (w : Int), r 6 - w < (n : Int) → (MD_ G m σ' r s) → (BD_ r s m σ') → (Fr_ (my_ m) σ σ') → (0 ≤ w) → (w ≤ r 6) → (∀ c, 0 ≤ c → c < b → iv_ σ' (m + 11) c = iv_ σ (m + 11) c) → (-1 ≤ iv_ σ' m 31 ∧ iv_ σ' m 31 ≤ 8) → (0 ≤ iv_ σ' m 32 ∧ iv_ σ' m 32 ≤ 1000000) → (mi_ r s b (iv_ σ (m + 11)) j u mn sm (iv_ σ m 31) (iv_ σ m 32) (iv_ σ (m + 12)) (iI_ (mf_ (fun w => bg_ r s w (r 7 - (j + 1))) (mw_ r s j) u) (-100, 0, -2) w) (iv_ σ' m 31) (iv_ σ' m 32) (iv_ σ' (m + 12))) → GoM_ G (4 + (j + 1)) yX2_tryMatch cX2_tryMatch 6 none σ (fun v σ' => v = none ∧ Q σ') 66 [some (A_ (some m)), some (I_ b), some (I_ u), some (I_ mn), some (I_ sm), some (I_ w)] [] σ' := by
      intro n9
      induction n9 with
      | zero => intro σ' w hn hM hB hF h0 h1 hT hv hv2 hI; exact absurd hn (by omega)
      | succ n9 ih9 =>
        intro σ' w hn hM hB hF h0 h1 hT hv hv2 hI
        refine g_il5 dX2_tryMatch_66 ?_
        refine g_al0 dX2_tryMatch_68 ?_
        refine f_getA 15 fk_X2_20 rfl hM.sh (fun _ _ => rfl) hM.f15 dX2_tryMatch_69 ?_
        refine g_bipush dX2_tryMatch_72 (by decide) (by decide) ?_
        refine g_ialv hM.a15 (by omega) (hM.rr _) dX2_tryMatch_74 ?_
        refine g_icmp_ge (tgt := 148) dX2_tryMatch_75 (by decide) (by omega) (fun h75 => ?_) (fun h75 => ?_)
        · exact J148 _ _ hM hB hF (by rw [show w = r 6 by omega] at hI; exact hI) hT hv hv2
        have hbd := bg_bd hW hD (w := w) (b := b) (by omega) (by omega)
        refine g_il2 dX2_tryMatch_78 ?_
        refine g_il5 dX2_tryMatch_79 ?_
        refine g_callS2I (d' := 2) lk_X2_298 (rm_lt (by omega) (by decide)) (Nat.le_of_ble_eq_true rfl) dX2_tryMatch_81 ?_
        refine mo_hasBit (fun z hz => ?_)
        refine g_if_ne (tgt := 142) dX2_tryMatch_84 (by decide) (by omega) (fun h84 => ?_) (fun h84 => ?_)
        · refine g_inc5 dX2_tryMatch_142 (by decide) rfl ?_
          refine g_goto (tgt := 66) dX2_tryMatch_145 (by decide) ?_
          refine ih9 _ _ (by omega) hM hB hF (by omega) (by omega) hT hv hv2 ?_
          rw [iI_s _ _ h0]
          exact hI.skip (Or.inl (by omega))
        refine g_al0 dX2_tryMatch_87 ?_
        refine f_getA 30 fk_X2_50 rfl hM.sh (fun _ _ => rfl) hM.f30 dX2_tryMatch_88 ?_
        refine g_iconst dX2_tryMatch_91 ?_
        refine g_il1 dX2_tryMatch_92 ?_
        refine g_imul dX2_tryMatch_93 ?_
        refine g_il5 dX2_tryMatch_94 ?_
        refine g_iadd dX2_tryMatch_96 ?_
        refine g_ialv hM.a30 (by omega) (hB b w (by omega) (by omega) (by omega) (by omega)) dX2_tryMatch_97 ?_
        refine g_if_ge (tgt := 104) dX2_tryMatch_98 (by decide) (by omega) (fun h98 => ?_) (fun h98 => ?_)
        · refine g_al0 dX2_tryMatch_104 ?_
          refine f_getA 28 fk_X2_44 rfl hM.sh (fun _ _ => rfl) hM.f28 dX2_tryMatch_105 ?_
          refine g_il1 dX2_tryMatch_108 ?_
          refine g_il5 dX2_tryMatch_109 ?_
          refine g_iast hM.a28 hM.g28 (by omega) dX2_tryMatch_111 ?_
          have hM1 := hM.pi (a := m + 11) (k := b) (x := w) ⟨by omega, by omega⟩
          have hB1 : BD_ r s m (pi_ σ' (m + 11) b w) := hB.fr (S := my_ m) (Fr_.rf.pi (Or.inl rfl)) (fun k q => by unfold my_ at q; omega)
          refine g_al0 dX2_tryMatch_112 ?_
          refine g_il1 dX2_tryMatch_113 ?_
          refine g_iconst dX2_tryMatch_114 ?_
          refine g_iadd dX2_tryMatch_115 ?_
          refine g_il2 dX2_tryMatch_116 ?_
          refine g_iconst dX2_tryMatch_117 ?_
          refine g_il5 dX2_tryMatch_118 ?_
          refine g_ishl dX2_tryMatch_120 ?_
          refine g_ior dX2_tryMatch_121 ?_
          refine g_il3 dX2_tryMatch_122 ?_
          refine g_iconst dX2_tryMatch_123 ?_
          refine g_iadd dX2_tryMatch_124 ?_
          refine g_il4 dX2_tryMatch_125 ?_
          refine g_al0 dX2_tryMatch_127 ?_
          refine f_getA 30 fk_X2_50 rfl hM.sh (fun _ _ => rfl) hM1.f30 dX2_tryMatch_128 ?_
          refine g_iconst dX2_tryMatch_131 ?_
          refine g_il1 dX2_tryMatch_132 ?_
          refine g_imul dX2_tryMatch_133 ?_
          refine g_il5 dX2_tryMatch_134 ?_
          refine g_iadd dX2_tryMatch_136 ?_
          refine g_ialv hM1.a30 (by omega) (hB1 b w (by omega) (by omega) (by omega) (by omega)) dX2_tryMatch_137 ?_
          refine g_iadd dX2_tryMatch_138 ?_
          refine g_callV4V (d' := 4 + j) lk_X2_385 hM.sh rfl (rm_lt (by omega) (by decide)) (Nat.le_of_ble_eq_true rfl) dX2_tryMatch_139 ?_
          refine ih (by omega) hM1 hB1 (by rw [iv_pi, if_neg (by omega)]; exact hv) (by rw [iv_pi, if_neg (by omega)]; exact hv2) (by omega) (by omega) (by omega) (fun σ4 hM4 hF4 hT4 hu4 => ?_)
          have hu4 := tm1_ hu4
          refine g_inc5 dX2_tryMatch_142 (by decide) rfl ?_
          refine g_goto (tgt := 66) dX2_tryMatch_145 (by decide) ?_
          have hI2 := hI.one (w := w) (B := fun w => bg_ r s w (r 7 - (j + 1))) (T' := iv_ (pi_ σ' (m + 11) b w) (m + 11)) (fun q => by rcases q with q | q; (omega); (rw [← hb2] at q; omega)) h0 hb.1 (fun c c0 c1 => by rw [iv_pi, if_neg (by omega)]; exact hT c c0 c1) (by rw [iv_pi, if_pos ⟨rfl, rfl⟩]) (by rw [← hb2]; exact hu4)
          have hbd4 := tmb_ hW hD (by omega) hu4 (by omega) (by omega) (by omega) (by omega) (by omega)
          refine ih9 _ _ (by omega) hM4 (hB1.fr hF4 (fun k q => by unfold my_ at q; omega)) ((hF.pi (Or.inl rfl)).tr hF4) (by omega) (by omega) (fun c c0 c1 => ((hT4 c c0 (by omega)).trans (by rw [iv_pi, if_neg (by omega)])).trans (hT c c0 c1)) hbd4.1 hbd4.2 ?_
          rw [iI_s _ _ h0]
          exact hI2
        refine g_goto (tgt := 142) dX2_tryMatch_101 (by decide) ?_
        refine g_inc5 dX2_tryMatch_142 (by decide) rfl ?_
        refine g_goto (tgt := 66) dX2_tryMatch_145 (by decide) ?_
        refine ih9 _ _ (by omega) hM hB hF (by omega) (by omega) hT hv hv2 ?_
        rw [iI_s _ _ h0]
        exact hI.skip (Or.inr (by rw [← hb2]; omega))
    refine g_il1 dX2_tryMatch_0 ?_
    refine g_al0 dX2_tryMatch_1 ?_
    refine f_getA 15 fk_X2_20 rfl hM.sh (fun _ _ => rfl) hM.f15 dX2_tryMatch_2 ?_
    refine g_bipush dX2_tryMatch_5 (by decide) (by decide) ?_
    refine g_ialv hM.a15 (by omega) (hM.rr _) dX2_tryMatch_7 ?_
    refine g_icmp_ne (tgt := 63) dX2_tryMatch_8 (by decide) (by omega) (fun h8 => ?_) (fun h8 => ?_)
    · refine g_iconst dX2_tryMatch_63 ?_
      refine g_is5 dX2_tryMatch_64 (by decide) rfl ?_
      exact L66 ((r 6).toNat + 1) _ _ (by omega) hM hB Fr_.rf (by omega) (by omega) (fun _ _ _ => rfl) hbm hbs (mi_.start (by omega) (by omega))
    exact absurd h8 (by omega)
end
