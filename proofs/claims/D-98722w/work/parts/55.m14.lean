/-! THE REFERENCE: tokens. Written by mod/m55.py -/
set_option maxRecDepth 100000
section
variable {G : JG} {m : Nat} {σ : JH}
theorem MR_.pi {a : Nat} {k x : Int} (h : MR_ G m σ) : MR_ G m (pi_ σ a k x) := h
theorem MR_.pb {a : Nat} {lo n : Int} {f : Int → Int} (h : MR_ G m σ) : MR_ G m (pb_ σ a lo n f) := h
/-- the text is one -/
def TX_ (m : Nat) (γ : JH) : Prop := (0 ≤ iv_ γ m 3 ∧ iv_ γ m 3 ≤ 1000) ∧ ∀ k, 0 ≤ k → k < iv_ γ m 3 → 0 ≤ iv_ γ (m + 1) k ∧ iv_ γ (m + 1) k ≤ 255
theorem lk_in {γ : JH} (h : TX_ m γ) {k : Int} (hk : 0 ≤ k) : -1 ≤ lk_ m γ k ∧ lk_ m γ k ≤ 255 ∧ (lk_ m γ k = -1 ↔ iv_ γ m 3 ≤ k) := by
  unfold lk_
  split
  · have := h.2 k hk (by omega); omega
  · omega
theorem mo_look  {k : Int} {Q : Int → JH → Prop} (hR : MR_ G m σ) (hT : TX_ m σ) (hk : 0 ≤ k ∧ k < 2000000000)
    (hQ : Q (lk_ m σ k) σ) : CallI_ G 2 yX2_look cX2_look 2 (some .int) [A_ (some m), I_ k] σ Q := by
  refine call_go [some (A_ (some m)), some (I_ k)] (by decide) (Nat.le_of_ble_eq_true rfl) rfl ?_
  have ht := hT.1
  refine g_il1 dX2_look_0 ?_
  refine g_al0 dX2_look_1 ?_
  refine f_getI 3 fk_X2_71 rfl hR.sh (fun _ _ => rfl) dX2_look_2 ?_
  refine g_icmp_ge (tgt := 17) dX2_look_5 (by decide) (by omega) (fun h5 => ?_) (fun h5 => ?_)
  · refine g_iconst dX2_look_17 ?_
    exact g_iret rfl dX2_look_18 ⟨_, rfl, by unfold lk_ at hQ; rw [if_neg (by omega)] at hQ; exact hQ⟩
  refine g_al0 dX2_look_8 ?_
  refine f_getA 1 fk_X2_7 rfl hR.sh (fun _ _ => rfl) hR.f1 dX2_look_9 ?_
  refine g_il1 dX2_look_12 ?_
  refine g_iald hR.a1 (by omega) dX2_look_13 ?_
  refine g_goto (tgt := 18) dX2_look_14 (by decide) ?_
  exact g_iret rfl dX2_look_18 ⟨_, rfl, by unfold lk_ at hQ; rw [if_pos (by omega)] at hQ; exact hQ⟩
theorem mo_wrong  {w at1 : Int} {Q : JH → Prop} (hR : MR_ G m σ) (hf : iv_ σ m 13 = 0 ∨ iv_ σ m 13 = 1)
    (hQ : Q (wr_ m σ w at1)) : CallV_ G 2 yX2_wrong cX2_wrong 3 none [A_ (some m), I_ w, I_ at1] σ Q := by
  refine call_go [some (A_ (some m)), some (I_ w), some (I_ at1)] (by decide) (Nat.le_of_ble_eq_true rfl) rfl ?_
  refine g_al0 dX2_wrong_0 ?_
  refine f_getI 13 fk_X2_100 rfl hR.sh (fun _ _ => rfl) dX2_wrong_1 ?_
  refine g_if_eq (tgt := 8) dX2_wrong_4 (by decide) (by omega) (fun h4 => ?_) (fun h4 => ?_)
  · refine g_al0 dX2_wrong_8 ?_
    refine g_iconst dX2_wrong_9 ?_
    refine f_putZ 13 fk_X2_100 rfl (nf_ rfl rfl) hR.sh hR.ge rfl (by omega) dX2_wrong_10 ?_
    refine g_al0 dX2_wrong_13 ?_
    refine g_il1 dX2_wrong_14 ?_
    refine f_putI 9 fk_X2_104 rfl (nf_ rfl rfl) hR.sh hR.ge rfl dX2_wrong_15 ?_
    refine g_al0 dX2_wrong_18 ?_
    refine g_il2 dX2_wrong_19 ?_
    refine f_putI 10 fk_X2_13 rfl (nf_ rfl rfl) hR.sh hR.ge rfl dX2_wrong_20 ?_
    exact g_vret rfl dX2_wrong_23 ⟨rfl, by unfold wr_ at hQ; rw [if_pos (by omega)] at hQ; exact hQ⟩
  exact g_vret rfl dX2_wrong_7 ⟨rfl, by unfold wr_ at hQ; rw [if_neg (by omega)] at hQ; exact hQ⟩
theorem lk_pi {γ : JH} {a : Nat} {j x : Int} (h : a ≠ m + 1 ∧ ¬ (a = m ∧ j = 3)) (k : Int) : lk_ m (pi_ γ a j x) k = lk_ m γ k := by
  have e1 : iv_ (pi_ γ a j x) m 3 = iv_ γ m 3 := by rw [iv_pi, if_neg (fun q => h.2 ⟨q.1.symm, q.2.symm⟩)]
  have e2 : iv_ (pi_ γ a j x) (m + 1) k = iv_ γ (m + 1) k := by rw [iv_pi, if_neg (fun q => h.1 q.1.symm)]
  unfold lk_
  rw [e1, e2]
theorem TX_.pi {γ : JH} {a : Nat} {j x : Int} (h : TX_ m γ) (ha : a ≠ m + 1 ∧ ¬ (a = m ∧ j = 3)) : TX_ m (pi_ γ a j x) := by
  unfold TX_
  rw [iv_pi, if_neg (fun q => ha.2 ⟨q.1.symm, q.2.symm⟩)]
  exact ⟨h.1, fun k k0 k1 => by rw [iv_pi, if_neg (fun q => ha.1 q.1.symm)]; exact h.2 k k0 k1⟩
theorem lk_pb {γ : JH} {a : Nat} {lo n : Int} {f : Int → Int} (h : a ≠ m + 1 ∧ a ≠ m) (k : Int) : lk_ m (pb_ γ a lo n f) k = lk_ m γ k := by
  have e1 : iv_ (pb_ γ a lo n f) m 3 = iv_ γ m 3 := by rw [iv_pb, if_neg (fun q => h.2 q.1.symm)]
  have e2 : iv_ (pb_ γ a lo n f) (m + 1) k = iv_ γ (m + 1) k := by rw [iv_pb, if_neg (fun q => h.1 q.1.symm)]
  unfold lk_
  rw [e1, e2]
theorem TX_.pb {γ : JH} {a : Nat} {lo n : Int} {f : Int → Int} (h : TX_ m γ) (ha : a ≠ m + 1 ∧ a ≠ m) : TX_ m (pb_ γ a lo n f) := by
  unfold TX_
  rw [iv_pb, if_neg (fun q => ha.2 q.1.symm)]
  exact ⟨h.1, fun k k0 k1 => by rw [iv_pb, if_neg (fun q => ha.1 q.1.symm)]; exact h.2 k k0 k1⟩
/-- while a word is read: c letters so far -/
def nW_ (m : Nat) (g γ : JH) (k c : Int) : JH := pi_ (pb_ g (m + 2) 0 (mn8_ c 8) (fun j => lk_ m γ (k + j))) m 8 c
theorem nW_0 {g γ : JH} {k : Int} (h : iv_ g m 8 = 0) : nW_ m g γ k 0 = g := jx_ rfl rfl fun b j => by
  unfold nW_ mn8_
  rw [iv_pi, iv_pb]
  by_cases q : b = m ∧ j = 8
  · rw [if_pos q, q.1, q.2, h]
  · rw [if_neg q, if_neg (by rw [if_pos (by decide)]; omega)]
theorem nW_s {g γ : JH} {k c : Int} (h0 : 0 ≤ c) (h1 : c < 8) : pi_ (pi_ (nW_ m g γ k c) (m + 2) c (lk_ m γ (k + c))) m 8 (c + 1) = nW_ m g γ k (c + 1) := by
  have e1 : mn8_ c 8 = c := by unfold mn8_; rw [if_pos h1]
  have e2 : mn8_ (c + 1) 8 = c + 1 := by unfold mn8_; split <;> omega
  unfold nW_
  rw [e1, e2, pi_cm _ (by omega), pi_pi, ← pb_s _ _ _ _ h0, show (0 : Int) + c = c by omega, pi_cm _ (by omega)]
theorem nW_t {g γ : JH} {k c : Int} (h1 : ¬ c < 8) : pi_ (nW_ m g γ k c) m 8 (c + 1) = nW_ m g γ k (c + 1) := by
  have e1 : mn8_ c 8 = 8 := by unfold mn8_; rw [if_neg h1]
  have e2 : mn8_ (c + 1) 8 = 8 := by unfold mn8_; rw [if_neg (by omega)]
  unfold nW_
  rw [e1, e2, pi_pi]
theorem nW_8 {g γ : JH} {k c : Int} : iv_ (nW_ m g γ k c) m 8 = c := by unfold nW_; rw [iv_pi, if_pos ⟨rfl, rfl⟩]
/-- while a number is read: c digits so far -/
def nD_ (m : Nat) (g γ : JH) (k c : Int) : JH := pi_ g m 7 (dv_ (lk_ m γ) k (mn8_ c 4))
theorem nD_0 {g γ : JH} {k : Int} (h : iv_ g m 7 = 0) : nD_ m g γ k 0 = g := jx_ rfl rfl fun b j => by
  unfold nD_
  rw [iv_pi]
  by_cases q : b = m ∧ j = 7
  · rw [if_pos q, q.1, q.2, h]; rfl
  · rw [if_neg q]
theorem nD_7 {g γ : JH} {k c : Int} : iv_ (nD_ m g γ k c) m 7 = dv_ (lk_ m γ) k (mn8_ c 4) := by unfold nD_; rw [iv_pi, if_pos ⟨rfl, rfl⟩]
theorem nD_s {g γ : JH} {k c : Int} (h0 : 0 ≤ c) (h1 : c < 4) : pi_ (nD_ m g γ k c) m 7 (10 * dv_ (lk_ m γ) k (mn8_ c 4) + lk_ m γ (k + c) - 48) = nD_ m g γ k (c + 1) := by
  have e1 : mn8_ c 4 = c := by unfold mn8_; rw [if_pos h1]
  have e2 : mn8_ (c + 1) 4 = c + 1 := by unfold mn8_; split <;> omega
  unfold nD_
  rw [pi_pi, e1, e2]
  unfold dv_
  rw [iI_s _ _ h0]
theorem nD_t {g γ : JH} {k c : Int} (h1 : ¬ c < 4) : nD_ m g γ k c = nD_ m g γ k (c + 1) := by
  have e1 : mn8_ c 4 = 4 := by unfold mn8_; rw [if_neg h1]
  have e2 : mn8_ (c + 1) 4 = 4 := by unfold mn8_; rw [if_neg (by omega)]
  unfold nD_
  rw [e1, e2]
theorem mo_next  {Q : JH → Prop} (hR : MR_ G m σ) (hT : TX_ m σ) (he : 0 ≤ iv_ σ m 5 ∧ iv_ σ m 5 ≤ iv_ σ m 3)
    (hQ : Q (nxt_ m σ)) : CallV_ G 3 yX2_next cX2_next 4 none [A_ (some m)] σ Q := by
  refine call_go [some (A_ (some m)), none, none, none] (by decide) (Nat.le_of_ble_eq_true rfl) rfl ?_
  have ht := hT.1
  have J21 : ∀ k : Int, (iv_ σ m 5 ≤ k ∧ k ≤ iv_ σ m 3) → skp_ isB2_ (lk_ m σ) (iv_ σ m 5) (iv_ σ m 3) = k → GoM_ G 3 yX2_next cX2_next 4 none σ (fun v σ' => v = none ∧ Q σ') 21 [some (A_ (some m)), some (I_ k), none, none] [] σ := by
    intro k hk hsk
    have hl0 := lk_in hT (k := k) (by omega)
    have hlk : ∀ j, lk_ m (pi_ σ m 4 k) j = lk_ m σ j := lk_pi ⟨by omega, by omega⟩
    have hT1 := hT.pi (a := m) (j := 4) (x := k) ⟨by omega, by omega⟩
    have hT3 := (hT1.pi (a := m) (j := 8) (x := 0) ⟨by omega, by omega⟩).pi (a := m) (j := 7) (x := 0) ⟨by omega, by omega⟩
    have hg3 : ∀ j, lk_ m (pi_ (pi_ (pi_ σ m 4 k) m 8 0) m 7 0) j = lk_ m σ j := fun j => (lk_pi ⟨by omega, by omega⟩ j).trans ((lk_pi ⟨by omega, by omega⟩ j).trans (hlk j))
    have hWT : ∀ c, TX_ m (nW_ m (pi_ (pi_ (pi_ σ m 4 k) m 8 0) m 7 0) σ k c) := fun c => (hT3.pb ⟨by omega, by omega⟩).pi ⟨by omega, by omega⟩
    have hWl : ∀ c j, lk_ m (nW_ m (pi_ (pi_ (pi_ σ m 4 k) m 8 0) m 7 0) σ k c) j = lk_ m σ j := fun c j => (lk_pi ⟨by omega, by omega⟩ j).trans ((lk_pb ⟨by omega, by omega⟩ j).trans (hg3 j))
    have hDT : ∀ c, TX_ m (nD_ m (pi_ (pi_ (pi_ σ m 4 k) m 8 0) m 7 0) σ k c) := fun c => hT3.pi ⟨by omega, by omega⟩
    have hDl : ∀ c j, lk_ m (nD_ m (pi_ (pi_ (pi_ σ m 4 k) m 8 0) m 7 0) σ k c) j = lk_ m σ j := fun c j => (lk_pi ⟨by omega, by omega⟩ j).trans (hg3 j)
    have hnx2 : ∀ {a : Int}, (97 ≤ lk_ m σ k ∧ lk_ m σ k ≤ 122) → skp_ isS_ (lk_ m σ) k (iv_ σ m 3) = a → nxt_ m σ = pi_ (pi_ (nW_ m (pi_ (pi_ (pi_ σ m 4 k) m 8 0) m 7 0) σ k (a - k)) m 5 a) m 6 (if 8 < a - k then 1 else 2) := by
      intro a h1 h2
      unfold nxt_
      dsimp only
      rw [hsk, if_neg (by omega), if_pos (show isS_ (lk_ m σ k) = true from decide_eq_true h1), h2]
      rfl
    have hnx3 : ∀ {a : Int}, ¬ (97 ≤ lk_ m σ k ∧ lk_ m σ k ≤ 122) → (48 ≤ lk_ m σ k ∧ lk_ m σ k ≤ 57) → skp_ isD_ (lk_ m σ) k (iv_ σ m 3) = a → nxt_ m σ = pi_ (pi_ (nD_ m (pi_ (pi_ (pi_ σ m 4 k) m 8 0) m 7 0) σ k (a - k)) m 5 a) m 6 (if 4 < a - k then 1 else 3) := by
      intro a h0 h1 h2
      unfold nxt_
      dsimp only
      rw [hsk, if_neg (by omega), if_neg (show ¬ isS_ (lk_ m σ k) = true from fun q => h0 (of_decide_eq_true q)), if_pos (show isD_ (lk_ m σ k) = true from decide_eq_true h1), h2]
      unfold nD_
      rw [pi_pi]
    refine g_al0 dX2_next_21 ?_
    refine g_il1 dX2_next_22 ?_
    refine f_putI 4 fk_X2_81 rfl (nf_ rfl rfl) hR.sh hR.ge rfl dX2_next_23 ?_
    refine g_al0 dX2_next_26 ?_
    refine g_il1 dX2_next_27 ?_
    refine g_callV1I (d' := 2) lk_X2_77 hR.sh rfl (rm_lt (by decide) (by decide)) (Nat.le_of_ble_eq_true rfl) dX2_next_28 ?_
    refine mo_look (σ := pi_ σ m 4 k) hR hT1 (by omega) ?_
    rw [hlk]
    refine g_is2 dX2_next_31 (by decide) rfl ?_
    refine g_al0 dX2_next_32 ?_
    refine g_iconst dX2_next_33 ?_
    refine f_putI 8 fk_X2_84 rfl (nf_ rfl rfl) hR.sh hR.ge rfl dX2_next_34 ?_
    refine g_al0 dX2_next_37 ?_
    refine g_iconst dX2_next_38 ?_
    refine f_putI 7 fk_X2_87 rfl (nf_ rfl rfl) hR.sh hR.ge rfl dX2_next_39 ?_
    refine g_il2 dX2_next_42 ?_
    refine g_iconst dX2_next_43 ?_
    refine g_icmp_ne (tgt := 60) dX2_next_44 (by decide) (by omega) (fun h44 => ?_) (fun h44 => ?_)
    · refine g_il2 dX2_next_60 ?_
      refine g_callS1I (d' := 2) lk_X2_93 (rm_lt (by decide) (by decide)) (Nat.le_of_ble_eq_true rfl) dX2_next_61 ?_
      refine mo_isSmall (by omega) (fun z hz => ?_)
      
      refine g_if_eq (tgt := 143) dX2_next_64 (by decide) (by omega) (fun h64 => ?_) (fun h64 => ?_)
      · refine g_il2 dX2_next_143 ?_
        refine g_callS1I (d' := 2) lk_X2_97 (rm_lt (by decide) (by decide)) (Nat.le_of_ble_eq_true rfl) dX2_next_144 ?_
        refine mo_isDigit (by omega) (fun y hy => ?_)
        refine g_if_eq (tgt := 219) dX2_next_147 (by decide) (by omega) (fun h147 => ?_) (fun h147 => ?_)
        · refine g_al0 dX2_next_219 ?_
          refine g_il1 dX2_next_220 ?_
          refine g_iconst dX2_next_221 ?_
          refine g_iadd dX2_next_222 ?_
          refine f_putI 5 fk_X2_74 rfl (nf_ rfl rfl) hR.sh hR.ge rfl dX2_next_223 ?_
          refine g_al0 dX2_next_226 ?_
          refine g_il2 dX2_next_227 ?_
          refine g_bipush dX2_next_228 (by decide) (by decide) ?_
          refine g_icmp_ne (tgt := 237) dX2_next_230 (by decide) (by omega) (fun h230 => ?_) (fun h230 => ?_)
          · refine g_iconst dX2_next_237 ?_
            refine f_putI 6 fk_X2_90 rfl (nf_ rfl rfl) hR.sh hR.ge rfl dX2_next_238 ?_
            exact g_vret rfl dX2_next_241 ⟨rfl, by unfold nxt_ at hQ; dsimp only at hQ; rw [hsk, if_neg (by omega), if_neg (show ¬ isS_ (lk_ m σ k) = true from fun q => absurd (of_decide_eq_true q) (by omega)), if_neg (show ¬ isD_ (lk_ m σ k) = true from fun q => absurd (of_decide_eq_true q) (by omega)), if_neg (by omega)] at hQ; exact hQ⟩
          refine g_il2 dX2_next_233 ?_
          refine g_top (show lk_ m σ k = 59 by omega) ?_
          refine g_goto (tgt := 238) dX2_next_234 (by decide) ?_
          refine f_putI 6 fk_X2_90 rfl (nf_ rfl rfl) hR.sh hR.ge rfl dX2_next_238 ?_
          exact g_vret rfl dX2_next_241 ⟨rfl, by unfold nxt_ at hQ; dsimp only at hQ; rw [hsk, if_neg (by omega), if_neg (show ¬ isS_ (lk_ m σ k) = true from fun q => absurd (of_decide_eq_true q) (by omega)), if_neg (show ¬ isD_ (lk_ m σ k) = true from fun q => absurd (of_decide_eq_true q) (by omega)), if_pos (by omega)] at hQ; exact hQ⟩
        refine g_iconst dX2_next_150 ?_
        refine g_is3 dX2_next_151 (by decide) rfl ?_
        have h97 : ¬ (97 ≤ lk_ m σ k ∧ lk_ m σ k ≤ 122) := by omega
        have h48 : 48 ≤ lk_ m σ k ∧ lk_ m σ k ≤ 57 := by omega
        have L152 : ∀ (n : Nat) (a : Int), iv_ σ m 3 - a < (n : Int) → (k ≤ a) → (a ≤ iv_ σ m 3) → (∀ j, k ≤ j → j < a → isD_ (lk_ m σ j) = true) → GoM_ G 3 yX2_next cX2_next 4 none σ (fun v σ' => v = none ∧ Q σ') 152 [some (A_ (some m)), some (I_ a), some (I_ (lk_ m σ k)), some (I_ (a - k))] [] (nD_ m (pi_ (pi_ (pi_ σ m 4 k) m 8 0) m 7 0) σ k (a - k)) := by
          intro n
          induction n with
          | zero => intro a hn g0 g1 ga; exact absurd hn (by omega)
          | succ n ih =>
            intro a hn g0 g1 ga
            refine g_al0 dX2_next_152 ?_
            refine g_il1 dX2_next_153 ?_
            refine g_callV1I (d' := 2) lk_X2_77 hR.sh rfl (rm_lt (by decide) (by decide)) (Nat.le_of_ble_eq_true rfl) dX2_next_154 ?_
            refine mo_look (σ := (nD_ m (pi_ (pi_ (pi_ σ m 4 k) m 8 0) m 7 0) σ k (a - k))) hR (hDT _) (by omega) ?_
            rw [hDl]
            have hl := lk_in hT (k := a) (by omega)
            refine g_callS1I (d' := 2) lk_X2_97 (rm_lt (by decide) (by decide)) (Nat.le_of_ble_eq_true rfl) dX2_next_157 ?_
            refine mo_isDigit (by omega) (fun z hz => ?_)
            refine g_if_eq (tgt := 197) dX2_next_160 (by decide) (by omega) (fun h160 => ?_) (fun h160 => ?_)
            · refine g_al0 dX2_next_197 ?_
              refine g_il1 dX2_next_198 ?_
              refine f_putI 5 fk_X2_74 rfl (nf_ rfl rfl) hR.sh hR.ge rfl dX2_next_199 ?_
              refine g_al0 dX2_next_202 ?_
              refine g_il3 dX2_next_203 ?_
              refine g_iconst dX2_next_204 ?_
              refine g_icmp_le (tgt := 212) dX2_next_205 (by decide) (by omega) (fun h205 => ?_) (fun h205 => ?_)
              · refine g_iconst dX2_next_212 ?_
                refine f_putI 6 fk_X2_90 rfl (nf_ rfl rfl) hR.sh hR.ge rfl dX2_next_213 ?_
                refine g_goto (tgt := 241) dX2_next_216 (by decide) ?_
                exact g_vret rfl dX2_next_241 ⟨rfl, by rw [hnx3 (by omega) (by omega) (skp_hit (by omega) (by omega) ga (decide_eq_false (by omega))), if_neg (by omega)] at hQ; exact hQ⟩
              refine g_iconst dX2_next_208 ?_
              refine g_goto (tgt := 213) dX2_next_209 (by decide) ?_
              refine f_putI 6 fk_X2_90 rfl (nf_ rfl rfl) hR.sh hR.ge rfl dX2_next_213 ?_
              refine g_goto (tgt := 241) dX2_next_216 (by decide) ?_
              exact g_vret rfl dX2_next_241 ⟨rfl, by rw [hnx3 (by omega) (by omega) (skp_hit (by omega) (by omega) ga (decide_eq_false (by omega))), if_pos (by omega)] at hQ; exact hQ⟩
            refine g_il3 dX2_next_163 ?_
            refine g_iconst dX2_next_164 ?_
            refine g_icmp_ge (tgt := 188) dX2_next_165 (by decide) (by omega) (fun h165 => ?_) (fun h165 => ?_)
            · refine g_inc3 dX2_next_188 (by decide) rfl ?_
              refine g_inc1 dX2_next_191 (by decide) rfl ?_
              refine g_goto (tgt := 152) dX2_next_194 (by decide) ?_
              have h := ih (a + 1) (by omega) (by omega) (by omega) (fun j j0 j1 => by
                by_cases hj : j = a
                · rw [hj]; exact decide_eq_true (by omega)
                · exact ga j j0 (by omega))
              rw [show a + 1 - k = (a - k) + 1 by omega, ← nD_t (by omega)] at h
              exact h
            refine g_al0 dX2_next_168 ?_
            refine g_bipush dX2_next_169 (by decide) (by decide) ?_
            refine g_al0 dX2_next_171 ?_
            refine f_getv 7 fk_X2_87 rfl hR.sh (fun _ _ => rfl) nD_7 dX2_next_172 ?_
            refine g_imul dX2_next_175 ?_
            refine g_al0 dX2_next_176 ?_
            refine g_il1 dX2_next_177 ?_
            refine g_callV1I (d' := 2) lk_X2_77 hR.sh rfl (rm_lt (by decide) (by decide)) (Nat.le_of_ble_eq_true rfl) dX2_next_178 ?_
            refine mo_look (σ := (nD_ m (pi_ (pi_ (pi_ σ m 4 k) m 8 0) m 7 0) σ k (a - k))) hR (hDT _) (by omega) ?_
            rw [hDl]
            refine g_iadd dX2_next_181 ?_
            refine g_bipush dX2_next_182 (by decide) (by decide) ?_
            refine g_isub dX2_next_184 ?_
            refine f_putI 7 fk_X2_87 rfl (nf_ rfl rfl) hR.sh hR.ge rfl dX2_next_185 ?_
            refine g_inc3 dX2_next_188 (by decide) rfl ?_
            refine g_inc1 dX2_next_191 (by decide) rfl ?_
            refine g_goto (tgt := 152) dX2_next_194 (by decide) ?_
            have h := ih (a + 1) (by omega) (by omega) (by omega) (fun j j0 j1 => by
              by_cases hj : j = a
              · rw [hj]; exact decide_eq_true (by omega)
              · exact ga j j0 (by omega))
            rw [show a + 1 - k = (a - k) + 1 by omega, ← nD_s (by omega) (by omega), show k + (a - k) = a by omega] at h
            exact h
        have h := L152 ((iv_ σ m 3).toNat + 1) k (by omega) (by omega) (by omega) (fun j j0 j1 => by omega)
        rw [show k - k = 0 by omega, nD_0 (by simp [iv_pi])] at h
        exact h
      have h97 : 97 ≤ lk_ m σ k ∧ lk_ m σ k ≤ 122 := by omega
      have L67 : ∀ (n : Nat) (a : Int), iv_ σ m 3 - a < (n : Int) → (k ≤ a) → (a ≤ iv_ σ m 3) → (∀ j, k ≤ j → j < a → isS_ (lk_ m σ j) = true) → GoM_ G 3 yX2_next cX2_next 4 none σ (fun v σ' => v = none ∧ Q σ') 67 [some (A_ (some m)), some (I_ a), some (I_ (lk_ m σ k)), none] [] (nW_ m (pi_ (pi_ (pi_ σ m 4 k) m 8 0) m 7 0) σ k (a - k)) := by
        intro n
        induction n with
        | zero => intro a hn g0 g1 ga; exact absurd hn (by omega)
        | succ n ih =>
          intro a hn g0 g1 ga
          refine g_al0 dX2_next_67 ?_
          refine g_il1 dX2_next_68 ?_
          refine g_callV1I (d' := 2) lk_X2_77 hR.sh rfl (rm_lt (by decide) (by decide)) (Nat.le_of_ble_eq_true rfl) dX2_next_69 ?_
          refine mo_look (σ := (nW_ m (pi_ (pi_ (pi_ σ m 4 k) m 8 0) m 7 0) σ k (a - k))) hR (hWT _) (by omega) ?_
          rw [hWl]
          have hl := lk_in hT (k := a) (by omega)
          refine g_callS1I (d' := 2) lk_X2_93 (rm_lt (by decide) (by decide)) (Nat.le_of_ble_eq_true rfl) dX2_next_72 ?_
          refine mo_isSmall (by omega) (fun z hz => ?_)
          refine g_if_eq (tgt := 117) dX2_next_75 (by decide) (by omega) (fun h75 => ?_) (fun h75 => ?_)
          · refine g_al0 dX2_next_117 ?_
            refine g_il1 dX2_next_118 ?_
            refine f_putI 5 fk_X2_74 rfl (nf_ rfl rfl) hR.sh hR.ge rfl dX2_next_119 ?_
            refine g_al0 dX2_next_122 ?_
            refine g_al0 dX2_next_123 ?_
            refine f_getv 8 fk_X2_84 rfl hR.sh (fun _ _ => rfl) (show iv_ (pi_ _ _ _ _) m 8 = a - k by rw [iv_pi, if_neg (by omega)]; exact nW_8) dX2_next_124 ?_
            refine g_bipush dX2_next_127 (by decide) (by decide) ?_
            refine g_icmp_le (tgt := 136) dX2_next_129 (by decide) (by omega) (fun h129 => ?_) (fun h129 => ?_)
            · refine g_iconst dX2_next_136 ?_
              refine f_putI 6 fk_X2_90 rfl (nf_ rfl rfl) hR.sh hR.ge rfl dX2_next_137 ?_
              refine g_goto (tgt := 241) dX2_next_140 (by decide) ?_
              exact g_vret rfl dX2_next_241 ⟨rfl, by rw [hnx2 (by omega) (skp_hit (by omega) (by omega) ga (decide_eq_false (by omega))), if_neg (by omega)] at hQ; exact hQ⟩
            refine g_iconst dX2_next_132 ?_
            refine g_goto (tgt := 137) dX2_next_133 (by decide) ?_
            refine f_putI 6 fk_X2_90 rfl (nf_ rfl rfl) hR.sh hR.ge rfl dX2_next_137 ?_
            refine g_goto (tgt := 241) dX2_next_140 (by decide) ?_
            exact g_vret rfl dX2_next_241 ⟨rfl, by rw [hnx2 (by omega) (skp_hit (by omega) (by omega) ga (decide_eq_false (by omega))), if_pos (by omega)] at hQ; exact hQ⟩
          refine g_al0 dX2_next_78 ?_
          refine f_getv 8 fk_X2_84 rfl hR.sh (fun _ _ => rfl) nW_8 dX2_next_79 ?_
          refine g_bipush dX2_next_82 (by decide) (by decide) ?_
          refine g_icmp_ge (tgt := 101) dX2_next_84 (by decide) (by omega) (fun h84 => ?_) (fun h84 => ?_)
          · refine g_al0 dX2_next_101 ?_
            refine g_dup dX2_next_102 rfl ?_
            refine f_getv 8 fk_X2_84 rfl hR.sh (fun _ _ => rfl) nW_8 dX2_next_103 ?_
            refine g_iconst dX2_next_106 ?_
            refine g_iadd dX2_next_107 ?_
            refine f_putI 8 fk_X2_84 rfl (nf_ rfl rfl) hR.sh hR.ge rfl dX2_next_108 ?_
            refine g_inc1 dX2_next_111 (by decide) rfl ?_
            refine g_goto (tgt := 67) dX2_next_114 (by decide) ?_
            have h := ih (a + 1) (by omega) (by omega) (by omega) (fun j j0 j1 => by
              by_cases hj : j = a
              · rw [hj]; exact decide_eq_true (by omega)
              · exact ga j j0 (by omega))
            rw [show a + 1 - k = (a - k) + 1 by omega, ← nW_t (by omega)] at h
            exact h
          refine g_al0 dX2_next_87 ?_
          refine f_getA 12 fk_X2_17 rfl hR.sh (fun _ _ => rfl) hR.f12 dX2_next_88 ?_
          refine g_al0 dX2_next_91 ?_
          refine f_getv 8 fk_X2_84 rfl hR.sh (fun _ _ => rfl) nW_8 dX2_next_92 ?_
          refine g_al0 dX2_next_95 ?_
          refine g_il1 dX2_next_96 ?_
          refine g_callV1I (d' := 2) lk_X2_77 hR.sh rfl (rm_lt (by decide) (by decide)) (Nat.le_of_ble_eq_true rfl) dX2_next_97 ?_
          refine mo_look (σ := (nW_ m (pi_ (pi_ (pi_ σ m 4 k) m 8 0) m 7 0) σ k (a - k))) hR (hWT _) (by omega) ?_
          rw [hWl]
          refine g_iast hR.a12 hR.g12 (by omega) dX2_next_100 ?_
          refine g_al0 dX2_next_101 ?_
          refine g_dup dX2_next_102 rfl ?_
          refine f_getv 8 fk_X2_84 rfl hR.sh (fun _ _ => rfl) (show iv_ (pi_ _ _ _ _) m 8 = a - k by rw [iv_pi, if_neg (by omega)]; exact nW_8) dX2_next_103 ?_
          refine g_iconst dX2_next_106 ?_
          refine g_iadd dX2_next_107 ?_
          refine f_putI 8 fk_X2_84 rfl (nf_ rfl rfl) hR.sh hR.ge rfl dX2_next_108 ?_
          refine g_inc1 dX2_next_111 (by decide) rfl ?_
          refine g_goto (tgt := 67) dX2_next_114 (by decide) ?_
          have h := ih (a + 1) (by omega) (by omega) (by omega) (fun j j0 j1 => by
            by_cases hj : j = a
            · rw [hj]; exact decide_eq_true (by omega)
            · exact ga j j0 (by omega))
          rw [show a + 1 - k = (a - k) + 1 by omega, ← nW_s (by omega) (by omega), show k + (a - k) = a by omega] at h
          exact h
      have h := L67 ((iv_ σ m 3).toNat + 1) k (by omega) (by omega) (by omega) (fun j j0 j1 => by omega)
      rw [show k - k = 0 by omega, nW_0 (by simp [iv_pi])] at h
      exact h
    refine g_al0 dX2_next_47 ?_
    refine g_iconst dX2_next_48 ?_
    refine f_putI 6 fk_X2_90 rfl (nf_ rfl rfl) hR.sh hR.ge rfl dX2_next_49 ?_
    refine g_al0 dX2_next_52 ?_
    refine g_il1 dX2_next_53 ?_
    refine f_putI 5 fk_X2_74 rfl (nf_ rfl rfl) hR.sh hR.ge rfl dX2_next_54 ?_
    refine g_goto (tgt := 241) dX2_next_57 (by decide) ?_
    exact g_vret rfl dX2_next_241 ⟨rfl, by unfold nxt_ at hQ; dsimp only at hQ; rw [hsk, if_pos (by omega)] at hQ; exact hQ⟩
  have L5 : ∀ (n : Nat) (k : Int), iv_ σ m 3 - k < (n : Int) → (iv_ σ m 5 ≤ k) → (k ≤ iv_ σ m 3) → (∀ j, iv_ σ m 5 ≤ j → j < k → isB2_ (lk_ m σ j) = true) → GoM_ G 3 yX2_next cX2_next 4 none σ (fun v σ' => v = none ∧ Q σ') 5 [some (A_ (some m)), some (I_ k), none, none] [] σ := by
    intro n
    induction n with
    | zero => intro k hn h0 h1 ha; exact absurd hn (by omega)
    | succ n ih =>
      intro k hn h0 h1 ha
      refine g_al0 dX2_next_5 ?_
      refine g_il1 dX2_next_6 ?_
      refine g_callV1I (d' := 2) lk_X2_77 hR.sh rfl (rm_lt (by decide) (by decide)) (Nat.le_of_ble_eq_true rfl) dX2_next_7 ?_
      refine mo_look hR hT (by omega) ?_
      have hl := lk_in hT (k := k) (by omega)
      refine g_bipush dX2_next_10 (by decide) (by decide) ?_
      refine g_icmp_ne (tgt := 21) dX2_next_12 (by decide) (by omega) (fun h12 => ?_) (fun h12 => ?_)
      · exact J21 k (by omega) (skp_hit h0 h1 ha (decide_eq_false (by omega)))
      refine g_inc1 dX2_next_15 (by decide) rfl ?_
      refine g_goto (tgt := 5) dX2_next_18 (by decide) ?_
      refine ih _ (by omega) (by omega) (by omega) (fun j j0 j1 => ?_)
      by_cases hj : j = k
      · rw [hj]; exact decide_eq_true (by omega)
      · exact ha j j0 (by omega)
  refine g_al0 dX2_next_0 ?_
  refine f_getI 5 fk_X2_74 rfl hR.sh (fun _ _ => rfl) dX2_next_1 ?_
  refine g_is1 dX2_next_4 (by decide) rfl ?_
  exact L5 ((iv_ σ m 3).toNat + 1) _ (by omega) (by omega) (by omega) (fun j j0 j1 => by omega)
end
