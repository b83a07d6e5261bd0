/-! PARSING, part 8: a whole post -/
set_option maxRecDepth 100000
section
variable {G : JG} {m : Nat} {γ : JH}
/-- reading begins -/
def ini_ (m : Nat) (γ : JH) (n : Int) : JH := pi_ (pi_ (pb_ (pi_ (pi_ (pi_ γ m 2 0) m 9 0) m 13 0) (m + 4) 0 363 (fun _ => 0)) m 3 n) m 5 0
/-- lines behind signs -/
def rls_ (m : Nat) : Nat → JH → JH
  | 0, γ => γ
  | n + 1, γ => if iv_ γ m 13 = 0 ∧ iv_ γ m 6 = 59 then rls_ m n (rl_ m (nxt_ m γ)) else γ
def pe1_ (m : Nat) (γ : JH) : JH := if iv_ γ m 13 = 0 ∧ iv_ γ m 6 ≠ 0 then wr_ m γ 1 (iv_ γ m 4) else γ
def pe2_ (m : Nat) (γ : JH) : JH := if iv_ γ m 13 = 0 ∧ (iv_ γ (m + 4) 9 = 0 ∨ iv_ γ (m + 4) 4 = 0) then wr_ m γ 6 (iv_ γ m 4) else γ
/-- all lines, from where reading begins -/
def rla_ (m : Nat) (γ : JH) : JH := rls_ m 1001 (rl_ m (nxt_ m γ))
def pe_ (m : Nat) (γ : JH) : JH := pe2_ m (pe1_ m (rla_ m γ))
theorem rl_0 (h : iv_ γ m 6 ≠ 2) : rl_ m γ = wr_ m γ 1 (iv_ γ m 4) := by
  unfold rl_
  rw [if_neg (fun w => h (iw_13 w).2), if_neg (fun w => h (iw_13 w).2), if_neg (fun w => h (iw_13 w).2), if_neg (fun w => h (iw_13 w).2), if_neg (fun w => h (iw_13 w).2), if_neg (fun w => h (iw_13 w).2)]
/-- a line more: it failed, or one is further on -/
theorem rl_on (h : RB_ G m γ) {F : Int} (hm : iv_ γ m 3 - iv_ γ m 5 < F + 1) : iv_ (rl_ m (nxt_ m γ)) m 13 = 1 ∨ iv_ (rl_ m (nxt_ m γ)) m 3 - iv_ (rl_ m (nxt_ m γ)) m 5 < F := by
  have r := h.sn
  have r2 := r.tr (rl_RS r.1)
  by_cases c : iv_ (nxt_ m γ) m 6 = 0
  · rw [rl_0 (by omega)]
    exact Or.inl (wr_13 r.1.2.1.2.2.1)
  · have h5 := (nxt_5 h.2.1).2 c
    have h6 := (rl_RS r.1).2.2.1
    have h3 : iv_ (rl_ m (nxt_ m γ)) m 3 = iv_ γ m 3 := r2.2.1.2.2.2.2 _ _ (fun w => by unfold pf1_ at w; omega)
    exact Or.inr (by omega)
theorem ini_f (γ : JH) (n : Int) : (∀ b, sh_ (ini_ m γ n) b = sh_ γ b) ∧ (∀ b k, rv_ (ini_ m γ n) b k = rv_ γ b k) ∧ sz_ (ini_ m γ n) = sz_ γ ∧ us_ (ini_ m γ n) = us_ γ ∧ ∀ b k, iv_ (ini_ m γ n) b k = if b = m ∧ k = 5 then 0 else if b = m ∧ k = 3 then n else if b = m + 4 ∧ 0 ≤ k ∧ k < 363 then 0 else if b = m ∧ k = 13 then 0 else if b = m ∧ k = 9 then 0 else if b = m ∧ k = 2 then 0 else iv_ γ b k :=
  ⟨fun _ => rfl, fun _ _ => rfl, rfl, rfl, fun b k => by
    unfold ini_
    rw [iv_pi, iv_pi, iv_pb, iv_pi, iv_pi, iv_pi]
    rfl⟩
theorem LS_.gen {S : Nat → Int → Prop} {σ σ' : JH} (h : LS_ G σ) (f : Fr_ S σ σ') (hS : ∀ b k, S b k → (gH_ G).size ≤ b) : LS_ G σ' := fun i q e => by
  obtain ⟨v, h1, h2, h3⟩ := h i q e
  exact ⟨v, h1.fr f (fun k w => by have := hS _ _ w; omega) (fun k w => by have := hS _ _ w; omega), h2, h3⟩
theorem ini_fr (γ : JH) (n : Int) : Fr_ (ML_ m) γ (ini_ m γ n) := by
  obtain ⟨a, b, c, d, e⟩ := ini_f (m := m) γ n
  refine ⟨a, b, c, d, fun x k w => ?_⟩
  unfold ML_ at w
  rw [e, if_neg (by omega), if_neg (by omega), if_neg (by omega), if_neg (by omega), if_neg (by omega), if_neg (by omega)]
/-- from where reading begins, the first token is read -/
theorem ini_RB {n : Int} (hR : MR_ G m γ) (hL : LS_ G γ) (hn : 0 ≤ n ∧ n ≤ 1000) (hT : ∀ k, 0 ≤ k → k < n → 0 ≤ iv_ γ (m + 1) k ∧ iv_ γ (m + 1) k ≤ 255) : TX_ m (ini_ m γ n) ∧ (0 ≤ iv_ (ini_ m γ n) m 5 ∧ iv_ (ini_ m γ n) m 5 ≤ iv_ (ini_ m γ n) m 3) ∧ RB_ G m (nxt_ m (ini_ m γ n)) ∧ iv_ (nxt_ m (ini_ m γ n)) m 13 = 0 ∧ FW_ (iv_ (nxt_ m (ini_ m γ n)) (m + 4)) := by
  obtain ⟨a, b, c, d, e⟩ := ini_f (m := m) γ n
  have e3 : iv_ (ini_ m γ n) m 3 = n := by rw [e, if_neg (by omega), if_pos ⟨rfl, rfl⟩]
  have e5 : iv_ (ini_ m γ n) m 5 = 0 := by rw [e, if_pos ⟨rfl, rfl⟩]
  have e13 : iv_ (ini_ m γ n) m 13 = 0 := by rw [e, if_neg (by omega), if_neg (by omega), if_neg (by omega), if_pos ⟨rfl, rfl⟩]
  have e4 : ∀ k, 0 ≤ k → k < 363 → iv_ (ini_ m γ n) (m + 4) k = 0 := fun k k0 k1 => by rw [e, if_neg (by omega), if_neg (by omega), if_pos ⟨rfl, k0, k1⟩]
  have hTX : TX_ m (ini_ m γ n) := by
    unfold TX_
    rw [e3]
    refine ⟨hn, fun k k0 k1 => ?_⟩
    rw [e, if_neg (by omega), if_neg (by omega), if_neg (by omega), if_neg (by omega), if_neg (by omega), if_neg (by omega)]
    exact hT k k0 k1
  have he : 0 ≤ iv_ (ini_ m γ n) m 5 ∧ iv_ (ini_ m γ n) m 5 ≤ iv_ (ini_ m γ n) m 3 := by rw [e3, e5]; omega
  have hf := nxt_f0 (m := m) (ini_ m γ n)
  refine ⟨hTX, he, ⟨(hR.to a b).fr hf, nxt_PI hTX he (Or.inl e13), fun k k0 k1 => ?_, ?_⟩, ?_, FW_.zero fun k k0 k1 => ?_⟩
  · rw [hf.f4, e4 k k0 k1]; decide
  · exact (hL.gen (ini_fr γ n) (fun b k w => by unfold ML_ at w; have := hR.ge; omega)).fr hR.ge hf.f1
  · rw [(nxt_fix _).1, e13]
  · rw [hf.f4, e4 k k0 k1]
/-- what is now, a post just told -/
def ds_ (r : Int → Int) : Int → Int := fun k => if 2 ≤ k ∧ k < 2 + r 6 then r (108 + 4 * (k - 2)) else if 28 ≤ k ∧ k < 28 + 6 * r 7 then r (11 + 7 * r (128 + 4 * ((k - 28) / 6)) + (k - 28) % 6) else 0
theorem ds_DW {r s : Int → Int} (h : RW_ r) (e : ∀ k, 0 ≤ k → k < 76 → s k = ds_ r k) : DW_ r s := by
  have hn := h.n
  have z : ∀ k, 0 ≤ k → k < 76 → (k < 2 ∨ 2 + r 6 ≤ k) → (k < 28 ∨ 28 + 6 * r 7 ≤ k) → s k = 0 := fun k k0 k1 k2 k3 => by
    rw [e k k0 k1]
    unfold ds_
    rw [if_neg (by omega), if_neg (by omega)]
  have z0 := z 0 (by omega) (by omega) (by omega) (by omega)
  have z1 := z 1 (by omega) (by omega) (by omega) (by omega)
  refine ⟨by omega, fun w w0 w1 => ?_, fun b b0 b1 => ?_, fun j j0 j1 => ?_⟩
  · have c := cm_le s 8
    have z7 := z (7 + w) (by omega) (by omega) (by omega) (by omega)
    refine ⟨?_, by omega⟩
    by_cases q : w < r 6
    · rw [e _ (by omega) (by omega)]
      unfold ds_
      rw [if_pos (by omega), show 108 + 4 * (2 + w - 2) = 108 + 4 * w by omega]
      have := h.whale w0 q
      omega
    · have := z (2 + w) (by omega) (by omega) (by omega) (by omega)
      omega
  · have z2 := z (12 + b) (by omega) (by omega) (by omega) (by omega)
    have z3 := z (20 + b) (by omega) (by omega) (by omega) (by omega)
    omega
  · by_cases q : j < 6 * r 7
    · rw [e _ (by omega) (by omega)]
      unfold ds_
      rw [if_neg (by omega), if_pos (by omega), show 28 + j - 28 = j by omega]
      have hb := h.box (b := j / 6) (by omega) (by omega)
      exact h.song (by omega) (by omega) (by omega) (by omega)
    · have := z (28 + j) (by omega) (by omega) (by omega) (by omega)
      omega
end
