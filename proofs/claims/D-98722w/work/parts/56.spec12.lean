/-! PARSING, part 2: what holds while one reads -/
set_option maxRecDepth 100000
section
variable {G : JG} {m : Nat} {γ : JH}
/-- a reader's state -/
def PI_ (m : Nat) (γ : JH) : Prop := TX_ m γ ∧ (0 ≤ iv_ γ m 5 ∧ iv_ γ m 5 ≤ iv_ γ m 3) ∧ (iv_ γ m 13 = 0 ∨ iv_ γ m 13 = 1) ∧ (0 ≤ iv_ γ m 4 ∧ iv_ γ m 4 ≤ 1000) ∧ (0 ≤ iv_ γ m 6 ∧ iv_ γ m 6 ≤ 59) ∧ (0 ≤ iv_ γ m 7 ∧ iv_ γ m 7 ≤ 9999) ∧ (0 ≤ iv_ γ m 8 ∧ iv_ γ m 8 ≤ 1000) ∧
  (iv_ γ m 6 = 2 → (1 ≤ iv_ γ m 8 ∧ iv_ γ m 8 ≤ 8) ∧ ∀ k, 0 ≤ k → k < iv_ γ m 8 → 97 ≤ iv_ γ (m + 2) k ∧ iv_ γ (m + 2) k ≤ 122)
theorem dv_in {L : Int → Int} {k n : Int} (hn : 0 ≤ n ∧ n ≤ 4) (h : ∀ j, k ≤ j → j < k + n → 48 ≤ L j ∧ L j ≤ 57) : 0 ≤ dv_ L k n ∧ dv_ L k n ≤ 9999 := by
  have q := iI_inv (n := n) (f := fun j a => 10 * a + L (k + j) - 48) (a := 0) (fun j (a : Int) => 0 ≤ a ∧ a + 1 ≤ (if j ≤ 0 then 1 else if j ≤ 1 then 10 else if j ≤ 2 then 100 else if j ≤ 3 then 1000 else 10000)) (by simp) (fun j a h0 h1 ha => by
    have hl := h (k + j) (by omega) (by omega)
    generalize L (k + j) = y at *
    obtain ⟨a0, a1⟩ := ha
    constructor
    · omega
    · rcases (show j = 0 ∨ j = 1 ∨ j = 2 ∨ j = 3 by omega) with q | q | q | q <;> subst q <;> simp at a1 ⊢ <;> omega) hn.1
  unfold dv_
  obtain ⟨q0, q1⟩ := q
  refine ⟨q0, ?_⟩
  repeat' split at q1
  all_goals omega
theorem nxt_PI (hT : TX_ m γ) (he : 0 ≤ iv_ γ m 5 ∧ iv_ γ m 5 ≤ iv_ γ m 3) (hf : iv_ γ m 13 = 0 ∨ iv_ γ m 13 = 1) : PI_ m (nxt_ m γ) := by
  have ht := hT.1
  have hB := skp_in (P := isB2_) (L := lk_ m γ) he.2 (by unfold lk_; rw [if_neg (by omega)]; rfl)
  have hl := lk_in hT (k := skp_ isB2_ (lk_ m γ) (iv_ γ m 5) (iv_ γ m 3)) (by omega)
  unfold nxt_
  dsimp only
  generalize hk : skp_ isB2_ (lk_ m γ) (iv_ γ m 5) (iv_ γ m 3) = k at *
  have hT3 : TX_ m (pi_ (pi_ (pi_ γ m 4 k) m 8 0) m 7 0) := ((hT.pi ⟨by omega, by omega⟩).pi ⟨by omega, by omega⟩).pi ⟨by omega, by omega⟩
  by_cases c1 : lk_ m γ k = -1
  · rw [if_pos c1]
    refine ⟨(hT3.pi ⟨by omega, by omega⟩).pi ⟨by omega, by omega⟩, ?_⟩
    simp [iv_pi]
    omega
  · rw [if_neg c1]
    by_cases c2 : isS_ (lk_ m γ k) = true
    · rw [if_pos c2]
      have hS := skp_in (P := isS_) (L := lk_ m γ) (k0 := k) (e := iv_ γ m 3) (by omega) (by unfold lk_; rw [if_neg (by omega)]; rfl)
      generalize hk2 : skp_ isS_ (lk_ m γ) k (iv_ γ m 3) = k2 at *
      have hne : k < k2 := Classical.byContradiction fun q => by
        have e : k2 = k := by omega
        rw [e, c2] at hS
        exact absurd hS.2.2 (by decide)
      refine ⟨(((hT3.pb ⟨by omega, by omega⟩).pi ⟨by omega, by omega⟩).pi ⟨by omega, by omega⟩).pi ⟨by omega, by omega⟩, ?_⟩
      simp [iv_pi, iv_pb]
      refine ⟨by omega, hf, by omega, by split <;> omega, by omega, fun h2 => ?_⟩
      have h8 : ¬ 8 < k2 - k := fun q => by omega
      refine ⟨by omega, fun j j0 j1 => ?_⟩
      have e8 : mn8_ (k2 - k) 8 = if k2 - k < 8 then k2 - k else 8 := rfl
      rw [if_pos ⟨j0, by rw [e8]; split <;> omega⟩]
      exact of_decide_eq_true (hS.2.1 (k + j) (by omega) (by omega))
    · rw [if_neg c2]
      by_cases c3 : isD_ (lk_ m γ k) = true
      · rw [if_pos c3]
        have hS := skp_in (P := isD_) (L := lk_ m γ) (k0 := k) (e := iv_ γ m 3) (by omega) (by unfold lk_; rw [if_neg (by omega)]; rfl)
        generalize hk2 : skp_ isD_ (lk_ m γ) k (iv_ γ m 3) = k2 at *
        have e4 : mn8_ (k2 - k) 4 = if k2 - k < 4 then k2 - k else 4 := rfl
        have hd := dv_in (L := lk_ m γ) (k := k) (n := mn8_ (k2 - k) 4) (by rw [e4]; split <;> omega) (fun j j0 j1 => of_decide_eq_true (hS.2.1 j j0 (by rw [e4] at j1; split at j1 <;> omega)))
        refine ⟨((hT3.pi ⟨by omega, by omega⟩).pi ⟨by omega, by omega⟩).pi ⟨by omega, by omega⟩, ?_⟩
        simp [iv_pi]
        refine ⟨by omega, hf, by omega, by split <;> omega, by omega, fun h2 => ?_⟩
        exfalso
        split at h2 <;> omega
      · rw [if_neg c3]
        refine ⟨(hT3.pi ⟨by omega, by omega⟩).pi ⟨by omega, by omega⟩, ?_⟩
        simp [iv_pi]
        refine ⟨by omega, hf, by omega, by split <;> omega, fun h2 => ?_⟩
        exfalso
        split at h2 <;> omega
theorem PI_.nxt (h : PI_ m γ) : PI_ m (nxt_ m γ) := nxt_PI h.1 h.2.1 h.2.2.1
theorem PI_.wr (h : PI_ m γ) (w a : Int) : PI_ m (wr_ m γ w a) := by
  unfold wr_
  split
  · obtain ⟨h1, h2, h3, h4⟩ := h
    refine ⟨((h1.pi ⟨by omega, by omega⟩).pi ⟨by omega, by omega⟩).pi ⟨by omega, by omega⟩, ?_⟩
    simp [iv_pi]
    exact ⟨h2, h4⟩
  · exact h
end
