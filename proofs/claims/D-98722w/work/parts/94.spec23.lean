/-! WHAT BOTH SIDES ANSWER: rounds, by the component's road -/
section
variable {r s : Int → Int}
theorem d0_bd (hW : RW_ r) (i j : Int) : d0_ r s i j = 1000000 ∨ (0 ≤ d0_ r s i j ∧ d0_ r s i j ≤ 99) := by
  have hn := hW.n
  have hw := wo_in (r := r) (s := s) (a := i) (b := j) (by omega)
  unfold d0_
  split
  · omega
  · split
    · split
      · omega
      · have := hW.way (k := wo_ r s i j) (by omega) (by omega)
        omega
    · omega
theorem fw_bd (hW : RW_ r) : ∀ (K : Nat) (i j : Int), fw_ r s K i j = 1000000 ∨ (0 ≤ fw_ r s K i j ∧ fw_ r s K i j ≤ 99 * 2 ^ K) := by
  intro K
  induction K with
  | zero => intro i j; have := d0_bd (s := s) hW i j; simp only [fw_]; omega
  | succ K ih =>
    intro i j
    have a := ih i j
    have b := ih i K
    have c := ih K j
    have e : (99 : Int) * 2 ^ (K + 1) = 99 * 2 ^ K + 99 * 2 ^ K := by rw [Int.pow_succ]; omega
    have p : (0 : Int) ≤ 99 * 2 ^ K := by
      have : (0 : Int) ≤ 2 ^ K := Int.pow_nonneg (by decide)
      omega
    simp only [fw_]
    rw [e]
    generalize (99 : Int) * 2 ^ K = P at a b c p ⊢
    split <;> omega
theorem fw_b7 (hW : RW_ r) {K : Nat} (hK : K ≤ 7) (i j : Int) : fw_ r s K i j = 1000000 ∨ (0 ≤ fw_ r s K i j ∧ fw_ r s K i j ≤ 12672) := by
  have h := fw_bd (s := s) hW K i j
  have e : ((2 ^ K : Nat) : Int) ≤ ((2 ^ 7 : Nat) : Int) := Int.ofNat_le.mpr (Nat.pow_le_pow_right (by decide) hK)
  rw [Int.natCast_pow] at e
  have e7 : ((2 ^ 7 : Nat) : Int) = 128 := rfl
  rw [e7] at e
  have e2 : (((2 : Nat) : Int)) ^ K = (2 : Int) ^ K := rfl
  rw [e2] at e
  omega
/-- islands that aren't there lie nowhere -/
theorem fw_hi (hW : RW_ r) : ∀ (K : Nat) (i j : Int), i ≠ j → (r 4 ≤ i ∨ r 4 ≤ j) → fw_ r s K i j = 1000000 := by
  intro K
  induction K with
  | zero =>
    intro i j h h2
    simp only [fw_]
    unfold d0_
    rw [if_neg h, if_neg (by omega)]
  | succ K ih =>
    intro i j h h2
    have a := ih i j h h2
    have b := fw_in (s := s) hW K i K
    have c := fw_in (s := s) hW K K j
    have key : 1000000 ≤ fw_ r s K i K + fw_ r s K K j := by
      by_cases e1 : i = (K : Int)
      · have := ih K j (by omega) (by omega); omega
      · by_cases e2 : (K : Int) = j
        · have := ih i K e1 (by omega); omega
        · rcases h2 with q | q
          · have := ih i K e1 (Or.inl q); omega
          · have := ih K j e2 (Or.inr q); omega
    simp only [fw_]
    rw [a, if_neg (by omega)]
theorem fw_end (hW : RW_ r) {i j : Int} (hi : i < r 4) (hj : j < r 4) : ∀ n : Nat, fw_ r s ((r 4).toNat + n) i j = fw_ r s (r 4).toNat i j := by
  intro n
  induction n with
  | zero => rfl
  | succ n ih =>
    have hn := hW.n
    have a := fw_hi (s := s) hW ((r 4).toNat + n) i (((r 4).toNat + n : Nat) : Int) (by omega) (by omega)
    have c := fw_in (s := s) hW ((r 4).toNat + n) (((r 4).toNat + n : Nat) : Int) j
    have d := fw_in (s := s) hW ((r 4).toNat + n) i j
    show fw_ r s (((r 4).toNat + n) + 1) i j = _
    simp only [fw_]
    rw [a, if_neg (by omega), ih]
theorem fw_7 (hW : RW_ r) {i j : Int} (hi : i < r 4) (hj : j < r 4) : fw_ r s 7 i j = fw_ r s (r 4).toNat i j := by
  have hn := hW.n
  have := fw_end (s := s) hW hi hj (7 - (r 4).toNat)
  rw [show (r 4).toNat + (7 - (r 4).toNat) = 7 by omega] at this
  exact this
theorem nv_lt {a b c : Int} (ha : a = 1000000 ∨ (0 ≤ a ∧ a ≤ 100000)) (hb : b = 1000000 ∨ (0 ≤ b ∧ b ≤ 100000)) (hc : c = 1000000 ∨ (0 ≤ c ∧ c ≤ 100000)) : (if nv_ a + nv_ b < nv_ c then nv_ a + nv_ b else nv_ c) = nv_ (if a + b < c then a + b else c) := by
  unfold nv_
  (repeat' split) <;> omega
end
