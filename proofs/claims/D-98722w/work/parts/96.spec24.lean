/-! WHAT BOTH SIDES ANSWER: rounds by a table of sets -/
section
variable {r s : Int → Int}
theorem rf_bd {D : Int → Int} {F : Int → Int × Int} {u k M : Int} {q : Int × Int} (hM : M ≤ 300000) (hD : D k = 1000000 ∨ (0 ≤ D k ∧ D k ≤ 12672)) (hF : (F k).1 = 1000000 ∨ (0 ≤ (F k).1 ∧ (F k).1 ≤ M)) (h : q.1 = 1000000 ∨ (0 ≤ q.1 ∧ q.1 ≤ M + 12672)) : (rf_ D F u k q).1 = 1000000 ∨ (0 ≤ (rf_ D F u k q).1 ∧ (rf_ D F u k q).1 ≤ M + 12672) := by
  unfold rf_
  split
  · exact h
  · split
    · right; dsimp only; omega
    · exact h
theorem rd_bd (hW : RW_ r) : ∀ (j : Nat), j ≤ 8 → ∀ (u a : Int), (rd_ r s j u a).1 = 1000000 ∨ (0 ≤ (rd_ r s j u a).1 ∧ (rd_ r s j u a).1 ≤ 12672 * j) := by
  intro j
  induction j with
  | zero => intro _ u a; right; simp [rd_]
  | succ j ih =>
    intro hj u a
    have hn := hW.n
    simp only [rd_]
    refine iI_inv (n := r 4) (fun k (q : Int × Int) => q.1 = 1000000 ∨ (0 ≤ q.1 ∧ q.1 ≤ 12672 * ((j + 1 : Nat) : Int))) (Or.inl rfl) (fun k q h0 h1 h => ?_) (by omega)
    rw [show (12672 : Int) * ((j + 1 : Nat) : Int) = 12672 * (j : Int) + 12672 by omega] at h ⊢
    exact rf_bd (by omega) (fw_b7 (s := s) (K := 7) hW (by omega) a k) (ih (by omega) _ _) h
theorem nv_lt2 {a b c : Int} (ha : a = 1000000 ∨ (0 ≤ a ∧ a ≤ 400000)) (hb : b = 1000000 ∨ (0 ≤ b ∧ b ≤ 400000)) (hc : c = 1000000 ∨ (0 ≤ c ∧ c ≤ 400000)) : (if nv_ a + nv_ b < nv_ c then nv_ a + nv_ b else nv_ c) = nv_ (if a + b < c then a + b else c) := by
  unfold nv_
  (repeat' split) <;> omega
/-- how many of the first n aren't in a set -/
def lfN_ (n x : Nat) : Nat := (if decide (0 < n) && !x.testBit 0 then 1 else 0) + (if decide (1 < n) && !x.testBit 1 then 1 else 0) + (if decide (2 < n) && !x.testBit 2 then 1 else 0) + (if decide (3 < n) && !x.testBit 3 then 1 else 0) + (if decide (4 < n) && !x.testBit 4 then 1 else 0) + (if decide (5 < n) && !x.testBit 5 then 1 else 0) + (if decide (6 < n) && !x.testBit 6 then 1 else 0)
theorem lfN_s : ∀ n, n < 8 → ∀ x, x < 128 → ∀ t, t < 7 → t < n → x.testBit t = false → lfN_ n (x ||| 2 ^ t) + 1 = lfN_ n x := by decide +kernel
theorem lfN_all : ∀ n, n < 8 → lfN_ n (2 ^ n - 1) = 0 := by decide +kernel
theorem lfN_pos : ∀ n, n < 8 → ∀ x, x < 128 → x < 2 ^ n - 1 → 1 ≤ lfN_ n x := by decide +kernel
theorem lfN_one : ∀ n, n < 8 → ∀ t, t < 7 → t < n → lfN_ n (2 ^ t) + 1 = n := by decide +kernel
theorem lfN_le : ∀ n, n < 8 → ∀ x, x < 128 → lfN_ n x ≤ 7 := by decide +kernel
/-- the rest of a round from a on, the islands of u done -/
def rU_ (r s : Int → Int) (u : Nat) (a : Int) : Int × Int := rd_ r s (lfN_ (r 4).toNat u) u a
theorem rU_bd (hW : RW_ r) {u : Nat} (hu : u < 128) (a : Int) : (rU_ r s u a).1 = 1000000 ∨ (0 ≤ (rU_ r s u a).1 ∧ (rU_ r s u a).1 ≤ 100000) := by
  have hn := hW.n
  have hl := lfN_le (r 4).toNat (by omega) u hu
  have := rd_bd (s := s) hW (lfN_ (r 4).toNat u) (by omega) u a
  unfold rU_
  omega
theorem rU_all (hW : RW_ r) (a : Int) : rU_ r s (2 ^ (r 4).toNat - 1) a = (0, -1) := by
  have hn := hW.n
  unfold rU_
  rw [lfN_all _ (by omega)]
  rfl
theorem rU_s (hW : RW_ r) {u : Nat} (hu : u < 2 ^ (r 4).toNat - 1) (hu2 : u < 128) (a : Int) : rU_ r s u a = iI_ (rf_ (fw_ r s 7 a) (fun i => rU_ r s (u ||| 2 ^ i.toNat) i) u) (1000000, -1) (r 4) := by
  have hn := hW.n
  have hp := lfN_pos (r 4).toNat (by omega) u hu2 hu
  obtain ⟨j, hj⟩ : ∃ j, lfN_ (r 4).toNat u = j + 1 := ⟨lfN_ (r 4).toNat u - 1, by omega⟩
  have e0 : rU_ r s u a = rd_ r s (j + 1) u a := by unfold rU_; rw [hj]
  rw [e0]
  simp only [rd_]
  refine iI_congr fun i q i0 i1 => ?_
  unfold rf_
  by_cases c : hb_ (u : Int) i
  · rw [if_pos c, if_pos c]
  · rw [if_neg c, if_neg c]
    rw [hb_i (by omega) i0 (by omega)] at c
    have hs := lfN_s (r 4).toNat (by omega) u hu2 i.toNat (by omega) (by omega) (by simpa using c)
    have p1 : 2 ^ i.toNat < 2 ^ 7 := p2_lt (n := 7) i0 (by omega)
    have e1 : ior_ (u : Int) (ishl_ 1 i) = ((u ||| 2 ^ i.toNat : Nat) : Int) := by
      rw [ishl_i i0 (by omega), ior_n (by omega) (by omega)]
    have e2 : rU_ r s (u ||| 2 ^ i.toNat) i = rd_ r s j (ior_ (u : Int) (ishl_ 1 i)) i := by
      unfold rU_
      rw [e1, show lfN_ (r 4).toNat (u ||| 2 ^ i.toNat) = j by omega]
    simp only [e2]
theorem rU_one (hW : RW_ r) {i : Int} (hi : 0 ≤ i ∧ i < r 4) : rU_ r s (2 ^ i.toNat) i = rd_ r s (r 4 - 1).toNat (ishl_ 1 i) i := by
  have hn := hW.n
  have h1 := lfN_one (r 4).toNat (by omega) i.toNat (by omega) (by omega)
  unfold rU_
  rw [ishl_i hi.1 (by omega), show lfN_ (r 4).toNat (2 ^ i.toNat) = (r 4 - 1).toNat by omega]
end
