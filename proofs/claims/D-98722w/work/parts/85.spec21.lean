/-! WHAT BOTH SIDES ANSWER: matching by a table of sets -/
section
variable {r s : Int → Int}
theorem lcmp_v {a b : Int} (ha : -9223372036854775808 ≤ a ∧ a < 9223372036854775808) (hb : -9223372036854775808 ≤ b ∧ b < 9223372036854775808) : lcmp_ a b = if b < a then 1 else if a = b then 0 else -1 := by
  unfold lcmp_ lg_cmp
  have e1 : (Int64.ofInt a).toInt = a := Int64.toInt_ofInt_of_le (by omega) (by omega)
  have e0 : (Int64.ofInt b).toInt = b := Int64.toInt_ofInt_of_le (by omega) (by omega)
  by_cases h1 : b < a
  · rw [if_pos (show Int64.ofInt a > Int64.ofInt b from Int64.lt_iff_toInt_lt.mpr (by rw [e1, e0]; omega)), if_pos h1]; rfl
  · rw [if_neg (show ¬ Int64.ofInt a > Int64.ofInt b from fun w => h1 (by have := Int64.lt_iff_toInt_lt.mp w; rw [e1, e0] at this; exact this)), if_neg h1]
    by_cases h2 : a = b
    · subst h2; rw [if_pos rfl, if_pos rfl]; rfl
    · rw [if_neg h2, if_neg (fun w => h2 (by rw [← e1, ← e0, w]))]; rfl
/-- what is worth so many boxes in so many days -/
def wv_ (q : Int × Int × Int) : Int := if q.1 < 0 then -1 else 10000000 * q.1 - q.2.1
/-- the best so far is none, or some -/
def ma_ (w : Int) (a : Int × Int × Int) : Prop := a = (-100, 0, -2) ∨ ((1 ≤ a.1 ∧ a.1 ≤ 9) ∧ (0 ≤ a.2.1 ∧ a.2.1 ≤ 100000 * a.1) ∧ 0 ≤ a.2.2 ∧ a.2.2 < w)
theorem ma_wv {w : Int} {a : Int × Int × Int} (h : ma_ w a) : -1 ≤ wv_ a ∧ wv_ a ≤ 90000000 := by
  unfold wv_
  rcases h with h | h
  · subst h; exact ⟨by decide, by decide⟩
  · split <;> omega
theorem mb_wv {w m1 s1 : Int} {a : Int × Int × Int} (h : ma_ w a) (h1 : 0 ≤ m1 ∧ m1 ≤ 9) (h2 : 0 ≤ s1 ∧ s1 ≤ 100000 * m1) : mb_ m1 s1 a.1 a.2.1 ↔ wv_ a < 10000000 * m1 - s1 := by
  unfold wv_
  rcases h with h | h
  · subst h
    constructor
    · intro _; rw [if_pos (by decide)]; omega
    · intro _; exact Or.inl (by show (-100 : Int) < m1; omega)
  · rw [if_neg (by omega)]
    unfold mb_
    omega
def mm_ (B : Int → Int) (F : Int → Int × Int × Int) (u : Int) : Int × Int × Int := if mb_ (F u).1 (F u).2.1 (iI_ (mf_ B F u) (-100, 0, -2) 5).1 (iI_ (mf_ B F u) (-100, 0, -2) 5).2.1 then ((F u).1, (F u).2.1, -2) else iI_ (mf_ B F u) (-100, 0, -2) 5
/-- bounds of the table -/
def FM_ (F : Int → Int × Int × Int) : Prop := ∀ u, 0 ≤ (F u).1 ∧ (F u).1 ≤ 8 ∧ 0 ≤ (F u).2.1 ∧ (F u).2.1 ≤ 100000 * (F u).1
def BM_ (B : Int → Int) : Prop := ∀ w, B w = -2 ∨ (0 ≤ B w ∧ B w ≤ 96651)
theorem mf_ma {B : Int → Int} {F : Int → Int × Int × Int} (hB : BM_ B) (hF : FM_ F) {w : Int} {a : Int × Int × Int} (u : Int) (h : ma_ w a) (hw : 0 ≤ w) : ma_ (w + 1) (mf_ B F u w a) := by
  have f := hF (ior_ u (ishl_ 1 w))
  have b := hB w
  have key : ma_ (w + 1) a := by
    rcases h with h | h
    · exact Or.inl h
    · exact Or.inr ⟨h.1, h.2.1, h.2.2.1, by omega⟩
  unfold mf_
  split
  · exact key
  · rename_i q
    have q2 : 0 ≤ B w := Int.not_lt.mp (fun z => q (Or.inr z))
    split
    · refine Or.inr ⟨⟨?_, ?_⟩, ⟨?_, ?_⟩, ?_, ?_⟩ <;> dsimp only <;> omega
    · exact key
/-- the table at box c -/
def mW_ (r s : Int → Int) (c u : Int) : Int × Int × Int := mw_ r s (r 7 - c).toNat u
def bW_ (r s : Int → Int) (c w : Int) : Int := if 0 ≤ w ∧ w < r 6 then bg_ r s w c else -2
theorem bW_BM (hW : RW_ r) (hD : DW_ r s) {c : Int} (hc : 0 ≤ c ∧ c < r 7) : BM_ (bW_ r s c) := fun w => by
  unfold bW_
  split
  · rename_i q; exact bg_bd hW hD q hc
  · exact Or.inl rfl
theorem mw_z (hW : RW_ r) (hD : DW_ r s) : ∀ (j : Nat), (j : Int) ≤ r 7 → ∀ u, 0 ≤ (mw_ r s j u).1 ∧ (mw_ r s j u).1 ≤ 8 ∧ 0 ≤ (mw_ r s j u).2.1 ∧ (mw_ r s j u).2.1 ≤ 100000 * (mw_ r s j u).1 := by
  intro j
  have hn := hW.n
  induction j with
  | zero => intro _ u; simp [mw_]
  | succ j ih =>
    intro hj u
    have hi := ih (by omega)
    have hb8 := mw_in hW hD (j + 1) hj u
    have hi2 : (mw_ r s j u).2.1 ≤ 100000 * (mw_ r s j u).1 := (hi u).2.2.2
    refine ⟨hb8.1, by omega, hb8.2.2.1, ?_⟩
    have key : iI_ (mf_ (fun w => bg_ r s w (r 7 - (j + 1))) (mw_ r s j) u) (-100, 0, -2) (r 6) = (-100, 0, -2) ∨ (iI_ (mf_ (fun w => bg_ r s w (r 7 - (j + 1))) (mw_ r s j) u) (-100, 0, -2) (r 6)).2.1 ≤ 100000 * (iI_ (mf_ (fun w => bg_ r s w (r 7 - (j + 1))) (mw_ r s j) u) (-100, 0, -2) (r 6)).1 := by
      refine iI_inv (n := r 6) (fun k (a : Int × Int × Int) => a = (-100, 0, -2) ∨ a.2.1 ≤ 100000 * a.1) (Or.inl rfl) (fun k a h0 h1 h => ?_) (by omega)
      have hq := hi (ior_ u (ishl_ 1 k))
      have hb := bg_bd hW hD (w := k) (b := r 7 - (j + 1)) (by omega) (by omega)
      unfold mf_
      split
      · exact h
      · split
        · refine Or.inr ?_; dsimp only; omega
        · exact h
    simp only [mw_]
    split
    · exact hi2
    · rename_i q
      rcases key with h | h
      · rw [h] at q; exact absurd (Or.inl (by dsimp only; have := (hi u).1; omega)) q
      · exact h
theorem mW_FM (hW : RW_ r) (hD : DW_ r s) {c : Int} (hc : 0 ≤ c) : FM_ (mW_ r s c) := fun u => by
  have hn := hW.n
  exact mw_z hW hD _ (by omega) u
theorem mW_0 (u : Int) : mW_ r s (r 7) u = (0, 0, -2) := by
  unfold mW_
  rw [show (r 7 - r 7).toNat = 0 by omega]
  rfl
theorem mf_5 {F : Int → Int × Int × Int} {u : Int} {a : Int × Int × Int} {c : Int} (hr : 0 ≤ r 6 ∧ r 6 ≤ 5) : iI_ (mf_ (bW_ r s c) F u) a 5 = iI_ (mf_ (fun w => bg_ r s w c) F u) a (r 6) := by
  have e1 : iI_ (mf_ (bW_ r s c) F u) a (r 6) = iI_ (mf_ (fun w => bg_ r s w c) F u) a (r 6) := iI_congr fun k x h0 h1 => by
    unfold mf_ bW_
    simp only [if_pos (show 0 ≤ k ∧ k < r 6 from ⟨h0, h1⟩)]
  have e2 : ∀ n : Nat, r 6 ≤ n → iI_ (mf_ (bW_ r s c) F u) a (n : Int) = iI_ (mf_ (bW_ r s c) F u) a (r 6) := by
    intro n
    induction n with
    | zero => intro h; rw [show r 6 = ((0 : Nat) : Int) by omega]
    | succ n ih =>
      intro h
      by_cases q : r 6 = ((n + 1 : Nat) : Int)
      · rw [q]
      · rw [show ((n + 1 : Nat) : Int) = (n : Int) + 1 by omega, iI_s _ _ (by omega), ih (by omega)]
        have : bW_ r s c (n : Int) = -2 := if_neg (by omega)
        exact if_pos (Or.inr (by rw [this]; decide))
  rw [show (5 : Int) = ((5 : Nat) : Int) from rfl, e2 5 (by omega), e1]
theorem mW_s (hW : RW_ r) {c : Int} (hc : 0 ≤ c ∧ c < r 7) (u : Int) : mW_ r s c u = mm_ (bW_ r s c) (mW_ r s (c + 1)) u := by
  have hn := hW.n
  unfold mm_
  rw [mf_5 (by omega)]
  unfold mW_
  obtain ⟨j, hj⟩ : ∃ j : Nat, (r 7 - (c + 1)).toNat = j := ⟨_, rfl⟩
  rw [hj, show (r 7 - c).toNat = j + 1 by omega]
  simp only [mw_]
  rw [show r 7 - ((j : Int) + 1) = c by omega]
/-- the whale chosen -/
theorem mm_who {B : Int → Int} {F : Int → Int × Int × Int} (hF : FM_ F) (u : Int) : ((mm_ B F u).2.2 = -2 ∧ (mm_ B F u).1 = (F u).1) ∨ ((0 ≤ (mm_ B F u).2.2 ∧ (mm_ B F u).2.2 < 5) ∧ (mm_ B F u).1 = (F (ior_ u (ishl_ 1 (mm_ B F u).2.2))).1 + 1) := by
  have key := iI_inv (f := mf_ B F u) (a := (-100, 0, -2)) (n := 5) (fun k (a : Int × Int × Int) => a = (-100, 0, -2) ∨ ((0 ≤ a.2.2 ∧ a.2.2 < k) ∧ a.1 = (F (ior_ u (ishl_ 1 a.2.2))).1 + 1)) (Or.inl rfl) (fun k a h0 h1 h => by
    have h' : a = (-100, 0, -2) ∨ ((0 ≤ a.2.2 ∧ a.2.2 < k + 1) ∧ a.1 = (F (ior_ u (ishl_ 1 a.2.2))).1 + 1) := by
      rcases h with h | h
      · exact Or.inl h
      · exact Or.inr ⟨⟨h.1.1, by omega⟩, h.2⟩
    unfold mf_
    split
    · exact h'
    · split
      · exact Or.inr ⟨⟨by dsimp only; omega, by dsimp only; omega⟩, rfl⟩
      · exact h') (by decide)
  unfold mm_
  by_cases q : mb_ (F u).1 (F u).2.1 (iI_ (mf_ B F u) (-100, 0, -2) 5).1 (iI_ (mf_ B F u) (-100, 0, -2) 5).2.1
  · rw [if_pos q]; exact Or.inl ⟨rfl, rfl⟩
  · rw [if_neg q]
    rcases key with h | h
    · rw [h] at q
      exact absurd (Or.inl (by show (-100 : Int) < (F u).1; have := (hF u).1; omega)) q
    · exact Or.inr h
theorem u32_ {u w : Int} (hu : 0 ≤ u ∧ u < 32) (hw : 0 ≤ w ∧ w < 5) : 0 ≤ ior_ u (ishl_ 1 w) ∧ ior_ u (ishl_ 1 w) < 32 := by
  obtain ⟨a, rfl⟩ := Int.eq_ofNat_of_zero_le hu.1
  obtain ⟨k, rfl⟩ := Int.eq_ofNat_of_zero_le hw.1
  have hk : k < 5 := by omega
  have h2 : 2 ^ k < 2 ^ 5 := Nat.pow_lt_pow_right (by decide) hk
  rw [ishl_1 (by omega), ior_n (by omega) (by omega)]
  have := Nat.or_lt_two_pow (n := 5) (show a < 2 ^ 5 by omega) h2
  omega
theorem ch_s {c of u : Int} (hc : 0 ≤ c ∧ c < r 7) : ch_ r s (r 7 - c).toNat u of = if of = c then (mW_ r s c u).2.2 else ch_ r s (r 7 - (c + 1)).toNat (ub_ u (mW_ r s c u).2.2) of := by
  obtain ⟨j, hj⟩ : ∃ j : Nat, (r 7 - (c + 1)).toNat = j := ⟨_, rfl⟩
  unfold mW_
  rw [hj, show (r 7 - c).toNat = j + 1 by omega]
  simp only [ch_]
  rw [show r 7 - ((j : Int) + 1) = c by omega]
end
