/-! PARSING, part 5: what is told stays a post. Written by mod/m68.py -/
set_option maxRecDepth 100000
/-- a post that is being told: bounds -/
def RX_ (r : Int → Int) : Prop :=
  ((2 ≤ r 0 ∧ r 0 ≤ 4) ∧ (0 ≤ r 1 ∧ r 1 ≤ 3) ∧ (0 ≤ r 2 ∧ r 2 ≤ 50) ∧ (0 ≤ r 3 ∧ r 3 ≤ 100) ∧ (0 ≤ r 4 ∧ r 4 ≤ 7) ∧ (0 ≤ r 5 ∧ r 5 ≤ 12) ∧ (0 ≤ r 6 ∧ r 6 ≤ 5) ∧ (0 ≤ r 7 ∧ r 7 ≤ 8) ∧ (0 ≤ r 8 ∧ r 8 ≤ 8)) ∧
  (∀ i, 0 ≤ i → i < r 4 → 2 ≤ r (10 + 7 * i) ∧ r (10 + 7 * i) ≤ 6) ∧
  (∀ i k, 0 ≤ i → i < r 4 → 0 ≤ k → k < 6 → 0 ≤ r (11 + 7 * i + k) ∧ r (11 + 7 * i + k) < r 0) ∧
  (∀ k, 0 ≤ k → k < r 5 → (0 ≤ r (59 + 4 * k) ∧ r (59 + 4 * k) < r 4) ∧ (0 ≤ r (60 + 4 * k) ∧ r (60 + 4 * k) < r 4) ∧ r (59 + 4 * k) ≠ r (60 + 4 * k) ∧ (1 ≤ r (61 + 4 * k) ∧ r (61 + 4 * k) ≤ 99) ∧ (1 ≤ r (62 + 4 * k) ∧ r (62 + 4 * k) ≤ 15)) ∧
  (∀ w, 0 ≤ w → w < r 6 → (0 ≤ r (107 + 4 * w) ∧ r (107 + 4 * w) ≤ 3) ∧ (0 ≤ r (108 + 4 * w) ∧ r (108 + 4 * w) < r 4) ∧ (0 ≤ r (109 + 4 * w) ∧ r (109 + 4 * w) ≤ 99) ∧ (0 ≤ r (110 + 4 * w) ∧ r (110 + 4 * w) ≤ 99)) ∧
  (∀ b, 0 ≤ b → b < r 7 → (0 ≤ r (127 + 4 * b) ∧ r (127 + 4 * b) < r 4) ∧ (0 ≤ r (128 + 4 * b) ∧ r (128 + 4 * b) < r 4) ∧ (1 ≤ r (129 + 4 * b) ∧ r (129 + 4 * b) ≤ 99) ∧ (0 ≤ r (130 + 4 * b) ∧ r (130 + 4 * b) ≤ 9999)) ∧
  (∀ k, 0 ≤ k → k < r 8 → (0 ≤ r (159 + 3 * k) ∧ r (159 + 3 * k) < r 6) ∧ (0 ≤ r (160 + 3 * k) ∧ r (160 + 3 * k) < r 4) ∧ (0 ≤ r (161 + 3 * k) ∧ r (161 + 3 * k) ≤ 9999)) ∧
  (∀ k j, 0 ≤ k → k < j → j < r 5 → ¬ (r (59 + 4 * k) = r (59 + 4 * j) ∧ r (60 + 4 * k) = r (60 + 4 * j)) ∧ ¬ (r (59 + 4 * k) = r (60 + 4 * j) ∧ r (60 + 4 * k) = r (59 + 4 * j)))
theorem RX_.to {r : Int → Int} (h : RX_ r) (h4 : 1 ≤ r 4) : RW_ r := by
  obtain ⟨⟨a0, a1, a2, a3, a4, a5⟩, b⟩ := h
  exact ⟨⟨a0, a1, a2, a3, ⟨h4, a4.2⟩, a5⟩, b⟩
theorem RX_.way {f g : Int → Int} {c : Int} (h : RX_ f) (hc : f 5 = c) (h1 : c < 12) (e : ∀ j, 0 ≤ j → j < 183 → j ≠ 5 → (j < 59 + 4 * c ∨ 59 + 4 * c + 4 ≤ j) → g j = f j) (hg : g 5 = c + 1) (hn : (0 ≤ g (59 + 4 * c) ∧ g (59 + 4 * c) < f 4) ∧ (0 ≤ g (60 + 4 * c) ∧ g (60 + 4 * c) < f 4) ∧ g (59 + 4 * c) ≠ g (60 + 4 * c) ∧ (1 ≤ g (61 + 4 * c) ∧ g (61 + 4 * c) ≤ 99) ∧ (1 ≤ g (62 + 4 * c) ∧ g (62 + 4 * c) ≤ 15)) (hd : ∀ k, 0 ≤ k → k < c → ¬ (f (59 + 4 * k) = g (59 + 4 * c) ∧ f (60 + 4 * k) = g (60 + 4 * c)) ∧ ¬ (f (59 + 4 * k) = g (60 + 4 * c) ∧ f (60 + 4 * k) = g (59 + 4 * c))) : RX_ g := by
  obtain ⟨a, a2, a3, a4, a5, a6, a7, a8⟩ := h
  have E : g 0 = f 0 ∧ g 1 = f 1 ∧ g 2 = f 2 ∧ g 3 = f 3 ∧ g 4 = f 4 ∧ g 6 = f 6 ∧ g 7 = f 7 ∧ g 8 = f 8 := ⟨e 0 (by omega) (by omega) (by omega) (by omega), e 1 (by omega) (by omega) (by omega) (by omega), e 2 (by omega) (by omega) (by omega) (by omega), e 3 (by omega) (by omega) (by omega) (by omega), e 4 (by omega) (by omega) (by omega) (by omega), e 6 (by omega) (by omega) (by omega) (by omega), e 7 (by omega) (by omega) (by omega) (by omega), e 8 (by omega) (by omega) (by omega) (by omega)⟩
  obtain ⟨E0, E1, E2, E3, E4, E6, E7, E8⟩ := E
  refine ⟨by omega, ?_, ?_, ?_, ?_, ?_, ?_, ?_⟩
  · intro i h0 hi
    have w := a2 i h0 (by omega)
    rw [e (10 + 7 * i) (by omega) (by omega) (by omega) (by omega)]
    omega
  · intro i k h0 hi h2 h3
    have w := a3 i k h0 (by omega) h2 h3
    rw [e (11 + 7 * i + k) (by omega) (by omega) (by omega) (by omega)]
    omega
  · intro k h0 hk
    by_cases q : k = c
    · subst q
      omega
    · have w := a4 k h0 (by omega)
      rw [e (59 + 4 * k) (by omega) (by omega) (by omega) (by omega), e (60 + 4 * k) (by omega) (by omega) (by omega) (by omega), e (61 + 4 * k) (by omega) (by omega) (by omega) (by omega), e (62 + 4 * k) (by omega) (by omega) (by omega) (by omega)]
      omega
  · intro w' h0 hw
    have w := a5 w' h0 (by omega)
    rw [e (107 + 4 * w') (by omega) (by omega) (by omega) (by omega), e (108 + 4 * w') (by omega) (by omega) (by omega) (by omega), e (109 + 4 * w') (by omega) (by omega) (by omega) (by omega), e (110 + 4 * w') (by omega) (by omega) (by omega) (by omega)]
    omega
  · intro b h0 hb
    have w := a6 b h0 (by omega)
    rw [e (127 + 4 * b) (by omega) (by omega) (by omega) (by omega), e (128 + 4 * b) (by omega) (by omega) (by omega) (by omega), e (129 + 4 * b) (by omega) (by omega) (by omega) (by omega), e (130 + 4 * b) (by omega) (by omega) (by omega) (by omega)]
    omega
  · intro k h0 hk
    have w := a7 k h0 (by omega)
    rw [e (159 + 3 * k) (by omega) (by omega) (by omega) (by omega), e (160 + 3 * k) (by omega) (by omega) (by omega) (by omega), e (161 + 3 * k) (by omega) (by omega) (by omega) (by omega)]
    omega
  · intro k j h0 hk hj
    by_cases q : j = c
    · subst q
      rw [e (59 + 4 * k) (by omega) (by omega) (by omega) (by omega), e (60 + 4 * k) (by omega) (by omega) (by omega) (by omega)]
      exact hd k h0 hk
    · have w := a8 k j h0 hk (by omega)
      rw [e (59 + 4 * k) (by omega) (by omega) (by omega) (by omega), e (60 + 4 * k) (by omega) (by omega) (by omega) (by omega), e (59 + 4 * j) (by omega) (by omega) (by omega) (by omega), e (60 + 4 * j) (by omega) (by omega) (by omega) (by omega)]
      exact w
theorem RX_.whale {f g : Int → Int} {c : Int} (h : RX_ f) (hc : f 6 = c) (h1 : c < 5) (e : ∀ j, 0 ≤ j → j < 183 → j ≠ 6 → (j < 107 + 4 * c ∨ 107 + 4 * c + 4 ≤ j) → g j = f j) (hg : g 6 = c + 1) (hn : (0 ≤ g (107 + 4 * c) ∧ g (107 + 4 * c) ≤ 3) ∧ (0 ≤ g (108 + 4 * c) ∧ g (108 + 4 * c) < f 4) ∧ (0 ≤ g (109 + 4 * c) ∧ g (109 + 4 * c) ≤ 99) ∧ (0 ≤ g (110 + 4 * c) ∧ g (110 + 4 * c) ≤ 99)) : RX_ g := by
  obtain ⟨a, a2, a3, a4, a5, a6, a7, a8⟩ := h
  have E : g 0 = f 0 ∧ g 1 = f 1 ∧ g 2 = f 2 ∧ g 3 = f 3 ∧ g 4 = f 4 ∧ g 5 = f 5 ∧ g 7 = f 7 ∧ g 8 = f 8 := ⟨e 0 (by omega) (by omega) (by omega) (by omega), e 1 (by omega) (by omega) (by omega) (by omega), e 2 (by omega) (by omega) (by omega) (by omega), e 3 (by omega) (by omega) (by omega) (by omega), e 4 (by omega) (by omega) (by omega) (by omega), e 5 (by omega) (by omega) (by omega) (by omega), e 7 (by omega) (by omega) (by omega) (by omega), e 8 (by omega) (by omega) (by omega) (by omega)⟩
  obtain ⟨E0, E1, E2, E3, E4, E5, E7, E8⟩ := E
  refine ⟨by omega, ?_, ?_, ?_, ?_, ?_, ?_, ?_⟩
  · intro i h0 hi
    have w := a2 i h0 (by omega)
    rw [e (10 + 7 * i) (by omega) (by omega) (by omega) (by omega)]
    omega
  · intro i k h0 hi h2 h3
    have w := a3 i k h0 (by omega) h2 h3
    rw [e (11 + 7 * i + k) (by omega) (by omega) (by omega) (by omega)]
    omega
  · intro k h0 hk
    have w := a4 k h0 (by omega)
    rw [e (59 + 4 * k) (by omega) (by omega) (by omega) (by omega), e (60 + 4 * k) (by omega) (by omega) (by omega) (by omega), e (61 + 4 * k) (by omega) (by omega) (by omega) (by omega), e (62 + 4 * k) (by omega) (by omega) (by omega) (by omega)]
    omega
  · intro w' h0 hw
    by_cases q : w' = c
    · subst q
      omega
    · have w := a5 w' h0 (by omega)
      rw [e (107 + 4 * w') (by omega) (by omega) (by omega) (by omega), e (108 + 4 * w') (by omega) (by omega) (by omega) (by omega), e (109 + 4 * w') (by omega) (by omega) (by omega) (by omega), e (110 + 4 * w') (by omega) (by omega) (by omega) (by omega)]
      omega
  · intro b h0 hb
    have w := a6 b h0 (by omega)
    rw [e (127 + 4 * b) (by omega) (by omega) (by omega) (by omega), e (128 + 4 * b) (by omega) (by omega) (by omega) (by omega), e (129 + 4 * b) (by omega) (by omega) (by omega) (by omega), e (130 + 4 * b) (by omega) (by omega) (by omega) (by omega)]
    omega
  · intro k h0 hk
    have w := a7 k h0 (by omega)
    rw [e (159 + 3 * k) (by omega) (by omega) (by omega) (by omega), e (160 + 3 * k) (by omega) (by omega) (by omega) (by omega), e (161 + 3 * k) (by omega) (by omega) (by omega) (by omega)]
    omega
  · intro k j h0 hk hj
    have w := a8 k j h0 hk (by omega)
    rw [e (59 + 4 * k) (by omega) (by omega) (by omega) (by omega), e (60 + 4 * k) (by omega) (by omega) (by omega) (by omega), e (59 + 4 * j) (by omega) (by omega) (by omega) (by omega), e (60 + 4 * j) (by omega) (by omega) (by omega) (by omega)]
    exact w
theorem RX_.box {f g : Int → Int} {c : Int} (h : RX_ f) (hc : f 7 = c) (h1 : c < 8) (e : ∀ j, 0 ≤ j → j < 183 → j ≠ 7 → (j < 127 + 4 * c ∨ 127 + 4 * c + 4 ≤ j) → g j = f j) (hg : g 7 = c + 1) (hn : (0 ≤ g (127 + 4 * c) ∧ g (127 + 4 * c) < f 4) ∧ (0 ≤ g (128 + 4 * c) ∧ g (128 + 4 * c) < f 4) ∧ (1 ≤ g (129 + 4 * c) ∧ g (129 + 4 * c) ≤ 99) ∧ (0 ≤ g (130 + 4 * c) ∧ g (130 + 4 * c) ≤ 9999)) : RX_ g := by
  obtain ⟨a, a2, a3, a4, a5, a6, a7, a8⟩ := h
  have E : g 0 = f 0 ∧ g 1 = f 1 ∧ g 2 = f 2 ∧ g 3 = f 3 ∧ g 4 = f 4 ∧ g 5 = f 5 ∧ g 6 = f 6 ∧ g 8 = f 8 := ⟨e 0 (by omega) (by omega) (by omega) (by omega), e 1 (by omega) (by omega) (by omega) (by omega), e 2 (by omega) (by omega) (by omega) (by omega), e 3 (by omega) (by omega) (by omega) (by omega), e 4 (by omega) (by omega) (by omega) (by omega), e 5 (by omega) (by omega) (by omega) (by omega), e 6 (by omega) (by omega) (by omega) (by omega), e 8 (by omega) (by omega) (by omega) (by omega)⟩
  obtain ⟨E0, E1, E2, E3, E4, E5, E6, E8⟩ := E
  refine ⟨by omega, ?_, ?_, ?_, ?_, ?_, ?_, ?_⟩
  · intro i h0 hi
    have w := a2 i h0 (by omega)
    rw [e (10 + 7 * i) (by omega) (by omega) (by omega) (by omega)]
    omega
  · intro i k h0 hi h2 h3
    have w := a3 i k h0 (by omega) h2 h3
    rw [e (11 + 7 * i + k) (by omega) (by omega) (by omega) (by omega)]
    omega
  · intro k h0 hk
    have w := a4 k h0 (by omega)
    rw [e (59 + 4 * k) (by omega) (by omega) (by omega) (by omega), e (60 + 4 * k) (by omega) (by omega) (by omega) (by omega), e (61 + 4 * k) (by omega) (by omega) (by omega) (by omega), e (62 + 4 * k) (by omega) (by omega) (by omega) (by omega)]
    omega
  · intro w' h0 hw
    have w := a5 w' h0 (by omega)
    rw [e (107 + 4 * w') (by omega) (by omega) (by omega) (by omega), e (108 + 4 * w') (by omega) (by omega) (by omega) (by omega), e (109 + 4 * w') (by omega) (by omega) (by omega) (by omega), e (110 + 4 * w') (by omega) (by omega) (by omega) (by omega)]
    omega
  · intro b h0 hb
    by_cases q : b = c
    · subst q
      omega
    · have w := a6 b h0 (by omega)
      rw [e (127 + 4 * b) (by omega) (by omega) (by omega) (by omega), e (128 + 4 * b) (by omega) (by omega) (by omega) (by omega), e (129 + 4 * b) (by omega) (by omega) (by omega) (by omega), e (130 + 4 * b) (by omega) (by omega) (by omega) (by omega)]
      omega
  · intro k h0 hk
    have w := a7 k h0 (by omega)
    rw [e (159 + 3 * k) (by omega) (by omega) (by omega) (by omega), e (160 + 3 * k) (by omega) (by omega) (by omega) (by omega), e (161 + 3 * k) (by omega) (by omega) (by omega) (by omega)]
    omega
  · intro k j h0 hk hj
    have w := a8 k j h0 hk (by omega)
    rw [e (59 + 4 * k) (by omega) (by omega) (by omega) (by omega), e (60 + 4 * k) (by omega) (by omega) (by omega) (by omega), e (59 + 4 * j) (by omega) (by omega) (by omega) (by omega), e (60 + 4 * j) (by omega) (by omega) (by omega) (by omega)]
    exact w
theorem RX_.spout {f g : Int → Int} {c : Int} (h : RX_ f) (hc : f 8 = c) (h1 : c < 8) (e : ∀ j, 0 ≤ j → j < 183 → j ≠ 8 → (j < 159 + 3 * c ∨ 159 + 3 * c + 3 ≤ j) → g j = f j) (hg : g 8 = c + 1) (hn : (0 ≤ g (159 + 3 * c) ∧ g (159 + 3 * c) < f 6) ∧ (0 ≤ g (160 + 3 * c) ∧ g (160 + 3 * c) < f 4) ∧ (0 ≤ g (161 + 3 * c) ∧ g (161 + 3 * c) ≤ 9999)) : RX_ g := by
  obtain ⟨a, a2, a3, a4, a5, a6, a7, a8⟩ := h
  have E : g 0 = f 0 ∧ g 1 = f 1 ∧ g 2 = f 2 ∧ g 3 = f 3 ∧ g 4 = f 4 ∧ g 5 = f 5 ∧ g 6 = f 6 ∧ g 7 = f 7 := ⟨e 0 (by omega) (by omega) (by omega) (by omega), e 1 (by omega) (by omega) (by omega) (by omega), e 2 (by omega) (by omega) (by omega) (by omega), e 3 (by omega) (by omega) (by omega) (by omega), e 4 (by omega) (by omega) (by omega) (by omega), e 5 (by omega) (by omega) (by omega) (by omega), e 6 (by omega) (by omega) (by omega) (by omega), e 7 (by omega) (by omega) (by omega) (by omega)⟩
  obtain ⟨E0, E1, E2, E3, E4, E5, E6, E7⟩ := E
  refine ⟨by omega, ?_, ?_, ?_, ?_, ?_, ?_, ?_⟩
  · intro i h0 hi
    have w := a2 i h0 (by omega)
    rw [e (10 + 7 * i) (by omega) (by omega) (by omega) (by omega)]
    omega
  · intro i k h0 hi h2 h3
    have w := a3 i k h0 (by omega) h2 h3
    rw [e (11 + 7 * i + k) (by omega) (by omega) (by omega) (by omega)]
    omega
  · intro k h0 hk
    have w := a4 k h0 (by omega)
    rw [e (59 + 4 * k) (by omega) (by omega) (by omega) (by omega), e (60 + 4 * k) (by omega) (by omega) (by omega) (by omega), e (61 + 4 * k) (by omega) (by omega) (by omega) (by omega), e (62 + 4 * k) (by omega) (by omega) (by omega) (by omega)]
    omega
  · intro w' h0 hw
    have w := a5 w' h0 (by omega)
    rw [e (107 + 4 * w') (by omega) (by omega) (by omega) (by omega), e (108 + 4 * w') (by omega) (by omega) (by omega) (by omega), e (109 + 4 * w') (by omega) (by omega) (by omega) (by omega), e (110 + 4 * w') (by omega) (by omega) (by omega) (by omega)]
    omega
  · intro b h0 hb
    have w := a6 b h0 (by omega)
    rw [e (127 + 4 * b) (by omega) (by omega) (by omega) (by omega), e (128 + 4 * b) (by omega) (by omega) (by omega) (by omega), e (129 + 4 * b) (by omega) (by omega) (by omega) (by omega), e (130 + 4 * b) (by omega) (by omega) (by omega) (by omega)]
    omega
  · intro k h0 hk
    by_cases q : k = c
    · subst q
      omega
    · have w := a7 k h0 (by omega)
      rw [e (159 + 3 * k) (by omega) (by omega) (by omega) (by omega), e (160 + 3 * k) (by omega) (by omega) (by omega) (by omega), e (161 + 3 * k) (by omega) (by omega) (by omega) (by omega)]
      omega
  · intro k j h0 hk hj
    have w := a8 k j h0 hk (by omega)
    rw [e (59 + 4 * k) (by omega) (by omega) (by omega) (by omega), e (60 + 4 * k) (by omega) (by omega) (by omega) (by omega), e (59 + 4 * j) (by omega) (by omega) (by omega) (by omega), e (60 + 4 * j) (by omega) (by omega) (by omega) (by omega)]
    exact w
theorem RX_.island {f g : Int → Int} {c : Int} (h : RX_ f) (hc : f 4 = c) (h1 : c < 7) (e : ∀ j, 0 ≤ j → j < 183 → j ≠ 4 → (j < 10 + 7 * c ∨ 10 + 7 * c + 7 ≤ j) → g j = f j) (hg : g 4 = c + 1) (hn : 2 ≤ g (10 + 7 * c) ∧ g (10 + 7 * c) ≤ 6) (hs : ∀ k, 0 ≤ k → k < 6 → 0 ≤ g (11 + 7 * c + k) ∧ g (11 + 7 * c + k) < f 0) : RX_ g := by
  obtain ⟨a, a2, a3, a4, a5, a6, a7, a8⟩ := h
  have E : g 0 = f 0 ∧ g 1 = f 1 ∧ g 2 = f 2 ∧ g 3 = f 3 ∧ g 5 = f 5 ∧ g 6 = f 6 ∧ g 7 = f 7 ∧ g 8 = f 8 := ⟨e 0 (by omega) (by omega) (by omega) (by omega), e 1 (by omega) (by omega) (by omega) (by omega), e 2 (by omega) (by omega) (by omega) (by omega), e 3 (by omega) (by omega) (by omega) (by omega), e 5 (by omega) (by omega) (by omega) (by omega), e 6 (by omega) (by omega) (by omega) (by omega), e 7 (by omega) (by omega) (by omega) (by omega), e 8 (by omega) (by omega) (by omega) (by omega)⟩
  obtain ⟨E0, E1, E2, E3, E5, E6, E7, E8⟩ := E
  refine ⟨by omega, ?_, ?_, ?_, ?_, ?_, ?_, ?_⟩
  · intro i h0 hi
    by_cases q : i = c
    · subst q
      omega
    · have w := a2 i h0 (by omega)
      rw [e (10 + 7 * i) (by omega) (by omega) (by omega) (by omega)]
      omega
  · intro i k h0 hi h2 h3
    by_cases q : i = c
    · subst q
      have w := hs k h2 h3
      omega
    · have w := a3 i k h0 (by omega) h2 h3
      rw [e (11 + 7 * i + k) (by omega) (by omega) (by omega) (by omega)]
      omega
  · intro k h0 hk
    have w := a4 k h0 (by omega)
    rw [e (59 + 4 * k) (by omega) (by omega) (by omega) (by omega), e (60 + 4 * k) (by omega) (by omega) (by omega) (by omega), e (61 + 4 * k) (by omega) (by omega) (by omega) (by omega), e (62 + 4 * k) (by omega) (by omega) (by omega) (by omega)]
    omega
  · intro w' h0 hw
    have w := a5 w' h0 (by omega)
    rw [e (107 + 4 * w') (by omega) (by omega) (by omega) (by omega), e (108 + 4 * w') (by omega) (by omega) (by omega) (by omega), e (109 + 4 * w') (by omega) (by omega) (by omega) (by omega), e (110 + 4 * w') (by omega) (by omega) (by omega) (by omega)]
    omega
  · intro b h0 hb
    have w := a6 b h0 (by omega)
    rw [e (127 + 4 * b) (by omega) (by omega) (by omega) (by omega), e (128 + 4 * b) (by omega) (by omega) (by omega) (by omega), e (129 + 4 * b) (by omega) (by omega) (by omega) (by omega), e (130 + 4 * b) (by omega) (by omega) (by omega) (by omega)]
    omega
  · intro k h0 hk
    have w := a7 k h0 (by omega)
    rw [e (159 + 3 * k) (by omega) (by omega) (by omega) (by omega), e (160 + 3 * k) (by omega) (by omega) (by omega) (by omega), e (161 + 3 * k) (by omega) (by omega) (by omega) (by omega)]
    omega
  · intro k j h0 hk hj
    have w := a8 k j h0 hk (by omega)
    rw [e (59 + 4 * k) (by omega) (by omega) (by omega) (by omega), e (60 + 4 * k) (by omega) (by omega) (by omega) (by omega), e (59 + 4 * j) (by omega) (by omega) (by omega) (by omega), e (60 + 4 * j) (by omega) (by omega) (by omega) (by omega)]
    exact w
/-- two names are one -/
def nms_ (f : Int → Int) (a b : Int) : Prop := f (183 + a) = f (183 + b) ∧ ∀ k, 0 ≤ k → k < f (183 + a) → f (203 + 8 * a + k) = f (203 + 8 * b + k)
/-- a post that is being told, with its names -/
def FW_ (f : Int → Int) : Prop :=
  ((f 9 = 0 ∧ f 4 = 0 ∧ f 5 = 0 ∧ f 6 = 0 ∧ f 7 = 0 ∧ f 8 = 0) ∨ (f 9 = 1 ∧ RX_ f)) ∧
  (∀ i k, f 4 ≤ i → i < 7 → 0 ≤ k → k < 6 → f (11 + 7 * i + k) = 0) ∧
  (∀ n, f 4 ≤ n → n < 7 → f (183 + n) = 0) ∧ (∀ n, f 6 ≤ n → n < 5 → f (190 + n) = 0) ∧ (∀ n, f 7 ≤ n → n < 8 → f (195 + n) = 0) ∧
  (∀ i w, 0 ≤ i → i < f 4 → 0 ≤ w → w < f 6 → ¬ nms_ f i (7 + w)) ∧ (∀ n, 0 ≤ n → n < 20 → 0 ≤ f (183 + n) ∧ f (183 + n) ≤ 8)
theorem FW_.rx {f : Int → Int} (h : FW_ f) (h9 : f 9 = 1) : RX_ f := by
  rcases h.1 with q | q
  · omega
  · exact q.2
theorem FW_.cn {f : Int → Int} (h : FW_ f) : (0 ≤ f 4 ∧ f 4 ≤ 7) ∧ (0 ≤ f 5 ∧ f 5 ≤ 12) ∧ (0 ≤ f 6 ∧ f 6 ≤ 5) ∧ (0 ≤ f 7 ∧ f 7 ≤ 8) ∧ (0 ≤ f 8 ∧ f 8 ≤ 8) := by
  rcases h.1 with q | q
  · omega
  · have := q.2.1
    omega
theorem FW_.zero {f : Int → Int} (h : ∀ k, 0 ≤ k → k < 363 → f k = 0) : FW_ f := by
  refine ⟨Or.inl ⟨h 9 (by decide) (by decide), h 4 (by decide) (by decide), h 5 (by decide) (by decide), h 6 (by decide) (by decide), h 7 (by decide) (by decide), h 8 (by decide) (by decide)⟩, ?_, ?_, ?_, ?_, ?_, ?_⟩
  all_goals have h4 := h 4 (by decide) (by decide); have h6 := h 6 (by decide) (by decide); have h7 := h 7 (by decide) (by decide)
  · intro i k i0 i1 k0 k1; exact h _ (by omega) (by omega)
  · intro n n0 n1; exact h _ (by omega) (by omega)
  · intro n n0 n1; exact h _ (by omega) (by omega)
  · intro n n0 n1; exact h _ (by omega) (by omega)
  · intro i w i0 i1; omega
  · intro n n0 n1; rw [h _ (by omega) (by omega)]; decide
/-- what lies apart from all that FW_ speaks of -/
theorem nms_.cg {f g : Int → Int} {a b : Int} (h : nms_ g a b) (e1 : g (183 + a) = f (183 + a)) (e2 : g (183 + b) = f (183 + b)) (e3 : ∀ k, 0 ≤ k → k < f (183 + a) → g (203 + 8 * a + k) = f (203 + 8 * a + k) ∧ g (203 + 8 * b + k) = f (203 + 8 * b + k)) : nms_ f a b := by
  refine ⟨by rw [← e1, ← e2]; exact h.1, fun k k0 k1 => ?_⟩
  have q := e3 k k0 k1
  rw [← q.1, ← q.2]
  exact h.2 k k0 (by rw [e1]; exact k1)
theorem RX_.cg {f g : Int → Int} (h : RX_ f) (e : ∀ j, 0 ≤ j → j < 183 → g j = f j) : RX_ g := by
  obtain ⟨a, a2, a3, a4, a5, a6, a7, a8⟩ := h
  have E : g 0 = f 0 ∧ g 1 = f 1 ∧ g 2 = f 2 ∧ g 3 = f 3 ∧ g 4 = f 4 ∧ g 5 = f 5 ∧ g 6 = f 6 ∧ g 7 = f 7 ∧ g 8 = f 8 := ⟨e 0 (by omega) (by omega), e 1 (by omega) (by omega), e 2 (by omega) (by omega), e 3 (by omega) (by omega), e 4 (by omega) (by omega), e 5 (by omega) (by omega), e 6 (by omega) (by omega), e 7 (by omega) (by omega), e 8 (by omega) (by omega)⟩
  obtain ⟨E0, E1, E2, E3, E4, E5, E6, E7, E8⟩ := E
  refine ⟨by omega, ?_, ?_, ?_, ?_, ?_, ?_, ?_⟩
  · intro i h0 hi
    have w := a2 i h0 (by omega)
    rw [e (10 + 7 * i) (by omega) (by omega)]
    omega
  · intro i k h0 hi h2 h3
    have w := a3 i k h0 (by omega) h2 h3
    rw [e (11 + 7 * i + k) (by omega) (by omega)]
    omega
  · intro k h0 hk
    have w := a4 k h0 (by omega)
    rw [e (59 + 4 * k) (by omega) (by omega), e (60 + 4 * k) (by omega) (by omega), e (61 + 4 * k) (by omega) (by omega), e (62 + 4 * k) (by omega) (by omega)]
    omega
  · intro w' h0 hw
    have w := a5 w' h0 (by omega)
    rw [e (107 + 4 * w') (by omega) (by omega), e (108 + 4 * w') (by omega) (by omega), e (109 + 4 * w') (by omega) (by omega), e (110 + 4 * w') (by omega) (by omega)]
    omega
  · intro b h0 hb
    have w := a6 b h0 (by omega)
    rw [e (127 + 4 * b) (by omega) (by omega), e (128 + 4 * b) (by omega) (by omega), e (129 + 4 * b) (by omega) (by omega), e (130 + 4 * b) (by omega) (by omega)]
    omega
  · intro k h0 hk
    have w := a7 k h0 (by omega)
    rw [e (159 + 3 * k) (by omega) (by omega), e (160 + 3 * k) (by omega) (by omega), e (161 + 3 * k) (by omega) (by omega)]
    omega
  · intro k j h0 hk hj
    have w := a8 k j h0 hk (by omega)
    rw [e (59 + 4 * k) (by omega) (by omega), e (60 + 4 * k) (by omega) (by omega), e (59 + 4 * j) (by omega) (by omega), e (60 + 4 * j) (by omega) (by omega)]
    exact w
