/-! PARSING, part 7: each line keeps what is told a post. Written by mod/m70.py -/
set_option maxRecDepth 100000
section
variable {G : JG} {m : Nat} {γ : JH}
theorem wl_FW (h : RB_ G m γ) (h0 : iv_ γ m 13 = 0) (hF : FW_ (iv_ γ (m + 4))) (h9 : iv_ γ (m + 4) 9 ≠ 0) (hct : iv_ γ (m + 4) 5 < 12) (q : iv_ (wl_ m γ) m 13 = 0) : FW_ (iv_ (wl_ m γ) (m + 4)) := by
  have cc := h.c4 (k := 5) (by decide) (by decide)
  obtain ⟨a, b, d, o, ha, hb, hd, ho, hab, hjn, E⟩ := wl_ok h h0 q
  clear q
  generalize iv_ (wl_ m γ) (m + 4) = g at *
  generalize iv_ γ (m + 4) = f at *
  generalize hc : f 5 = c at *
  have cn := hF.cn
  obtain ⟨hf1, hf2, hf3, hf4, hf5, hf6, hf7⟩ := hF
  have hx : f 9 = 1 ∧ RX_ f := by
    rcases hf1 with w | w
    · exact absurd w.1 h9
    · exact w
  have S : ∀ j, j ≠ 5 → (j < 59 + 4 * c ∨ 59 + 4 * c + 4 ≤ j) → g j = f j := fun j j0 j1 => by
    rw [E, if_neg j0, if_neg (by omega), if_neg (by omega), if_neg (by omega), if_neg (by omega)]
  have gc : g 5 = c + 1 := by rw [E, if_pos rfl]
  have ga : g (59 + 4 * c) = a := by rw [E, if_neg (by omega), if_neg (by omega), if_neg (by omega), if_neg (by omega), if_pos (by omega)]
  have gb : g (60 + 4 * c) = b := by rw [E, if_neg (by omega), if_neg (by omega), if_neg (by omega), if_pos (by omega)]
  have gd : g (61 + 4 * c) = d := by rw [E, if_neg (by omega), if_neg (by omega), if_pos (by omega)]
  have go : g (62 + 4 * c) = o := by rw [E, if_neg (by omega), if_pos (by omega)]
  have a4 : a < f 4 := Classical.byContradiction fun w => by have := hf3 a (by omega) (by omega); omega
  have b4 : b < f 4 := Classical.byContradiction fun w => by have := hf3 b (by omega) (by omega); omega
  have g4_ : g 4 = f 4 := S 4 (by omega) (by omega)
  have g6_ : g 6 = f 6 := S 6 (by omega) (by omega)
  have g7_ : g 7 = f 7 := S 7 (by omega) (by omega)
  have g9_ : g 9 = f 9 := S 9 (by omega) (by omega)
  refine ⟨Or.inr ⟨g9_.trans hx.1, hx.2.way hc hct (fun j j0 j1 j2 j3 => S j j2 (by omega)) gc (by omega) (fun k k0 k1 => by have w := hjn k k0 k1; rw [ga, gb]; unfold jn_ at w; constructor <;> (intro u; exact w (by omega)))⟩, ?_, ?_, ?_, ?_, ?_, ?_⟩
  · intro i' k' i0 i1 k0 k1; rw [S _ (by omega) (by omega)]; exact hf2 i' k' (by omega) i1 k0 k1
  · intro n' n0 n1; rw [S _ (by omega) (by omega)]; exact hf3 n' (by omega) n1
  · intro n' n0 n1; rw [S _ (by omega) (by omega)]; exact hf4 n' (by omega) n1
  · intro n' n0 n1; rw [S _ (by omega) (by omega)]; exact hf5 n' (by omega) n1
  · intro i' w' i0 i1 w0 w1 hn
    have hb1 := hf7 i' (by omega) (by omega)
    exact hf6 i' w' i0 (by omega) w0 (by omega) (hn.cg (S _ (by omega) (by omega)) (S _ (by omega) (by omega)) (fun k' k0 k1 => ⟨S _ (by omega) (by omega), S _ (by omega) (by omega)⟩))
  · intro n' n0 n1
    rw [S _ (by omega) (by omega)]
    exact hf7 n' n0 n1
theorem hl_FW (h : RB_ G m γ) (h0 : iv_ γ m 13 = 0) (hF : FW_ (iv_ γ (m + 4))) (h9 : iv_ γ (m + 4) 9 ≠ 0) (hct : iv_ γ (m + 4) 6 < 5) (q : iv_ (hl_ m γ) m 13 = 0) : FW_ (iv_ (hl_ m γ) (m + 4)) := by
  have cc := h.c4 (k := 6) (by decide) (by decide)
  obtain ⟨qn, k, a, e, l, hk, ha, he, hl, hkd, E⟩ := hl_ok h h0 hct q
  obtain ⟨-, -, -, k4, En⟩ := nna_ok h.2.1 h0 qn
  have hnew : ∀ a, 0 ≤ a → a < 20 → a ≠ 7 + iv_ γ (m + 4) 6 → ¬ nms_ (iv_ (hl_ m γ) (m + 4)) a (7 + iv_ γ (m + 4) 6) ∧ ¬ nms_ (iv_ (hl_ m γ) (m + 4)) (7 + iv_ γ (m + 4) 6) a := fun a a0 a1 a2 => nna_new h.2.1 h0 qn ⟨a0, a1⟩ (by omega) a2 (fun j j0 j1 => by rw [E]; repeat' rw [if_neg (by omega)])
  simp only [En] at E
  clear q qn En
  generalize iv_ (hl_ m γ) (m + 4) = g at *
  generalize iv_ γ m 8 = z8 at *
  generalize iv_ γ (m + 2) = L8 at *
  generalize iv_ γ (m + 4) = f at *
  generalize hc : f 6 = c at *
  have cn := hF.cn
  obtain ⟨hf1, hf2, hf3, hf4, hf5, hf6, hf7⟩ := hF
  have hx : f 9 = 1 ∧ RX_ f := by
    rcases hf1 with w | w
    · exact absurd w.1 h9
    · exact w
  have S : ∀ j, j ≠ 6 → (j < 107 + 4 * c ∨ 107 + 4 * c + 4 ≤ j) → j ≠ 183 + (7 + c) → (j < 203 + 8 * (7 + c) ∨ 211 + 8 * (7 + c) ≤ j) → g j = f j := fun j j0 j1 j2 j3 => by
    rw [E, if_neg j0, if_neg (by omega), if_neg (by omega), if_neg (by omega), if_neg (by omega), if_neg (by omega), if_neg (by omega)]
  have gc : g 6 = c + 1 := by rw [E, if_pos rfl]
  have gk : g (107 + 4 * c) = k := by rw [E, if_neg (by omega), if_neg (by omega), if_neg (by omega), if_neg (by omega), if_pos (by omega)]
  have ga : g (108 + 4 * c) = a := by rw [E, if_neg (by omega), if_neg (by omega), if_neg (by omega), if_pos (by omega)]
  have ge : g (109 + 4 * c) = e := by rw [E, if_neg (by omega), if_neg (by omega), if_pos (by omega)]
  have gl : g (110 + 4 * c) = l := by rw [E, if_neg (by omega), if_pos (by omega)]
  have a4 : a < f 4 := Classical.byContradiction fun w => by have := hf3 a (by omega) (by omega); omega
  have g4_ : g 4 = f 4 := S 4 (by omega) (by omega) (by omega) (by omega)
  have g7_ : g 7 = f 7 := S 7 (by omega) (by omega) (by omega) (by omega)
  have g9_ : g 9 = f 9 := S 9 (by omega) (by omega) (by omega) (by omega)
  refine ⟨Or.inr ⟨g9_.trans hx.1, hx.2.whale hc hct (fun j j0 j1 j2 j3 => S j j2 (by omega) (by omega) (by omega)) gc (by omega)⟩, ?_, ?_, ?_, ?_, ?_, ?_⟩
  · intro i' k' i0 i1 k0 k1; rw [S _ (by omega) (by omega) (by omega) (by omega)]; exact hf2 i' k' (by omega) i1 k0 k1
  · intro n' n0 n1; rw [S _ (by omega) (by omega) (by omega) (by omega)]; exact hf3 n' (by omega) n1
  · intro n' n0 n1; rw [S _ (by omega) (by omega) (by omega) (by omega)]; exact hf4 n' (by omega) n1
  · intro n' n0 n1; rw [S _ (by omega) (by omega) (by omega) (by omega)]; exact hf5 n' (by omega) n1
  · intro i' w' i0 i1 w0 w1 hn
    by_cases u : w' = c
    · rw [u] at hn
      exact (hnew i' (by omega) (by omega) (by omega)).1 hn
    have hb1 := hf7 i' (by omega) (by omega)
    exact hf6 i' w' i0 (by omega) w0 (by omega) (hn.cg (S _ (by omega) (by omega) (by omega) (by omega)) (S _ (by omega) (by omega) (by omega) (by omega)) (fun k' k0 k1 => ⟨S _ (by omega) (by omega) (by omega) (by omega), S _ (by omega) (by omega) (by omega) (by omega)⟩))
  · intro n' n0 n1
    by_cases u : n' = 7 + c
    · rw [u, E, if_neg (by omega), if_neg (by omega), if_neg (by omega), if_neg (by omega), if_neg (by omega), if_pos (by omega)]
      omega
    rw [S _ (by omega) (by omega) (by omega) (by omega)]
    exact hf7 n' n0 n1
theorem bl2_FW (h : RB_ G m γ) (h0 : iv_ γ m 13 = 0) (hF : FW_ (iv_ γ (m + 4))) (h9 : iv_ γ (m + 4) 9 ≠ 0) (hct : iv_ γ (m + 4) 7 < 8) (q : iv_ (bl2_ m γ) m 13 = 0) : FW_ (iv_ (bl2_ m γ) (m + 4)) := by
  have cc := h.c4 (k := 7) (by decide) (by decide)
  obtain ⟨qn, a, b, w, d, ha, hb, hw, hd, E⟩ := bl2_ok h h0 hct q
  obtain ⟨-, -, -, k4, En⟩ := nna_ok h.2.1 h0 qn
  have hnew : ∀ a, 0 ≤ a → a < 20 → a ≠ 12 + iv_ γ (m + 4) 7 → ¬ nms_ (iv_ (bl2_ m γ) (m + 4)) a (12 + iv_ γ (m + 4) 7) ∧ ¬ nms_ (iv_ (bl2_ m γ) (m + 4)) (12 + iv_ γ (m + 4) 7) a := fun a a0 a1 a2 => nna_new h.2.1 h0 qn ⟨a0, a1⟩ (by omega) a2 (fun j j0 j1 => by rw [E]; repeat' rw [if_neg (by omega)])
  simp only [En] at E
  clear q qn En
  generalize iv_ (bl2_ m γ) (m + 4) = g at *
  generalize iv_ γ m 8 = z8 at *
  generalize iv_ γ (m + 2) = L8 at *
  generalize iv_ γ (m + 4) = f at *
  generalize hc : f 7 = c at *
  have cn := hF.cn
  obtain ⟨hf1, hf2, hf3, hf4, hf5, hf6, hf7⟩ := hF
  have hx : f 9 = 1 ∧ RX_ f := by
    rcases hf1 with w | w
    · exact absurd w.1 h9
    · exact w
  have S : ∀ j, j ≠ 7 → (j < 127 + 4 * c ∨ 127 + 4 * c + 4 ≤ j) → j ≠ 183 + (12 + c) → (j < 203 + 8 * (12 + c) ∨ 211 + 8 * (12 + c) ≤ j) → g j = f j := fun j j0 j1 j2 j3 => by
    rw [E, if_neg j0, if_neg (by omega), if_neg (by omega), if_neg (by omega), if_neg (by omega), if_neg (by omega), if_neg (by omega)]
  have gc : g 7 = c + 1 := by rw [E, if_pos rfl]
  have ga : g (127 + 4 * c) = a := by rw [E, if_neg (by omega), if_neg (by omega), if_neg (by omega), if_neg (by omega), if_pos (by omega)]
  have gb : g (128 + 4 * c) = b := by rw [E, if_neg (by omega), if_neg (by omega), if_neg (by omega), if_pos (by omega)]
  have gw : g (129 + 4 * c) = w := by rw [E, if_neg (by omega), if_neg (by omega), if_pos (by omega)]
  have gd : g (130 + 4 * c) = d := by rw [E, if_neg (by omega), if_pos (by omega)]
  have a4 : a < f 4 := Classical.byContradiction fun w => by have := hf3 a (by omega) (by omega); omega
  have b4 : b < f 4 := Classical.byContradiction fun w => by have := hf3 b (by omega) (by omega); omega
  have g4_ : g 4 = f 4 := S 4 (by omega) (by omega) (by omega) (by omega)
  have g6_ : g 6 = f 6 := S 6 (by omega) (by omega) (by omega) (by omega)
  have g9_ : g 9 = f 9 := S 9 (by omega) (by omega) (by omega) (by omega)
  refine ⟨Or.inr ⟨g9_.trans hx.1, hx.2.box hc hct (fun j j0 j1 j2 j3 => S j j2 (by omega) (by omega) (by omega)) gc (by omega)⟩, ?_, ?_, ?_, ?_, ?_, ?_⟩
  · intro i' k' i0 i1 k0 k1; rw [S _ (by omega) (by omega) (by omega) (by omega)]; exact hf2 i' k' (by omega) i1 k0 k1
  · intro n' n0 n1; rw [S _ (by omega) (by omega) (by omega) (by omega)]; exact hf3 n' (by omega) n1
  · intro n' n0 n1; rw [S _ (by omega) (by omega) (by omega) (by omega)]; exact hf4 n' (by omega) n1
  · intro n' n0 n1; rw [S _ (by omega) (by omega) (by omega) (by omega)]; exact hf5 n' (by omega) n1
  · intro i' w' i0 i1 w0 w1 hn
    have hb1 := hf7 i' (by omega) (by omega)
    exact hf6 i' w' i0 (by omega) w0 (by omega) (hn.cg (S _ (by omega) (by omega) (by omega) (by omega)) (S _ (by omega) (by omega) (by omega) (by omega)) (fun k' k0 k1 => ⟨S _ (by omega) (by omega) (by omega) (by omega), S _ (by omega) (by omega) (by omega) (by omega)⟩))
  · intro n' n0 n1
    by_cases u : n' = 12 + c
    · rw [u, E, if_neg (by omega), if_neg (by omega), if_neg (by omega), if_neg (by omega), if_neg (by omega), if_pos (by omega)]
      omega
    rw [S _ (by omega) (by omega) (by omega) (by omega)]
    exact hf7 n' n0 n1
theorem sl_FW (h : RB_ G m γ) (h0 : iv_ γ m 13 = 0) (hF : FW_ (iv_ γ (m + 4))) (h9 : iv_ γ (m + 4) 9 ≠ 0) (hct : iv_ γ (m + 4) 8 < 8) (q : iv_ (sl_ m γ) m 13 = 0) : FW_ (iv_ (sl_ m γ) (m + 4)) := by
  have cc := h.c4 (k := 8) (by decide) (by decide)
  obtain ⟨w, i, d, hw, hi, hd, E⟩ := sl_ok h h0 hct q
  clear q
  generalize iv_ (sl_ m γ) (m + 4) = g at *
  generalize iv_ γ (m + 4) = f at *
  generalize hc : f 8 = c at *
  have cn := hF.cn
  obtain ⟨hf1, hf2, hf3, hf4, hf5, hf6, hf7⟩ := hF
  have hx : f 9 = 1 ∧ RX_ f := by
    rcases hf1 with w | w
    · exact absurd w.1 h9
    · exact w
  have S : ∀ j, j ≠ 8 → (j < 159 + 3 * c ∨ 159 + 3 * c + 3 ≤ j) → g j = f j := fun j j0 j1 => by
    rw [E, if_neg j0, if_neg (by omega), if_neg (by omega), if_neg (by omega)]
  have gc : g 8 = c + 1 := by rw [E, if_pos rfl]
  have gw : g (159 + 3 * c) = w := by rw [E, if_neg (by omega), if_neg (by omega), if_neg (by omega), if_pos (by omega)]
  have gi : g (160 + 3 * c) = i := by rw [E, if_neg (by omega), if_neg (by omega), if_pos (by omega)]
  have gd : g (161 + 3 * c) = d := by rw [E, if_neg (by omega), if_pos (by omega)]
  have i4 : i < f 4 := Classical.byContradiction fun w => by have := hf3 i (by omega) (by omega); omega
  have w6 : w < f 6 := Classical.byContradiction fun q => by have := hf4 w (by omega) (by omega); omega
  have g4_ : g 4 = f 4 := S 4 (by omega) (by omega)
  have g6_ : g 6 = f 6 := S 6 (by omega) (by omega)
  have g7_ : g 7 = f 7 := S 7 (by omega) (by omega)
  have g9_ : g 9 = f 9 := S 9 (by omega) (by omega)
  refine ⟨Or.inr ⟨g9_.trans hx.1, hx.2.spout hc hct (fun j j0 j1 j2 j3 => S j j2 (by omega)) gc (by omega)⟩, ?_, ?_, ?_, ?_, ?_, ?_⟩
  · intro i' k' i0 i1 k0 k1; rw [S _ (by omega) (by omega)]; exact hf2 i' k' (by omega) i1 k0 k1
  · intro n' n0 n1; rw [S _ (by omega) (by omega)]; exact hf3 n' (by omega) n1
  · intro n' n0 n1; rw [S _ (by omega) (by omega)]; exact hf4 n' (by omega) n1
  · intro n' n0 n1; rw [S _ (by omega) (by omega)]; exact hf5 n' (by omega) n1
  · intro i' w' i0 i1 w0 w1 hn
    have hb1 := hf7 i' (by omega) (by omega)
    exact hf6 i' w' i0 (by omega) w0 (by omega) (hn.cg (S _ (by omega) (by omega)) (S _ (by omega) (by omega)) (fun k' k0 k1 => ⟨S _ (by omega) (by omega), S _ (by omega) (by omega)⟩))
  · intro n' n0 n1
    rw [S _ (by omega) (by omega)]
    exact hf7 n' n0 n1
theorem il_FW (h : RB_ G m γ) (h0 : iv_ γ m 13 = 0) (hF : FW_ (iv_ γ (m + 4))) (h9 : iv_ γ (m + 4) 9 ≠ 0) (hct : iv_ γ (m + 4) 4 < 7) (q : iv_ (il_ m γ) m 13 = 0) : FW_ (iv_ (il_ m γ) (m + 4)) := by
  have cc := h.c4 (k := 4) (by decide) (by decide)
  obtain ⟨qn, z, L, hz, hL, E⟩ := il_ok h h0 q
  obtain ⟨-, -, -, k4, En⟩ := nna_ok h.2.1 h0 qn
  have hnew : ∀ a, 0 ≤ a → a < 20 → a ≠ iv_ γ (m + 4) 4 → ¬ nms_ (iv_ (il_ m γ) (m + 4)) a (iv_ γ (m + 4) 4) ∧ ¬ nms_ (iv_ (il_ m γ) (m + 4)) (iv_ γ (m + 4) 4) a := fun a a0 a1 a2 => nna_new h.2.1 h0 qn ⟨a0, a1⟩ (by omega) a2 (fun j j0 j1 => by rw [E]; repeat' rw [if_neg (by omega)])
  simp only [En] at E
  clear q qn En
  generalize iv_ (il_ m γ) (m + 4) = g at *
  generalize iv_ γ m 8 = z8 at *
  generalize iv_ γ (m + 2) = L8 at *
  generalize iv_ γ (m + 4) = f at *
  generalize hc : f 4 = c at *
  have cn := hF.cn
  obtain ⟨hf1, hf2, hf3, hf4, hf5, hf6, hf7⟩ := hF
  have hx : f 9 = 1 ∧ RX_ f := by
    rcases hf1 with w | w
    · exact absurd w.1 h9
    · exact w
  have S : ∀ j, j ≠ 4 → (j < 10 + 7 * c ∨ 10 + 7 * c + 7 ≤ j) → j ≠ 183 + (c) → (j < 203 + 8 * (c) ∨ 211 + 8 * (c) ≤ j) → g j = f j := fun j j0 j1 j2 j3 => by
    rw [E, if_neg j0, if_neg (by omega), if_neg (by omega), if_neg (by omega), if_neg (by omega)]
  have gc : g 4 = c + 1 := by rw [E, if_pos rfl]
  have g6_ : g 6 = f 6 := S 6 (by omega) (by omega) (by omega) (by omega)
  have g7_ : g 7 = f 7 := S 7 (by omega) (by omega) (by omega) (by omega)
  have g9_ : g 9 = f 9 := S 9 (by omega) (by omega) (by omega) (by omega)
  have gz : g (10 + 7 * c) = z := by rw [E, if_neg (by omega), if_neg (by omega), if_pos (by omega)]
  have gs : ∀ k, 0 ≤ k → k < 6 → 0 ≤ g (11 + 7 * c + k) ∧ g (11 + 7 * c + k) < f 0 := fun k k0 k1 => by
    by_cases w : k < z
    · have u := hL k k0 w
      rw [E, if_neg (by omega), if_pos (by omega), show 11 + 7 * c + k - (10 + 7 * c + 1) = k by omega]
      exact u
    · have u := hf2 c k (by omega) (by omega) k0 k1
      have u2 := hx.2.1
      rw [E, if_neg (by omega), if_neg (by omega), if_neg (by omega), if_neg (by omega), if_neg (by omega), u]
      omega
  refine ⟨Or.inr ⟨g9_.trans hx.1, hx.2.island hc hct (fun j j0 j1 j2 j3 => S j j2 (by omega) (by omega) (by omega)) gc (by omega) gs⟩, ?_, ?_, ?_, ?_, ?_, ?_⟩
  · intro i' k' i0 i1 k0 k1; rw [S _ (by omega) (by omega) (by omega) (by omega)]; exact hf2 i' k' (by omega) i1 k0 k1
  · intro n' n0 n1; rw [S _ (by omega) (by omega) (by omega) (by omega)]; exact hf3 n' (by omega) n1
  · intro n' n0 n1; rw [S _ (by omega) (by omega) (by omega) (by omega)]; exact hf4 n' (by omega) n1
  · intro n' n0 n1; rw [S _ (by omega) (by omega) (by omega) (by omega)]; exact hf5 n' (by omega) n1
  · intro i' w' i0 i1 w0 w1 hn
    by_cases u : i' = c
    · rw [u] at hn
      exact (hnew (7 + w') (by omega) (by omega) (by omega)).2 hn
    have hb1 := hf7 i' (by omega) (by omega)
    exact hf6 i' w' i0 (by omega) w0 (by omega) (hn.cg (S _ (by omega) (by omega) (by omega) (by omega)) (S _ (by omega) (by omega) (by omega) (by omega)) (fun k' k0 k1 => ⟨S _ (by omega) (by omega) (by omega) (by omega), S _ (by omega) (by omega) (by omega) (by omega)⟩))
  · intro n' n0 n1
    by_cases u : n' = c
    · rw [u, E, if_neg (by omega), if_neg (by omega), if_neg (by omega), if_pos (by omega)]
      omega
    rw [S _ (by omega) (by omega) (by omega) (by omega)]
    exact hf7 n' n0 n1
theorem rl_FW (h : RB_ G m γ) (h0 : iv_ γ m 13 = 0) (hF : FW_ (iv_ γ (m + 4))) (q : iv_ (rl_ m γ) m 13 = 0) : FW_ (iv_ (rl_ m γ) (m + 4)) := by
  have key : ∀ {n : Int} {c : Int → Int} {k b : Int}, iw_ m γ n c = true → iv_ (bgs_ m γ (ca1_ (iv_ γ (m + 4) k) b)) m 13 = 0 → FW_ (iv_ (bgs_ m γ (ca1_ (iv_ γ (m + 4) k) b)) (m + 4)) ∧ iv_ (bgs_ m γ (ca1_ (iv_ γ (m + 4) k) b)) (m + 4) 9 ≠ 0 ∧ iv_ (bgs_ m γ (ca1_ (iv_ γ (m + 4) k) b)) (m + 4) k < b := fun {n c k b} hw hb => by
    refine ⟨?_, ?_, bgs_lt h0 rfl hb⟩
    · have : iv_ (bgs_ m γ (ca1_ (iv_ γ (m + 4) k) b)) (m + 4) = iv_ γ (m + 4) := funext fun j => bgs_4 _ _
      rw [this]
      exact hF
    · rw [bgs_4]
      rcases bgs_cs h0 (ca1_ (iv_ γ (m + 4) k) b) with w | w
      · omega
      · exact w.2.1
  unfold rl_ at q ⊢
  split
  · rename_i w
    rw [if_pos w] at q
    exact pl_FW h h0 hF q
  · rename_i w
    rw [if_neg w] at q
    split
    · rename_i w
      rw [if_pos w] at q
      have r := bgs_RS h (ca1_ (iv_ γ (m + 4) 4) 7)
      have qb := (il_RS r.1 (bgs_lt h0 rfl)).2.ok q
      have K := key w qb
      exact il_FW r.1 qb K.1 K.2.1 K.2.2 q
    · rename_i w
      rw [if_neg w] at q
      split
      · rename_i w
        rw [if_pos w] at q
        have r := bgs_RS h (ca1_ (iv_ γ (m + 4) 5) 12)
        have qb := (wl_RS r.1 (bgs_lt h0 rfl)).2.ok q
        have K := key w qb
        exact wl_FW r.1 qb K.1 K.2.1 K.2.2 q
      · rename_i w
        rw [if_neg w] at q
        split
        · rename_i w
          rw [if_pos w] at q
          have r := bgs_RS h (ca1_ (iv_ γ (m + 4) 6) 5)
          have qb := (hl_RS r.1 (bgs_lt h0 rfl)).2.ok q
          have K := key w qb
          exact hl_FW r.1 qb K.1 K.2.1 K.2.2 q
        · rename_i w
          rw [if_neg w] at q
          split
          · rename_i w
            rw [if_pos w] at q
            have r := bgs_RS h (ca1_ (iv_ γ (m + 4) 7) 8)
            have qb := (bl2_RS r.1 (bgs_lt h0 rfl)).2.ok q
            have K := key w qb
            exact bl2_FW r.1 qb K.1 K.2.1 K.2.2 q
          · rename_i w
            rw [if_neg w] at q
            split
            · rename_i w
              rw [if_pos w] at q
              have r := bgs_RS h (ca1_ (iv_ γ (m + 4) 8) 8)
              have qb := (sl_RS r.1 (bgs_lt h0 rfl)).2.ok q
              have K := key w qb
              exact sl_FW r.1 qb K.1 K.2.1 K.2.2 q
            · rename_i w
              rw [if_neg w] at q
              exact (wr_no h.2.1.2.2.1 q).elim
end
