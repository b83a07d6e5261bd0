/-! the nearest first: what the reference's days are while they are laid -/
set_option maxRecDepth 100000
section
variable {r s : Int → Int} {kd fr dy : Int}
/-- a way's relaxing from the island a -/
def gb_ (r : Int → Int) (kd k a : Int) (X : Int → Int) (j : Int) : Int := if jn_ r k a j ∧ db_ r kd k (X a) < X j then db_ r kd k (X a) else X j
/-- days X, done D, n islands done; of the island a's ways those ahead of kk are gone by -/
def DJ_ (r s : Int → Int) (kd fr dy : Int) (X D : Int → Int) (n a kk : Int) : Prop :=
  X fr = dy ∧ (∀ i, 0 ≤ i → i < 7 → dy ≤ X i ∧ X i ≤ 1000000) ∧ (∀ i, 0 ≤ i → i < 7 → (D i = 0 ∨ (D i = 1 ∧ i < r 4 ∧ X i < 1000000))) ∧
  (∀ i, 0 ≤ i → i < 7 → i ≠ fr → X i < 1000000 → ∃ k j, eg_ r s k j i ∧ D j = 1 ∧ (kd ≠ 0 ∨ j = fr) ∧ X j < X i ∧ X i = db_ r kd k (X j)) ∧
  (∀ i k j, 0 ≤ i → i < 7 → D i = 1 → (kd ≠ 0 ∨ i = fr) → eg_ r s k i j → (i = a → k < kk) → X j ≤ db_ r kd k (X i)) ∧
  (∀ i j, 0 ≤ i → i < 7 → 0 ≤ j → j < 7 → D i = 1 → D j = 0 → X i ≤ X j) ∧ sI_ D (r 4) = n
theorem DJ_.start (hW : RW_ r) (hf : 0 ≤ fr ∧ fr < r 4) (hd : 0 ≤ dy ∧ dy ≤ 200000) {X D : Int → Int} (hX : ∀ i, 0 ≤ i → i < 7 → X i = if i = fr then dy else 1000000) (hD : ∀ i, 0 ≤ i → i < 7 → D i = 0) : DJ_ r s kd fr dy X D 0 (-1) 0 := by
  have hn := hW.n
  refine ⟨by rw [hX fr hf.1 (by omega), if_pos rfl], fun i h0 h1 => by rw [hX i h0 h1]; split <;> omega, fun i h0 h1 => Or.inl (hD i h0 h1), fun i h0 h1 h2 h3 => ?_, fun i k j h0 h1 h2 => ?_, fun i j h0 h1 _ _ h2 => ?_, ?_⟩
  · rw [hX i h0 h1, if_neg h2] at h3; omega
  · rw [hD i h0 h1] at h2; omega
  · rw [hD i h0 h1] at h2; omega
  · have := sI_bd (f := D) (n := r 4) (lo := 0) (hi := 0) (fun k h0 h1 => by rw [hD k h0 (by omega)]; omega) (by omega)
    omega
/-- an island that is nearest is taken -/
theorem DJ_.take (hW : RW_ r) {X D : Int → Int} {n a b kk : Int} (h : DJ_ r s kd fr dy X D n b kk) (hb : ∀ k i, eg_ r s k b i → k < kk) (ha : 0 ≤ a ∧ a < r 4) (h0 : D a = 0) (hx : X a < 1000000) (hm : ∀ j, 0 ≤ j → j < 7 → D j = 0 → X a ≤ X j) {D' : Int → Int} (hD' : ∀ i, D' i = if i = a then 1 else D i) :
    DJ_ r s kd fr dy X D' (n + 1) a 0 ∧ ∀ i, 0 ≤ i → i < 7 → D' i = 1 → X i ≤ X a := by
  have hn := hW.n
  obtain ⟨h1, h2, h3, h4, h5, h6, h7⟩ := h
  have hle : ∀ i, 0 ≤ i → i < 7 → D' i = 1 → X i ≤ X a := by
    intro i g0 g1 g2
    rw [hD'] at g2
    by_cases hi : i = a
    · rw [hi]; omega
    · rw [if_neg hi] at g2
      exact h6 i a g0 g1 (by omega) (by omega) g2 h0
  refine ⟨⟨h1, h2, fun i g0 g1 => ?_, fun i g0 g1 g2 g3 => ?_, fun i k j g0 g1 g2 g3 g4 g5 => ?_, fun i j g0 g1 g2 g3 g4 g5 => ?_, ?_⟩, hle⟩
  · rw [hD']
    split
    · rename_i hi; right; rw [hi]; exact ⟨rfl, ha.2, hx⟩
    · exact h3 i g0 g1
  · obtain ⟨k, j, e1, e2, e3⟩ := h4 i g0 g1 g2 g3
    exact ⟨k, j, e1, by rw [hD']; split; (rfl); (exact e2), e3⟩
  · rw [hD'] at g2
    by_cases hi : i = a
    · have := g5 hi
      have := g4.1
      omega
    · rw [if_neg hi] at g2
      exact h5 i k j g0 g1 g2 g3 g4 (fun z => hb k j (z ▸ g4))
  · rw [hD'] at g5
    by_cases hj : j = a
    · rw [if_pos hj] at g5; omega
    · rw [if_neg hj] at g5
      have q1 := hle i g0 g1 g4
      have q2 := hm j g2 g3 g5
      omega
  · have key : ∀ N : Nat, sI_ D' N = sI_ D N + (if 0 ≤ a ∧ a < (N : Int) then 1 else 0) := by
      intro N
      induction N with
      | zero => rw [if_neg (by omega)]; rfl
      | succ N ih =>
        have e : ((N + 1 : Nat) : Int) = (N : Int) + 1 := by omega
        rw [e, sI_s D' (by omega), sI_s D (by omega), ih, hD']
        by_cases hN : (N : Int) = a
        · rw [if_pos hN, if_neg (by omega), if_pos (by omega), hN, h0]
        · rw [if_neg hN]
          by_cases hl : a < (N : Int)
          · rw [if_pos (by omega), if_pos (by omega)]; omega
          · rw [if_neg (by omega), if_neg (by omega)]; omega
    have := key (r 4).toNat
    rw [show (((r 4).toNat : Nat) : Int) = r 4 by omega, if_pos (by omega)] at this
    omega
/-- a way is gone by -/
theorem DJ_.go (hW : RW_ r) (hd : 0 ≤ dy) (hf : 0 ≤ fr ∧ fr < r 4) {X D X' : Int → Int} {n a kk : Int} (h : DJ_ r s kd fr dy X D n a kk) (ha : 0 ≤ a ∧ a < r 4) (hDa : D a = 1) (hle : ∀ i, 0 ≤ i → i < 7 → D i = 1 → X i ≤ X a) (hk : 0 ≤ kk ∧ kk < r 5) (hal : kd ≠ 0 ∨ a = fr) (hop : ¬ hb_ (s 1) kk) (hX' : ∀ j, 0 ≤ j → j < 7 → X' j = gb_ r kd kk a X j) :
    DJ_ r s kd fr dy X' D n a (kk + 1) ∧ (∀ i, 0 ≤ i → i < 7 → D i = 1 → X' i ≤ X' a) ∧ X' a = X a := by
  have hn := hW.n
  have hw := hW.way hk.1 hk.2
  obtain ⟨h1, h2, h3, h4, h5, h6, h7⟩ := h
  have hXa := h2 a (by omega) (by omega)
  have hxa : X a < 1000000 := by rcases h3 a (by omega) (by omega) with q | q <;> omega
  have hdb := db_in hW kd hk.1 hk.2 (d := X a) (by omega)
  have same : ∀ i, 0 ≤ i → i < 7 → D i = 1 → X' i = X i := by
    intro i g0 g1 g2
    rw [hX' i g0 g1]
    unfold gb_
    have := hle i g0 g1 g2
    rw [if_neg (fun q => by omega)]
  have low : ∀ j, 0 ≤ j → j < 7 → X' j ≤ X j := by
    intro j g0 g1
    rw [hX' j g0 g1]
    unfold gb_
    split <;> omega
  have ea := same a (by omega) (by omega) hDa
  have ch : ∀ j, 0 ≤ j → j < 7 → X' j = X j ∨ (jn_ r kk a j ∧ X' j = db_ r kd kk (X a)) := by
    intro j g0 g1
    rw [hX' j g0 g1]
    unfold gb_
    split
    · rename_i q; exact Or.inr ⟨q.1, rfl⟩
    · exact Or.inl rfl
  refine ⟨⟨?_, fun i g0 g1 => ?_, fun i g0 g1 => ?_, fun i g0 g1 g2 g3 => ?_, fun i k j g0 g1 g2 g3 g4 g5 => ?_, fun i j g0 g1 g2 g3 g4 g5 => ?_, h7⟩, fun i g0 g1 g2 => ?_, ea⟩
  · have q := h2 fr hf.1 (by omega)
    have l := low fr hf.1 (by omega)
    rcases ch fr hf.1 (by omega) with c | c
    · rw [c]; exact h1
    · omega
  · have q := h2 i g0 g1
    rcases ch i g0 g1 with c | c
    · rw [c]; exact q
    · have := low i g0 g1; omega
  · have := low i g0 g1
    rcases h3 i g0 g1 with q | q
    · exact Or.inl q
    · exact Or.inr ⟨q.1, q.2.1, by omega⟩
  · rcases ch i g0 g1 with c | c
    · rw [c] at g3
      obtain ⟨k, j, e1, e2, e3, e4, e5⟩ := h4 i g0 g1 g2 g3
      have hj := (eg_in hW e1).1
      have := same j hj.1 (by omega) e2
      exact ⟨k, j, e1, e2, e3, by rw [this, c]; exact e4, by rw [this, c]; exact e5⟩
    · exact ⟨kk, a, ⟨hk, hop, c.1⟩, hDa, hal, by rw [ea, c.2]; omega, by rw [ea]; exact c.2⟩
  · have e0 := same i g0 g1 g2
    have hj := (eg_in hW g4).2
    rw [e0]
    by_cases hi : i = a ∧ k = kk
    · obtain ⟨rfl, rfl⟩ := hi
      rw [hX' j hj.1 (by omega)]
      unfold gb_
      by_cases hq : db_ r kd k (X i) < X j
      · rw [if_pos ⟨g4.2.2, hq⟩]; omega
      · rw [if_neg (fun z => hq z.2)]; omega
    · have := h5 i k j g0 g1 g2 g3 g4 (fun z => by have := g5 z; omega)
      have := low j hj.1 (by omega)
      omega
  · have e0 := same i g0 g1 g4
    rw [e0]
    rcases ch j g2 g3 with c | c
    · rw [c]; exact h6 i j g0 g1 g2 g3 g4 g5
    · have := hle i g0 g1 g4
      rw [c.2]; omega
  · rw [same i g0 g1 g2, ea]; exact hle i g0 g1 g2
/-- a way that is closed -/
theorem DJ_.closed {X D : Int → Int} {n a kk : Int} (h : DJ_ r s kd fr dy X D n a kk) (hc : hb_ (s 1) kk) : DJ_ r s kd fr dy X D n a (kk + 1) := by
  obtain ⟨h1, h2, h3, h4, h5, h6, h7⟩ := h
  refine ⟨h1, h2, h3, h4, fun i k j g0 g1 g2 g3 g4 g5 => ?_, h6, h7⟩
  by_cases hk : k = kk
  · exact absurd hc (hk ▸ g4.2.1)
  · exact h5 i k j g0 g1 g2 g3 g4 (fun z => by have := g5 z; omega)
/-- a calf that isn't where it began goes no way -/
theorem DJ_.calf {X D : Int → Int} {n a kk : Int} (h : DJ_ r s kd fr dy X D n a kk) (hc : kd = 0 ∧ a ≠ fr) : DJ_ r s kd fr dy X D n (-1) 0 := by
  obtain ⟨h1, h2, h3, h4, h5, h6, h7⟩ := h
  exact ⟨h1, h2, h3, h4, fun i k j g0 g1 g2 g3 g4 g5 => h5 i k j g0 g1 g2 g3 g4 (fun z => by omega), h6, h7⟩
theorem DJ_.all {X D : Int → Int} {n a kk : Int} (h : DJ_ r s kd fr dy X D n a kk) (hk : r 5 ≤ kk) : DJ_ r s kd fr dy X D n (-1) 0 := by
  obtain ⟨h1, h2, h3, h4, h5, h6, h7⟩ := h
  exact ⟨h1, h2, h3, h4, fun i k j g0 g1 g2 g3 g4 g5 => h5 i k j g0 g1 g2 g3 g4 (fun z => by have := g4.1; omega), h6, h7⟩
/-- all that can be reached is done: these are the first days -/
theorem DJ_.done (hW : RW_ r) (hd : 0 ≤ dy ∧ dy ≤ 200000) (hf : 0 ≤ fr ∧ fr < r 4) {X D : Int → Int} {n kk : Int} (h : DJ_ r s kd fr dy X D n (-1) kk) (hall : (∀ i, 0 ≤ i → i < 7 → X i < 1000000 → D i = 1) ∨ r 4 ≤ n) : ∀ i, 0 ≤ i → i < r 4 → X i = er_ r s kd fr dy i := by
  have hn := hW.n
  obtain ⟨h1, h2, h3, h4, h5, h6, h7⟩ := h
  have hdone : ∀ i, 0 ≤ i → i < r 4 → X i < 1000000 → D i = 1 := by
    rcases hall with q | q
    · exact fun i g0 g1 => q i g0 (by omega)
    · intro i g0 g1 _
      rcases h3 i g0 (by omega) with z | z
      · have := (sI_lt (f := D) (g := fun _ => 1) (i0 := i) (r 4).toNat (fun j a b => by rcases h3 j a (by omega) with z | z <;> omega)).2 g0 (by omega) (by omega)
        have e := sI_bd (f := fun _ => (1 : Int)) (n := (((r 4).toNat : Nat) : Int)) (lo := 1) (hi := 1) (fun _ _ _ => by omega) (by omega)
        rw [show (((r 4).toNat : Nat) : Int) = r 4 by omega] at this e
        omega
      · exact z.1
  have hfr := hdone fr hf.1 hf.2 (by omega)
  intro i g0 g1
  unfold er_
  by_cases hk : kd = 0
  · rw [if_pos hk]
    obtain ⟨a1, a2, a3⟩ := es_all (s := s) hW (kd := kd) (X := ea_ r s kd fr dy 0) (i := i) (a := ea_ r s kd fr dy 0 i)
    show X i = iI_ (es_ r s kd (ea_ r s kd fr dy 0) i) (ea_ r s kd fr dy 0 i) (r 5)
    have e0 : ∀ j, ea_ r s kd fr dy 0 j = if j = fr then dy else 1000000 := fun j => rfl
    have hXi := h2 i g0 (by omega)
    have up : iI_ (es_ r s kd (ea_ r s kd fr dy 0) i) (ea_ r s kd fr dy 0 i) (r 5) ≤ X i := by
      by_cases hi : i = fr
      · rw [e0, if_pos hi] at a1
        rw [e0, if_pos hi, hi, h1]
        rw [hi] at a1
        exact a1
      · by_cases hx : X i < 1000000
        · obtain ⟨k, j, e1, e2, e3, e4, e5⟩ := h4 i g0 (by omega) hi hx
          have ej : j = fr := by omega
          subst ej
          have := a2 k j e1 (by rw [e0, if_pos rfl]; omega)
          rw [e0 j, if_pos rfl] at this
          rw [e5, h1]; exact this
        · rw [e0, if_neg hi] at a1
          rw [e0, if_neg hi]; omega
    have dn : X i ≤ iI_ (es_ r s kd (ea_ r s kd fr dy 0) i) (ea_ r s kd fr dy 0 i) (r 5) := by
      rcases a3 with q | ⟨k, j, e1, e2, e3⟩
      · rw [q, e0]
        split
        · rename_i hi; rw [hi, h1]; omega
        · omega
      · rw [e3]
        rw [e0] at e2 ⊢
        by_cases hj : j = fr
        · rw [if_pos hj]
          rw [hj] at e1
          have := h5 fr k i hf.1 (by omega) hfr (Or.inr rfl) e1 (fun z => by omega)
          rw [h1] at this
          exact this
        · rw [if_neg hj] at e2; omega
    omega
  · rw [if_neg hk]
    refine FX_.eq hW ⟨h1, fun i g0 g1 => h2 i g0 (by omega), fun k i j e1 e2 => ?_, fun i g0 g1 g2 g3 => ?_⟩ hd hf i g0 g1
    · have hi := (eg_in hW e1).1
      exact h5 i k j hi.1 (by omega) (hdone i hi.1 hi.2 e2) (Or.inl hk) e1 (fun z => by omega)
    · obtain ⟨k, j, e1, e2, e3, e4, e5⟩ := h4 i g0 (by omega) g2 g3
      exact ⟨k, j, e1, e4, e5⟩
end
