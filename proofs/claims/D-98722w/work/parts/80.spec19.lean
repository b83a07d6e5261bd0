/-! PURE: who hears a song; how many are as near; digits -/
set_option maxRecDepth 100000
section
variable {r row : Int → Int} {L y : Int}
theorem hd_self {i : Int} (hr : 0 ≤ r 4) (h1 : 0 ≤ r 1 ∧ r 1 ≤ 3) (hi : 0 ≤ i ∧ i < r 4) (hL : 0 ≤ L ∧ L ≤ 6) :
    hd_ r row L y = i ↔ (r (10 + 7 * i) = L ∧ ul_ r row i y L ≤ r 1 ∧ ∀ j, 0 ≤ j → j < r 4 → j ≠ i → r (10 + 7 * j) = L → ul_ r row i y L < ul_ r row j y L) := by
  have hu : ∀ j, 0 ≤ ul_ r row j y L ∧ ul_ r row j y L ≤ L := fun j => ul_in r row j y hL.1
  have inv := iI_inv (f := hs_ r row L y) (a := ((-2 : Int), (7 : Int))) (n := r 4) (P := fun k q =>
    (∀ j, 0 ≤ j → j < k → r (10 + 7 * j) = L → q.2 ≤ ul_ r row j y L) ∧
    (q.1 = -2 ∨ (0 ≤ q.1 ∧ q.1 < k ∧ r (10 + 7 * q.1) = L ∧ ul_ r row q.1 y L = q.2 ∧ ∀ j, 0 ≤ j → j < k → j ≠ q.1 → r (10 + 7 * j) = L → q.2 < ul_ r row j y L)) ∧
    (q.1 = -2 → ∀ j, 0 ≤ j → j < k → r (10 + 7 * j) = L → ul_ r row j y L = q.2 → ∃ j', 0 ≤ j' ∧ j' < k ∧ j' ≠ j ∧ r (10 + 7 * j') = L ∧ ul_ r row j' y L = q.2) ∧
    (q.2 = 7 ∨ ∃ j, 0 ≤ j ∧ j < k ∧ r (10 + 7 * j) = L ∧ ul_ r row j y L = q.2)) ⟨fun j j0 j1 => by omega, Or.inl rfl, fun _ j j0 j1 => by omega, Or.inl rfl⟩ (fun k q k0 k1 hq => by
      obtain ⟨qa, qb, qc, qe⟩ := hq
      unfold hs_
      by_cases c1 : r (10 + 7 * k) = L
      · rw [if_pos c1]
        by_cases c2 : q.2 < ul_ r row k y L
        · rw [if_pos c2]
          refine ⟨fun j j0 j1 hj => ?_, ?_, fun q1 j j0 j1 hj e => ?_, ?_⟩
          · by_cases h : j = k
            · rw [h]; omega
            · exact qa j j0 (by omega) hj
          · rcases qb with w | ⟨w0, w1, w2, w3, w4⟩
            · exact Or.inl w
            · refine Or.inr ⟨w0, by omega, w2, w3, fun j j0 j1 hne hj => ?_⟩
              by_cases h : j = k
              · rw [h]; exact c2
              · exact w4 j j0 (by omega) hne hj
          · by_cases h : j = k
            · rw [h] at e; omega
            · obtain ⟨j', w0, w1, w2⟩ := qc q1 j j0 (by omega) hj e
              exact ⟨j', w0, by omega, w2⟩
          · rcases qe with w | ⟨j, w0, w1, w2⟩
            · exact Or.inl w
            · exact Or.inr ⟨j, w0, by omega, w2⟩
        · rw [if_neg c2]
          by_cases c3 : ul_ r row k y L < q.2
          · rw [if_pos c3]
            refine ⟨fun j j0 j1 hj => ?_, Or.inr ⟨k0, by dsimp only; omega, c1, rfl, fun j j0 j1 hne hj => ?_⟩, fun q1 => ?_, Or.inr ⟨k, k0, by omega, c1, rfl⟩⟩
            · by_cases h : j = k
              · rw [h]; exact Int.le_refl _
              · have := qa j j0 (by omega) hj
                dsimp only; omega
            · dsimp only at hne ⊢
              have := qa j j0 (by omega) hj
              omega
            · dsimp only at q1; omega
          · rw [if_neg c3]
            have e : ul_ r row k y L = q.2 := by omega
            have he : ∃ j, 0 ≤ j ∧ j < k ∧ r (10 + 7 * j) = L ∧ ul_ r row j y L = q.2 := by
              rcases qe with w | w
              · have := hu k; omega
              · exact w
            refine ⟨fun j j0 j1 hj => ?_, Or.inl rfl, fun _ j j0 j1 hj ej => ?_, Or.inr ⟨k, k0, by omega, c1, rfl⟩⟩
            · by_cases h : j = k
              · rw [h]; exact Int.le_refl _
              · have := qa j j0 (by omega) hj
                dsimp only; omega
            · dsimp only at ej ⊢
              by_cases h : j = k
              · obtain ⟨j', w0, w1, w2, w3⟩ := he
                exact ⟨j', w0, by omega, by omega, w2, by omega⟩
              · exact ⟨k, k0, by omega, by omega, c1, rfl⟩
      · rw [if_neg c1]
        refine ⟨fun j j0 j1 hj => ?_, ?_, fun q1 j j0 j1 hj e => ?_, ?_⟩
        · by_cases h : j = k
          · rw [h] at hj; exact absurd hj c1
          · exact qa j j0 (by omega) hj
        · rcases qb with w | ⟨w0, w1, w2, w3, w4⟩
          · exact Or.inl w
          · refine Or.inr ⟨w0, by omega, w2, w3, fun j j0 j1 hne hj => ?_⟩
            by_cases h : j = k
            · rw [h] at hj; exact absurd hj c1
            · exact w4 j j0 (by omega) hne hj
        · by_cases h : j = k
          · rw [h] at hj; exact absurd hj c1
          · obtain ⟨j', w0, w1, w2⟩ := qc q1 j j0 (by omega) hj e
            exact ⟨j', w0, by omega, w2⟩
        · rcases qe with w | ⟨j, w0, w1, w2⟩
          · exact Or.inl w
          · exact Or.inr ⟨j, w0, by omega, w2⟩) hr
  unfold hd_
  generalize iI_ (hs_ r row L y) (-2, 7) (r 4) = q at inv
  obtain ⟨qa, qb, qc, qe⟩ := inv
  have hui := hu i
  constructor
  · intro h
    split at h
    · rcases qb with w | ⟨w0, w1, w2, w3, w4⟩
      · omega
      · rw [h] at w2 w3 w4
        exact ⟨w2, by omega, fun j j0 j1 hne hj => by have := w4 j j0 j1 hne hj; omega⟩
    · omega
  · rintro ⟨g1, g2, g3⟩
    have a1 := qa i hi.1 hi.2 g1
    obtain ⟨j0, w0, w1, w2, w3⟩ : ∃ j, 0 ≤ j ∧ j < r 4 ∧ r (10 + 7 * j) = L ∧ ul_ r row j y L = q.2 := by
      rcases qe with w | w
      · omega
      · exact w
    have ei : j0 = i := Classical.byContradiction fun h => by have := g3 j0 w0 w1 h w2; omega
    rw [ei] at w3
    rcases qb with w | ⟨b0, b1, b2, b3, b4⟩
    · obtain ⟨j', c0, c1, c2, c3, c4⟩ := qc w i hi.1 hi.2 g1 w3
      have := g3 j' c0 c1 c2 c3
      omega
    · have e2 : q.1 = i := Classical.byContradiction fun h => by have := b4 i hi.1 hi.2 (fun u => h u.symm) g1; omega
      rw [if_pos (by omega)]
      exact e2
theorem sI_z {f : Int → Int} {n : Int} (hn : 0 ≤ n) (h : ∀ k, 0 ≤ k → k < n → f k = 0) : sI_ f n = 0 := by
  have := sI_bd (f := f) (n := n) (lo := 0) (hi := 0) (fun k k0 k1 => by rw [h k k0 k1]; omega) hn
  omega
/-- the nearest songs: how many -/
theorem ns_cnt {n : Int} (hn : 0 ≤ n) : (iI_ (ns_ r row L y) (7, 0) n).2 = sI_ (fun i => if r (10 + 7 * i) = L ∧ ul_ r row i y L = (iI_ (ns_ r row L y) (7, 0) n).1 then 1 else 0) n ∧ (∀ i, 0 ≤ i → i < n → r (10 + 7 * i) = L → (iI_ (ns_ r row L y) (7, 0) n).1 ≤ ul_ r row i y L) ∧ (iI_ (ns_ r row L y) (7, 0) n).1 ≤ 7 := by
  refine iI_inv (f := ns_ r row L y) (a := ((7 : Int), (0 : Int))) (n := n) (P := fun k q => q.2 = sI_ (fun i => if r (10 + 7 * i) = L ∧ ul_ r row i y L = q.1 then 1 else 0) k ∧ (∀ i, 0 ≤ i → i < k → r (10 + 7 * i) = L → q.1 ≤ ul_ r row i y L) ∧ q.1 ≤ 7) ⟨rfl, fun i i0 i1 => by omega, by decide⟩ (fun k q k0 k1 hq => ?_) hn
  obtain ⟨qa, qb, qc⟩ := hq
  unfold ns_
  by_cases c1 : r (10 + 7 * k) = L
  · rw [if_pos c1]
    by_cases c2 : ul_ r row k y L < q.1
    · rw [if_pos c2, if_pos c2]
      refine ⟨?_, fun i i0 i1 hi => ?_, by dsimp only; omega⟩
      · dsimp only
        rw [sI_s _ k0, if_pos ⟨c1, rfl⟩, sI_z k0 (fun i i0 i1 => if_neg (fun w => by have := qb i i0 i1 w.1; omega))]
        rfl
      · by_cases h : i = k
        · rw [h]; exact Int.le_refl _
        · have := qb i i0 (by omega) hi
          dsimp only; omega
    · rw [if_neg c2, if_neg c2]
      refine ⟨?_, fun i i0 i1 hi => ?_, qc⟩
      · dsimp only
        rw [sI_s _ k0]
        by_cases c3 : ul_ r row k y L = q.1
        · rw [if_pos c3, if_pos ⟨c1, c3⟩, qa]
        · rw [if_neg c3, if_neg (fun w => c3 w.2), qa]
          omega
      · by_cases h : i = k
        · rw [h]; dsimp only; omega
        · exact qb i i0 (by omega) hi
  · rw [if_neg c1]
    refine ⟨?_, fun i i0 i1 hi => ?_, qc⟩
    · rw [sI_s _ k0, if_neg (fun w => c1 w.1), qa]
      omega
    · by_cases h : i = k
      · rw [h] at hi; exact absurd hi c1
      · exact qb i i0 (by omega) hi
/-- in how many notes a box's song is unlike a song now; 7 of another length -/
def uN_ (r s : Int → Int) (b i : Int) : Int := if r (10 + 7 * i) = bl_ r b then ul_ r (rb_ s b (-1) 0) i (s 0) (bl_ r b) else 7
theorem nr_cnt {s : Int → Int} {b : Int} (hW : RW_ r) (hb : 0 ≤ b ∧ b < r 7) : (nr_ r s b).1 ≤ 6 ∧ (nr_ r s b).2 = sI_ (fun i => if uN_ r s b i = (nr_ r s b).1 then 1 else 0) (r 4) := by
  have hn := hW.n
  have hl := bl_in hW hb.1 hb.2
  have hx := hW.box hb.1 hb.2
  obtain ⟨q1, q2, q3⟩ := ns_cnt (r := r) (row := rb_ s b (-1) 0) (L := bl_ r b) (y := s 0) (n := r 4) (by omega)
  have h6 := q2 (r (128 + 4 * b)) hx.2.1.1 hx.2.1.2 rfl
  have hu := ul_in r (rb_ s b (-1) 0) (r (128 + 4 * b)) (s 0) (L := bl_ r b) (by omega)
  have e6 : (nr_ r s b).1 ≤ 6 := by unfold nr_; omega
  refine ⟨e6, ?_⟩
  unfold nr_ at e6 ⊢
  rw [q1]
  refine sI_congr fun i i0 i1 => ?_
  unfold uN_
  by_cases c : r (10 + 7 * i) = bl_ r b
  · rw [if_pos c]
    by_cases c2 : ul_ r (rb_ s b (-1) 0) i (s 0) (bl_ r b) = (iI_ (ns_ r (rb_ s b (-1) 0) (bl_ r b) (s 0)) (7, 0) (r 4)).1
    · rw [if_pos ⟨c, c2⟩, if_pos c2]
    · rw [if_neg (fun w => c2 w.2), if_neg c2]
  · rw [if_neg (fun w => c w.1), if_neg c, if_neg (by omega)]
/-- a number's digits, the first counting most -/
def rw_ (n : Int) : Nat → Int → Int → Int
  | 0, _, _ => 0
  | L + 1, v, k => if k = L then v % n else rw_ n L (v / n) k
theorem rw_in {n : Int} (hn : 0 < n) : ∀ (L : Nat) (v k : Int), 0 ≤ rw_ n L v k ∧ rw_ n L v k < n := by
  intro L
  induction L with
  | zero => intro v k; simp only [rw_]; omega
  | succ L ih =>
    intro v k
    simp only [rw_]
    split
    · exact ⟨Int.emod_nonneg _ (by omega), Int.emod_lt_of_pos _ hn⟩
    · exact ih _ _
theorem ul_rw {i : Int} (hW : RW_ r) : ∀ (L : Nat) (v : Int), ul_ r (rw_ (r 0) L v) i y L = da_ (r 0) L v (cd_ r i y L) := by
  have hn := hW.n
  intro L
  induction L with
  | zero => intro v; rfl
  | succ L ih =>
    intro v
    have hnt := nt_in hW i L y
    have e1 : cd_ r i y ((L + 1 : Nat) : Int) = cd_ r i y L * r 0 + nt_ r i L y := by
      unfold cd_
      rw [show ((L + 1 : Nat) : Int) = (L : Int) + 1 by omega, iI_s _ _ (by omega)]
    have e2 : (cd_ r i y L * r 0 + nt_ r i L y) % r 0 = nt_ r i L y := by
      rw [Int.add_comm, Int.add_mul_emod_self_right]
      exact Int.emod_eq_of_lt hnt.1 hnt.2
    have e3 : (cd_ r i y L * r 0 + nt_ r i L y) / r 0 = cd_ r i y L := by
      rw [Int.add_comm, Int.add_mul_ediv_right _ _ (by omega), Int.ediv_eq_zero_of_lt hnt.1 hnt.2]
      omega
    have e4 : ul_ r (rw_ (r 0) (L + 1) v) i y ((L + 1 : Nat) : Int) = ul_ r (rw_ (r 0) L (v / r 0)) i y L + (if nt_ r i L y = v % r 0 then 0 else 1) := by
      unfold ul_
      rw [show ((L + 1 : Nat) : Int) = (L : Int) + 1 by omega, sI_s _ (by omega)]
      congr 1
      · refine sI_congr fun k k0 k1 => ?_
        rw [show rw_ (r 0) (L + 1) v k = rw_ (r 0) L (v / r 0) k from if_neg (by omega)]
      · rw [show rw_ (r 0) (L + 1) v (L : Int) = v % r 0 from if_pos rfl]
    rw [e4, ih, e1]
    simp only [da_]
    rw [e2, e3]
    by_cases c : nt_ r i L y = v % r 0
    · rw [if_pos c, if_pos c.symm]; omega
    · rw [if_neg c, if_neg (fun w => c w.symm)]; omega
theorem pw_div {n x : Int} {L : Nat} (hn : 0 < n) (h0 : 0 ≤ x) (h : x < pw_ n ((L + 1 : Nat) : Int)) : 0 ≤ x / n ∧ x / n < pw_ n L := by
  rw [show ((L + 1 : Nat) : Int) = (L : Int) + 1 by omega, pw_s _ (by omega)] at h
  exact ⟨Int.ediv_nonneg h0 (by omega), Int.ediv_lt_of_lt_mul hn h⟩
end
