/-! PURE: days as the component keeps them -/
set_option maxRecDepth 100000
def nv_ (x : Int) : Int := if x = 1000000 then 9999999 else x
theorem nv_1 {x : Int} (h : x ≠ 1000000) : nv_ x = x := if_neg h
theorem nv_0 : nv_ 1000000 = 9999999 := if_pos rfl
/-- days are bounded, or never -/
def OK_ (x : Int) : Prop := (0 ≤ x ∧ x ≤ 250000) ∨ x = 1000000
/-- one way's relaxing, from a to b -/
def stp_ (r : Int → Int) (kd : Int) (X T : Int → Int) (a b k : Int) : Int → Int := fun i => if i = b ∧ X a < 1000000 ∧ db_ r kd k (X a) < T i then db_ r kd k (X a) else T i
section
variable {r s : Int → Int} {kd : Int} {X T : Int → Int}
theorem es_stp (hW : RW_ r) {k : Int} (h0 : 0 ≤ k) (h1 : k < r 5) (hc : ¬ hb_ (s 1) k) (i : Int) : es_ r s kd X i k (T i) = stp_ r kd X (stp_ r kd X T (r (59 + 4 * k)) (r (60 + 4 * k)) k) (r (60 + 4 * k)) (r (59 + 4 * k)) k i := by
  have hw := hW.way h0 h1
  unfold es_ stp_
  rw [if_neg hc]
  by_cases c1 : r (60 + 4 * k) = i
  · rw [if_neg (fun w : i = r (59 + 4 * k) ∧ _ => by omega)]
    by_cases c2 : X (r (59 + 4 * k)) < 1000000 ∧ db_ r kd k (X (r (59 + 4 * k))) < T i
    · rw [if_pos ⟨c1, c2⟩, if_pos ⟨c1.symm, c2⟩]
    · rw [if_neg (fun w => c2 w.2), if_neg (fun w => by omega), if_neg (fun w => c2 w.2)]
  · rw [if_neg (fun w => c1 w.1)]
    have e : (if i = r (60 + 4 * k) ∧ X (r (59 + 4 * k)) < 1000000 ∧ db_ r kd k (X (r (59 + 4 * k))) < T i then db_ r kd k (X (r (59 + 4 * k))) else T i) = T i := if_neg (fun w => c1 w.1.symm)
    by_cases c3 : r (59 + 4 * k) = i
    · by_cases c2 : X (r (60 + 4 * k)) < 1000000 ∧ db_ r kd k (X (r (60 + 4 * k))) < T i
      · rw [if_pos ⟨c3, c2⟩, if_pos ⟨c3.symm, c2.1, by rw [e]; exact c2.2⟩]
      · rw [if_neg (fun w => c2 w.2), if_neg (fun w => c2 ⟨w.2.1, by have := w.2.2; rw [e] at this; exact this⟩), e]
    · rw [if_neg (fun w => c3 w.1), if_neg (fun w => c3 w.1.symm), e]
theorem stp_OK (hW : RW_ r) {k a b : Int} (h0 : 0 ≤ k) (h1 : k < r 5) (hX : OK_ (X a)) (hx : X a ≤ 240000 ∨ X a = 1000000) (hT : ∀ i, OK_ (T i)) (i : Int) : OK_ (stp_ r kd X T a b k i) := by
  have hd := fun h => db_in hW kd (k := k) (d := X a) h0 h1 h
  unfold stp_
  split
  · unfold OK_ at *
    have := hd (by omega)
    left; omega
  · exact hT i
/-- what a round makes of days that agree where ways are -/
theorem es_cg (hW : RW_ r) {Y : Int → Int} (h : ∀ i, 0 ≤ i → i < 7 → X i = Y i) (i : Int) : ∀ k t, 0 ≤ k → k < r 5 → es_ r s kd X i k t = es_ r s kd Y i k t := fun k t k0 k1 => by
  have hw := hW.way k0 k1
  have hn := hW.n
  unfold es_
  rw [h _ hw.1.1 (by omega), h _ hw.2.1.1 (by omega)]
theorem ea_st (hW : RW_ r) {fr dy : Int} {n : Nat} (h : ∀ i, 0 ≤ i → i < 7 → ea_ r s kd fr dy (n + 1) i = ea_ r s kd fr dy n i) : ∀ (m : Nat) (i : Int), 0 ≤ i → i < 7 → ea_ r s kd fr dy (n + m) i = ea_ r s kd fr dy n i := by
  have st : ∀ m : Nat, (∀ i, 0 ≤ i → i < 7 → ea_ r s kd fr dy (n + m + 1) i = ea_ r s kd fr dy (n + m) i) := by
    intro m
    induction m with
    | zero => exact h
    | succ m ih =>
      intro i i0 i1
      have e1 : ea_ r s kd fr dy (n + (m + 1) + 1) i = iI_ (es_ r s kd (ea_ r s kd fr dy (n + m + 1)) i) (ea_ r s kd fr dy (n + m + 1) i) (r 5) := rfl
      have e2 : ea_ r s kd fr dy (n + (m + 1)) i = iI_ (es_ r s kd (ea_ r s kd fr dy (n + m)) i) (ea_ r s kd fr dy (n + m) i) (r 5) := rfl
      rw [e1, e2, ih i i0 i1]
      exact iI_congr (fun k x k0 k1 => es_cg hW ih i k x k0 k1)
  intro m
  induction m with
  | zero => intro i _ _; rfl
  | succ m ih => intro i i0 i1; exact (st m i i0 i1).trans (ih i i0 i1)
theorem ea_OK (hW : RW_ r) {fr dy : Int} (hd : 0 ≤ dy ∧ dy ≤ 200000) {n : Nat} (hn : n ≤ 8) (i : Int) : (0 ≤ ea_ r s kd fr dy n i ∧ ea_ r s kd fr dy n i ≤ 210000) ∨ ea_ r s kd fr dy n i = 1000000 := by
  have := ea_in (s := s) hW kd fr hd n i
  omega
/-- in the middle of a round -/
theorem em_OK (hW : RW_ r) {fr dy : Int} (hd : 0 ≤ dy ∧ dy ≤ 200000) {n : Nat} (hn : n ≤ 7) (i : Int) {k : Int} (h0 : 0 ≤ k) (h1 : k ≤ r 5) : OK_ (iI_ (es_ r s kd (ea_ r s kd fr dy n) i) (ea_ r s kd fr dy n i) k) := by
  refine iI_inv (f := es_ r s kd (ea_ r s kd fr dy n) i) (a := ea_ r s kd fr dy n i) (n := k) (P := fun _ x => OK_ x) ?_ (fun j x j0 j1 hx => ?_) h0
  · have := ea_OK (s := s) (kd := kd) hW (fr := fr) hd (n := n) (by omega) i
    unfold OK_; omega
  · have hw := hW.way (k := j) j0 (by omega)
    have a1 := ea_OK (s := s) (kd := kd) hW (fr := fr) hd (n := n) (by omega) (r (59 + 4 * j))
    have a2 := ea_OK (s := s) (kd := kd) hW (fr := fr) hd (n := n) (by omega) (r (60 + 4 * j))
    unfold es_
    split
    · exact hx
    · split
      · rename_i q
        have := db_in hW kd (k := j) (d := ea_ r s kd fr dy n (r (59 + 4 * j))) j0 (by omega) (by omega)
        unfold OK_; omega
      · split
        · rename_i q
          have := db_in hW kd (k := j) (d := ea_ r s kd fr dy n (r (60 + 4 * j))) j0 (by omega) (by omega)
          unfold OK_; omega
        · exact hx
end
