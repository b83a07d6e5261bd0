/-! WHAT BOTH SIDES ANSWER, part 9: rounds; decades -/
set_option maxRecDepth 100000
section
variable {r s : Int → Int}
/-- the days between two islands by one way -/
def d0_ (r s : Int → Int) (i j : Int) : Int := if i = j then 0 else if i < r 4 ∧ j < r 4 then (if wo_ r s i j < 0 then 1000000 else r (61 + 4 * wo_ r s i j)) else 1000000
theorem d0_in (hW : RW_ r) (i j : Int) : 0 ≤ d0_ r s i j ∧ d0_ r s i j ≤ 1000000 := by
  have hn := hW.n
  have hw := wo_in (r := r) (s := s) (a := i) (b := j) (by omega)
  unfold d0_
  split
  · omega
  · split
    · split
      · omega
      · have := hW.way (k := wo_ r s i j) (by omega) (by omega)
        omega
    · omega
/-- by way of the first K islands -/
def fw_ (r s : Int → Int) : Nat → Int → Int → Int
  | 0, i, j => d0_ r s i j
  | K + 1, i, j => if fw_ r s K i K + fw_ r s K K j < fw_ r s K i j then fw_ r s K i K + fw_ r s K K j else fw_ r s K i j
theorem fw_in (hW : RW_ r) : ∀ (K : Nat) (i j : Int), 0 ≤ fw_ r s K i j ∧ fw_ r s K i j ≤ 1000000 := by
  intro K
  induction K with
  | zero => exact d0_in hW
  | succ K ih =>
    intro i j
    have a := ih i j
    have b := ih i K
    have c := ih K j
    simp only [fw_]
    split <;> omega
theorem fw_0 (hW : RW_ r) : ∀ (K : Nat) (i : Int), fw_ r s K i i = 0 := by
  intro K
  induction K with
  | zero => intro i; simp [fw_, d0_]
  | succ K ih =>
    intro i
    have b := fw_in (s := s) hW K i K
    have c := fw_in (s := s) hW K K i
    simp only [fw_]
    rw [ih i, if_neg (by omega)]
theorem fw_a (hW : RW_ r) (K : Nat) (i : Int) : fw_ r s (K + 1) i K = fw_ r s K i K := by
  have := fw_0 (s := s) hW K K
  simp only [fw_]
  rw [this, if_neg (by omega)]
theorem fw_b (hW : RW_ r) (K : Nat) (j : Int) : fw_ r s (K + 1) K j = fw_ r s K K j := by
  have := fw_0 (s := s) hW K K
  simp only [fw_]
  rw [this, if_neg (by omega)]
/-- the rest of a round, j islands being left, from the island a on: its days (1000000: none), the next island -/
def rf_ (D : Int → Int) (F : Int → Int × Int) (u : Int) : Int → Int × Int → Int × Int := fun i q =>
  if hb_ u i then q else if D i + (F i).1 < q.1 then (D i + (F i).1, i) else q
def rd_ (r s : Int → Int) : Nat → Int → Int → Int × Int
  | 0, _, _ => (0, -1)
  | j + 1, u, a => iI_ (rf_ (fw_ r s 7 a) (fun i => rd_ r s j (ior_ u (ishl_ 1 i)) i) u) (1000000, -1) (r 4)
def oc_ (r s : Int → Int) : Nat → Int → Int → Int → Int
  | 0, _, _, _ => -1
  | j + 1, u, a, c => if c = r 4 - (j + 1) then (rd_ r s (j + 1) u a).2 else oc_ r s j (ior_ u (ishl_ 1 (rd_ r s (j + 1) u a).2)) (rd_ r s (j + 1) u a).2 c
theorem rf_in {D : Int → Int} {F : Int → Int × Int} (hD : ∀ i, 0 ≤ D i) (hF : ∀ i, 0 ≤ (F i).1) (u : Int) {n : Int} (hn : 0 ≤ n) : 0 ≤ (iI_ (rf_ D F u) (1000000, -1) n).1 ∧ (iI_ (rf_ D F u) (1000000, -1) n).1 ≤ 1000000 ∧ ((iI_ (rf_ D F u) (1000000, -1) n).1 < 1000000 → 0 ≤ (iI_ (rf_ D F u) (1000000, -1) n).2 ∧ (iI_ (rf_ D F u) (1000000, -1) n).2 < n) := by
  refine iI_inv (n := n) (fun k (q : Int × Int) => 0 ≤ q.1 ∧ q.1 ≤ 1000000 ∧ (q.1 < 1000000 → 0 ≤ q.2 ∧ q.2 < k)) (by dsimp only; omega) (fun k q h0 h1 h => ?_) hn
  have a := hD k
  have b := hF k
  unfold rf_
  split
  · omega
  · split
    · dsimp only; omega
    · omega
theorem rd_in (hW : RW_ r) : ∀ (j : Nat) (u a : Int), 0 ≤ (rd_ r s j u a).1 ∧ (rd_ r s j u a).1 ≤ 1000000 := by
  intro j
  induction j with
  | zero => intro u a; simp [rd_]
  | succ j ih =>
    intro u a
    have hn := hW.n
    have := rf_in (D := fw_ r s 7 a) (F := fun i => rd_ r s j (ior_ u (ishl_ 1 i)) i) (fun i => (fw_in hW 7 a i).1) (fun i => (ih _ _).1) u (n := r 4) (by omega)
    simp only [rd_]
    exact ⟨this.1, this.2.1⟩
/-- what trying to go on does to the best -/
def ru_ (r s : Int → Int) (k : Int) (T : Int → Int) (j : Nat) (u a sum br : Int) (F : Int → Int) (br' : Int) (F' : Int → Int) : Prop :=
  (sum + (rd_ r s j u a).1 < br ∧ br' = sum + (rd_ r s j u a).1 ∧ (∀ c, 0 ≤ c → c < k → F' c = T c) ∧ ∀ c, k ≤ c → c < r 4 → F' c = oc_ r s j u a c) ∨
  (¬ sum + (rd_ r s j u a).1 < br ∧ br' = br ∧ ∀ c, F' c = F c)
def ri_ (r s : Int → Int) (k : Int) (T : Int → Int) (j : Nat) (u sum br : Int) (F : Int → Int) (q : Int × Int) (br' : Int) (F' : Int → Int) : Prop :=
  (sum + q.1 < br ∧ br' = sum + q.1 ∧ (∀ c, 0 ≤ c → c < k → F' c = T c) ∧ F' k = q.2 ∧ ∀ c, k < c → c < r 4 → F' c = oc_ r s j (ior_ u (ishl_ 1 q.2)) q.2 c) ∨
  (¬ sum + q.1 < br ∧ br' = br ∧ ∀ c, F' c = F c)
theorem ri_.start {k : Int} {T : Int → Int} {j : Nat} {u sum br : Int} {F : Int → Int} (h : 0 ≤ sum) (hb : br ≤ 1000000) : ri_ r s k T j u sum br F (1000000, -1) br F := Or.inr ⟨by dsimp only; omega, rfl, fun _ => rfl⟩
theorem ri_.skip {k : Int} {T : Int → Int} {j : Nat} {u sum br : Int} {F : Int → Int} {q : Int × Int} {br' : Int} {F' D : Int → Int} {G : Int → Int × Int} {i : Int} (h : ri_ r s k T j u sum br F q br' F') (hi : hb_ u i) : ri_ r s k T j u sum br F (rf_ D G u i q) br' F' := by
  unfold rf_
  rw [if_pos hi]; exact h
theorem ri_.one {k : Int} {T T' : Int → Int} {j : Nat} {u sum br : Int} {F : Int → Int} {q : Int × Int} {br' : Int} {F' D : Int → Int} {i br'' : Int} {F'' : Int → Int}
    (h : ri_ r s k T j u sum br F q br' F') (hi : ¬ hb_ u i) (hk : 0 ≤ k) (hT : ∀ c, 0 ≤ c → c < k → T' c = T c) (hTk : T' k = i) (g : ru_ r s (k + 1) T' j (ior_ u (ishl_ 1 i)) i (sum + D i) br' F' br'' F'') :
    ri_ r s k T j u sum br F (rf_ D (fun i => rd_ r s j (ior_ u (ishl_ 1 i)) i) u i q) br'' F'' := by
  unfold rf_
  rw [if_neg hi]
  dsimp only
  by_cases hc : D i + (rd_ r s j (ior_ u (ishl_ 1 i)) i).1 < q.1
  · rw [if_pos hc]
    rcases g with ⟨g1, g2, g3, g4⟩ | ⟨g1, g2, g3⟩
    · refine Or.inl ⟨?_, ?_, fun c c0 c1 => ?_, ?_, fun c c0 c1 => ?_⟩
      · dsimp only
        rcases h with ⟨x1, x2, -⟩ | ⟨x1, x2, -⟩ <;> omega
      · dsimp only; omega
      · rw [g3 c c0 (by omega), hT c c0 c1]
      · rw [g3 k hk (by omega), hTk]
      · exact g4 c (by omega) c1
    · rcases h with ⟨x1, x2, -⟩ | ⟨x1, x2, x3⟩
      · exfalso; omega
      · exact Or.inr ⟨by dsimp only; omega, by omega, fun c => by rw [g3, x3]⟩
  · rw [if_neg hc]
    rcases g with ⟨g1, g2, g3, g4⟩ | ⟨g1, g2, g3⟩
    · exfalso
      rcases h with ⟨x1, x2, -⟩ | ⟨x1, x2, -⟩ <;> omega
    · rcases h with ⟨x1, x2, x3, x4, x5⟩ | ⟨x1, x2, x3⟩
      · exact Or.inl ⟨x1, by omega, fun c c0 c1 => by rw [g3, x3 c c0 c1], by rw [g3, x4], fun c c0 c1 => by rw [g3, x5 c c0 c1]⟩
      · exact Or.inr ⟨x1, by omega, fun c => by rw [g3, x3]⟩
theorem ri_.done {k : Int} {T : Int → Int} {j : Nat} {u a sum br : Int} {F : Int → Int} {br' : Int} {F' : Int → Int} (hk : k = r 4 - (j + 1))
    (h : ri_ r s k T j u sum br F (iI_ (rf_ (fw_ r s 7 a) (fun i => rd_ r s j (ior_ u (ishl_ 1 i)) i) u) (1000000, -1) (r 4)) br' F') : ru_ r s k T (j + 1) u a sum br F br' F' := by
  have e : rd_ r s (j + 1) u a = iI_ (rf_ (fw_ r s 7 a) (fun i => rd_ r s j (ior_ u (ishl_ 1 i)) i) u) (1000000, -1) (r 4) := rfl
  rw [← e] at h
  rcases h with ⟨x1, x2, x3, x4, x5⟩ | ⟨x1, x2, x3⟩
  · refine Or.inl ⟨x1, x2, x3, fun c c0 c1 => ?_⟩
    rw [oc_, ← hk]
    by_cases hc : c = k
    · rw [if_pos hc, hc]; exact x4
    · rw [if_neg hc]; exact x5 c (by omega) c1
  · exact Or.inr ⟨x1, x2, x3⟩
/-- a round's days; -2: none -/
def ro_ (r s : Int → Int) (i : Int) : Int := if (rd_ r s (r 4 - 1).toNat (ishl_ 1 i) i).1 = 1000000 then -2 else (rd_ r s (r 4 - 1).toNat (ishl_ 1 i) i).1
def qRound_ (p : Int) (r s : Int → Int) (i : Int) : Int × Int := if p = 1 ∧ (0 ≤ i ∧ i < r 4) then (ro_ r s i, 0) else (-1, 1)
def qRoundAt_ (p : Int) (r s : Int → Int) (i k : Int) : Int × Int :=
  if p = 1 ∧ (0 ≤ i ∧ i < r 4) ∧ (0 ≤ k ∧ k < r 4) then (if ro_ r s i < 0 then (-1, 6) else (if k = 0 then i else oc_ r s (r 4 - 1).toNat (ishl_ 1 i) i k, 0)) else (-1, 1)
/-- what is drawn next -/
def nx_ (d : Int) : Int := (75 * d + 74) % 65537
def dg_ (r s : Int → Int) (y b at1 other : Int) : Int := if hd_ r (rb_ s b at1 other) (bl_ r b) (s 0 + y) = r (128 + 4 * b) then 1 else 0
def df_ (r s : Int → Int) (y : Int) : Int → Int × Int → Int × Int := fun b q =>
  if nx_ q.1 % 100 < r 3 then (nx_ (nx_ (nx_ q.1)), q.2 + dg_ r s y b (nx_ (nx_ q.1) % bl_ r b) (nx_ (nx_ (nx_ q.1)) % r 0)) else (nx_ q.1, q.2 + dg_ r s y b (-1) 0)
def qDecade_ (p : Int) (r s : Int → Int) (seed n : Int) : Int × Int :=
  if p = 1 then (if (0 ≤ seed ∧ seed ≤ 65536) ∧ (0 ≤ n ∧ n ≤ 50) then ((iI_ (fun y q => iI_ (df_ r s y) q (r 7)) (seed, 0) n).2, 0) else (-1, 2)) else (-1, 1)
theorem nx_in (d : Int) : 0 ≤ nx_ d ∧ nx_ d ≤ 65536 := by
  unfold nx_
  omega
theorem dg_in (r s : Int → Int) (y b a o : Int) : 0 ≤ dg_ r s y b a o ∧ dg_ r s y b a o ≤ 1 := by
  unfold dg_
  split <;> omega
end
