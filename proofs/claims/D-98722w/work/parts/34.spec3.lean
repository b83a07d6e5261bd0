/-! WHAT BOTH SIDES ANSWER, part 3: new songs; strange -/
set_option maxRecDepth 100000
/-- n to the k -/
def pw_ (n k : Int) : Int := iI_ (fun _ a => a * n) 1 k
theorem pw_s (n : Int) {k : Int} (h : 0 ≤ k) : pw_ n (k + 1) = pw_ n k * n := iI_s _ _ h
theorem pw_in {n k : Int} (hn : 2 ≤ n ∧ n ≤ 4) (hk : 0 ≤ k ∧ k ≤ 5) : 1 ≤ pw_ n k ∧ pw_ n k ≤ 1024 := by
  rcases (show n = 2 ∨ n = 3 ∨ n = 4 by omega) with rfl | rfl | rfl <;> rcases (show k = 0 ∨ k = 1 ∨ k = 2 ∨ k = 3 ∨ k = 4 ∨ k = 5 by omega) with rfl | rfl | rfl | rfl | rfl | rfl <;> decide
/-- in how many of their last L digits two numbers are unlike -/
def da_ (n : Int) : Nat → Int → Int → Int
  | 0, _, _ => 0
  | L + 1, x, y => (if x % n = y % n then 0 else 1) + da_ n L (x / n) (y / n)
theorem da_in (n : Int) : ∀ (L : Nat) (x y : Int), 0 ≤ da_ n L x y ∧ da_ n L x y ≤ L := by
  intro L
  induction L with
  | zero => intro x y; simp [da_]
  | succ L ih =>
    intro x y
    have := ih (x / n) (y / n)
    simp only [da_]
    split <;> omega
theorem da_sym (n : Int) : ∀ (L : Nat) (x y : Int), da_ n L x y = da_ n L y x := by
  intro L
  induction L with
  | zero => intro x y; rfl
  | succ L ih =>
    intro x y
    simp only [da_]
    rw [ih]
    congr 1
    by_cases h : x % n = y % n
    · rw [if_pos h, if_pos h.symm]
    · rw [if_neg h, if_neg (fun q => h q.symm)]
theorem da_self (n : Int) : ∀ (L : Nat) (x : Int), da_ n L x x = 0 := by
  intro L
  induction L with
  | zero => intro x; rfl
  | succ L ih => intro x; simp only [da_]; rw [ih]; simp
/-- an island's song as a number, in a year: its first L notes -/
def cd_ (r : Int → Int) (i y L : Int) : Int := iI_ (fun k v => v * r 0 + nt_ r i k y) 0 L
theorem cd_step {v d n P : Int} (h0 : 0 ≤ v) (h1 : v < P) (h2 : 0 ≤ d) (h3 : d < n) : 0 ≤ v * n + d ∧ v * n + d < P * n := by
  have a : 0 ≤ v * n := Int.mul_nonneg h0 (by omega)
  have b : (v + 1) * n ≤ P * n := Int.mul_le_mul_of_nonneg_right (by omega) (by omega)
  rw [Int.add_mul] at b
  omega
theorem cd_in {r : Int → Int} (h : RW_ r) (i y : Int) {L : Int} (hL : 0 ≤ L) : 0 ≤ cd_ r i y L ∧ cd_ r i y L < pw_ (r 0) L := by
  refine iI_inv (P := fun k v => 0 ≤ v ∧ v < pw_ (r 0) k) ⟨by omega, by show (0 : Int) < 1; omega⟩ (fun k v h0 h1 hv => ?_) hL
  rw [pw_s _ h0]
  have hn := nt_in h i k y
  exact cd_step hv.1 hv.2 hn.1 hn.2
/-- all of 0 .. n - 1 -/
def al_ (P : Int → Bool) (n : Int) : Bool := iI_ (fun k q => q && P k) true n
theorem al_iff {P : Int → Bool} {n : Int} (hn : 0 ≤ n) : al_ P n = true ↔ ∀ k, 0 ≤ k → k < n → P k = true := by
  have key : (al_ P n = true ↔ ∀ k, 0 ≤ k → k < n → P k = true) := by
    refine iI_inv (f := fun k q => q && P k) (a := true) (n := n) (P := fun m q => (q = true ↔ ∀ k, 0 ≤ k → k < m → P k = true)) ⟨fun _ k h0 h1 => by omega, fun _ => rfl⟩ (fun m q h0 h1 hq => ?_) hn
    rw [Bool.and_eq_true, hq]
    constructor
    · rintro ⟨a, b⟩ k g0 g1
      by_cases hk : k = m
      · rw [hk]; exact b
      · exact a k g0 (by omega)
    · intro a
      exact ⟨fun k g0 g1 => a k g0 (by omega), a m h0 (by omega)⟩
  exact key
/-- a number is a new song: at least 'a' apart from each island's song of that length -/
def nw1_ (r : Int → Int) (y L a v : Int) : Bool := al_ (fun i => decide (r (10 + 7 * i) = L → a ≤ da_ (r 0) L.toNat v (cd_ r i y L))) (r 4)
/-- the songs that are taken by turns -/
def gt_ (P : Int → Bool) (d : Int → Int → Int) (a : Int) : Nat → List Int
  | 0 => []
  | v + 1 => if P v && (gt_ P d a v).all (fun u => decide (a ≤ d u v)) then gt_ P d a v ++ [(v : Int)] else gt_ P d a v
theorem gt_lt {P : Int → Bool} {d : Int → Int → Int} {a : Int} : ∀ (v : Nat) (u : Int), u ∈ gt_ P d a v → 0 ≤ u ∧ u < v := by
  intro v
  induction v with
  | zero => intro u h; simp [gt_] at h
  | succ v ih =>
    intro u h
    simp only [gt_] at h
    split at h
    · rcases List.mem_append.mp h with h | h
      · have := ih u h; omega
      · have := List.mem_singleton.mp h; omega
    · have := ih u h; omega
theorem gt_len {P : Int → Bool} {d : Int → Int → Int} {a : Int} : ∀ (v : Nat), (gt_ P d a v).length ≤ v := by
  intro v
  induction v with
  | zero => simp [gt_]
  | succ v ih =>
    simp only [gt_]
    split
    · rw [List.length_append]; simp; exact ih
    · omega
def qFresh_ (p : Int) (r s : Int → Int) (L a : Int) : Int × Int :=
  if p = 1 then (if (2 ≤ L ∧ L ≤ 5) ∧ (1 ≤ a ∧ a ≤ 5) then (if fI_ (nw1_ r (s 0) L a) (pw_ (r 0) L) < 0 then -2 else fI_ (nw1_ r (s 0) L a) (pw_ (r 0) L), 0) else (-1, 2)) else (-1, 1)
def qByTurns_ (p : Int) (r s : Int → Int) (L a : Int) : Int × Int :=
  if p = 1 then (if (2 ≤ L ∧ L ≤ 5) ∧ (1 ≤ a ∧ a ≤ 5) then (((gt_ (nw1_ r (s 0) L a) (da_ (r 0) L.toNat) a (pw_ (r 0) L).toNat).length : Int), 0) else (-1, 2)) else (-1, 1)
/-- in how many notes a song as told is unlike an island's song in a year -/
def so_ (r : Int → Int) (i j y : Int) : Int := ul_ r (fun k => r (11 + 7 * i + k)) j y (r (10 + 7 * i))
/-- an island hears its own song as told in a year -/
def hi_ (r : Int → Int) (i y : Int) : Bool := decide (so_ r i i y ≤ r 1) && al_ (fun j => decide (j = i ∨ r (10 + 7 * j) ≠ r (10 + 7 * i) ∨ so_ r i i y < so_ r i j y)) (r 4)
def qStrange_ (p : Int) (r s : Int → Int) (i : Int) : Int × Int :=
  if p = 1 ∧ 0 ≤ i ∧ i < r 4 then (if fI_ (fun n => !hi_ r i (s 0 + n)) 100 < 0 then -2 else fI_ (fun n => !hi_ r i (s 0 + n)) 100, 0) else (-1, 1)
