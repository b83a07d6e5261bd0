/-! WHAT BOTH SIDES ANSWER, part 1: r: what is told (places as the reference lays them), s: what is now. An answer is a pair: what is returned, and the trouble. -/
set_option maxRecDepth 100000
/-- a post as told: bounds -/
def RW_ (r : Int → Int) : Prop :=
  ((2 ≤ r 0 ∧ r 0 ≤ 4) ∧ (0 ≤ r 1 ∧ r 1 ≤ 3) ∧ (0 ≤ r 2 ∧ r 2 ≤ 50) ∧ (0 ≤ r 3 ∧ r 3 ≤ 100) ∧ (1 ≤ r 4 ∧ r 4 ≤ 7) ∧ (0 ≤ r 5 ∧ r 5 ≤ 12) ∧ (0 ≤ r 6 ∧ r 6 ≤ 5) ∧ (0 ≤ r 7 ∧ r 7 ≤ 8) ∧ (0 ≤ r 8 ∧ r 8 ≤ 8)) ∧
  (∀ i, 0 ≤ i → i < r 4 → 2 ≤ r (10 + 7 * i) ∧ r (10 + 7 * i) ≤ 6) ∧
  (∀ i k, 0 ≤ i → i < r 4 → 0 ≤ k → k < 6 → 0 ≤ r (11 + 7 * i + k) ∧ r (11 + 7 * i + k) < r 0) ∧
  (∀ k, 0 ≤ k → k < r 5 → (0 ≤ r (59 + 4 * k) ∧ r (59 + 4 * k) < r 4) ∧ (0 ≤ r (60 + 4 * k) ∧ r (60 + 4 * k) < r 4) ∧ r (59 + 4 * k) ≠ r (60 + 4 * k) ∧ (1 ≤ r (61 + 4 * k) ∧ r (61 + 4 * k) ≤ 99) ∧ (1 ≤ r (62 + 4 * k) ∧ r (62 + 4 * k) ≤ 15)) ∧
  (∀ w, 0 ≤ w → w < r 6 → (0 ≤ r (107 + 4 * w) ∧ r (107 + 4 * w) ≤ 3) ∧ (0 ≤ r (108 + 4 * w) ∧ r (108 + 4 * w) < r 4) ∧ (0 ≤ r (109 + 4 * w) ∧ r (109 + 4 * w) ≤ 99) ∧ (0 ≤ r (110 + 4 * w) ∧ r (110 + 4 * w) ≤ 99)) ∧
  (∀ b, 0 ≤ b → b < r 7 → (0 ≤ r (127 + 4 * b) ∧ r (127 + 4 * b) < r 4) ∧ (0 ≤ r (128 + 4 * b) ∧ r (128 + 4 * b) < r 4) ∧ (1 ≤ r (129 + 4 * b) ∧ r (129 + 4 * b) ≤ 99) ∧ (0 ≤ r (130 + 4 * b) ∧ r (130 + 4 * b) ≤ 9999)) ∧
  (∀ k, 0 ≤ k → k < r 8 → (0 ≤ r (159 + 3 * k) ∧ r (159 + 3 * k) < r 6) ∧ (0 ≤ r (160 + 3 * k) ∧ r (160 + 3 * k) < r 4) ∧ (0 ≤ r (161 + 3 * k) ∧ r (161 + 3 * k) ≤ 9999)) ∧
  (∀ k j, 0 ≤ k → k < j → j < r 5 → ¬ (r (59 + 4 * k) = r (59 + 4 * j) ∧ r (60 + 4 * k) = r (60 + 4 * j)) ∧ ¬ (r (59 + 4 * k) = r (60 + 4 * j) ∧ r (60 + 4 * k) = r (59 + 4 * j)))
theorem RW_.n {r : Int → Int} (h : RW_ r) : (2 ≤ r 0 ∧ r 0 ≤ 4) ∧ (0 ≤ r 1 ∧ r 1 ≤ 3) ∧ (0 ≤ r 2 ∧ r 2 ≤ 50) ∧ (0 ≤ r 3 ∧ r 3 ≤ 100) ∧ (1 ≤ r 4 ∧ r 4 ≤ 7) ∧ (0 ≤ r 5 ∧ r 5 ≤ 12) ∧ (0 ≤ r 6 ∧ r 6 ≤ 5) ∧ (0 ≤ r 7 ∧ r 7 ≤ 8) ∧ (0 ≤ r 8 ∧ r 8 ≤ 8) := h.1
theorem RW_.len {r : Int → Int} (h : RW_ r) {i : Int} (h0 : 0 ≤ i) (h1 : i < r 4) : 2 ≤ r (10 + 7 * i) ∧ r (10 + 7 * i) ≤ 6 := h.2.1 i h0 h1
theorem RW_.song {r : Int → Int} (h : RW_ r) {i k : Int} (h0 : 0 ≤ i) (h1 : i < r 4) (h2 : 0 ≤ k) (h3 : k < 6) : 0 ≤ r (11 + 7 * i + k) ∧ r (11 + 7 * i + k) < r 0 := h.2.2.1 i k h0 h1 h2 h3
theorem RW_.way {r : Int → Int} (h : RW_ r) {k : Int} (h0 : 0 ≤ k) (h1 : k < r 5) : (0 ≤ r (59 + 4 * k) ∧ r (59 + 4 * k) < r 4) ∧ (0 ≤ r (60 + 4 * k) ∧ r (60 + 4 * k) < r 4) ∧ r (59 + 4 * k) ≠ r (60 + 4 * k) ∧ (1 ≤ r (61 + 4 * k) ∧ r (61 + 4 * k) ≤ 99) ∧ (1 ≤ r (62 + 4 * k) ∧ r (62 + 4 * k) ≤ 15) := h.2.2.2.1 k h0 h1
theorem RW_.whale {r : Int → Int} (h : RW_ r) {w : Int} (h0 : 0 ≤ w) (h1 : w < r 6) : (0 ≤ r (107 + 4 * w) ∧ r (107 + 4 * w) ≤ 3) ∧ (0 ≤ r (108 + 4 * w) ∧ r (108 + 4 * w) < r 4) ∧ (0 ≤ r (109 + 4 * w) ∧ r (109 + 4 * w) ≤ 99) ∧ (0 ≤ r (110 + 4 * w) ∧ r (110 + 4 * w) ≤ 99) := h.2.2.2.2.1 w h0 h1
theorem RW_.box {r : Int → Int} (h : RW_ r) {b : Int} (h0 : 0 ≤ b) (h1 : b < r 7) : (0 ≤ r (127 + 4 * b) ∧ r (127 + 4 * b) < r 4) ∧ (0 ≤ r (128 + 4 * b) ∧ r (128 + 4 * b) < r 4) ∧ (1 ≤ r (129 + 4 * b) ∧ r (129 + 4 * b) ≤ 99) ∧ (0 ≤ r (130 + 4 * b) ∧ r (130 + 4 * b) ≤ 9999) := h.2.2.2.2.2.1 b h0 h1
theorem RW_.spout {r : Int → Int} (h : RW_ r) {k : Int} (h0 : 0 ≤ k) (h1 : k < r 8) : (0 ≤ r (159 + 3 * k) ∧ r (159 + 3 * k) < r 6) ∧ (0 ≤ r (160 + 3 * k) ∧ r (160 + 3 * k) < r 4) ∧ (0 ≤ r (161 + 3 * k) ∧ r (161 + 3 * k) ≤ 9999) := h.2.2.2.2.2.2.1 k h0 h1
theorem RW_.apart {r : Int → Int} (h : RW_ r) {k j : Int} (h0 : 0 ≤ k) (h1 : k < j) (h2 : j < r 5) : ¬ (r (59 + 4 * k) = r (59 + 4 * j) ∧ r (60 + 4 * k) = r (60 + 4 * j)) ∧ ¬ (r (59 + 4 * k) = r (60 + 4 * j) ∧ r (60 + 4 * k) = r (59 + 4 * j)) := h.2.2.2.2.2.2.2 k j h0 h1 h2
/-- how many boxes have come -/
def cm_ (s : Int → Int) : Nat → Int
  | 0 => 0
  | n + 1 => cm_ s n + (if s (12 + (n : Int)) > 0 then 1 else 0)
/-- a desk: bounds -/
def DW_ (r s : Int → Int) : Prop :=
  ((0 ≤ s 0 ∧ s 0 ≤ 9999) ∧ (0 ≤ s 1 ∧ s 1 < 4096)) ∧
  (∀ w, 0 ≤ w → w < 5 → (0 ≤ s (2 + w) ∧ s (2 + w) < r 4) ∧ (0 ≤ s (7 + w) ∧ s (7 + w) ≤ 10000 + 10000 * cm_ s 8)) ∧
  (∀ b, 0 ≤ b → b < 8 → (0 ≤ s (12 + b) ∧ s (12 + b) ≤ 100001) ∧ (0 ≤ s (20 + b) ∧ s (20 + b) ≤ 7)) ∧
  (∀ j, 0 ≤ j → j < 48 → 0 ≤ s (28 + j) ∧ s (28 + j) < r 0)
theorem cm_le (s : Int → Int) (n : Nat) : 0 ≤ cm_ s n ∧ cm_ s n ≤ n := by
  induction n with
  | zero => simp [cm_]
  | succ n ih =>
    simp only [cm_]
    split <;> omega
theorem DW_.n {r s : Int → Int} (h : DW_ r s) : (0 ≤ s 0 ∧ s 0 ≤ 9999) ∧ (0 ≤ s 1 ∧ s 1 < 4096) := h.1
theorem DW_.whale {r s : Int → Int} (h : DW_ r s) {w : Int} (h0 : 0 ≤ w) (h1 : w < 5) : (0 ≤ s (2 + w) ∧ s (2 + w) < r 4) ∧ (0 ≤ s (7 + w) ∧ s (7 + w) ≤ 90000) := by
  have h2 := h.2.1 w h0 h1
  have h3 := cm_le s 8
  omega
theorem DW_.box {r s : Int → Int} (h : DW_ r s) {b : Int} (h0 : 0 ≤ b) (h1 : b < 8) : (0 ≤ s (12 + b) ∧ s (12 + b) ≤ 100001) ∧ (0 ≤ s (20 + b) ∧ s (20 + b) ≤ 7) := h.2.2.1 b h0 h1
theorem DW_.sung {r s : Int → Int} (h : DW_ r s) {j : Int} (h0 : 0 ≤ j) (h1 : j < 48) : 0 ≤ s (28 + j) ∧ s (28 + j) < r 0 := h.2.2.2 j h0 h1
/-- a note of a song in a year -/
def nt_ (r : Int → Int) (i k y : Int) : Int := (r (11 + 7 * i + k) + r 0 - (if r 2 = 0 then 0 else y / r 2 % r 0)) % r 0
theorem nt_in {r : Int → Int} (h : RW_ r) (i k y : Int) : 0 ≤ nt_ r i k y ∧ nt_ r i k y < r 0 := by
  have h0 := h.n
  exact ⟨Int.emod_nonneg _ (by omega), Int.emod_lt_of_pos _ (by omega)⟩
/-- a sum over the first n places -/
def sm_ (f : Int → Int) : Nat → Int
  | 0 => 0
  | n + 1 => sm_ f n + f n
/-- a post is there, and an island, whale, box of a number -/
def isI_ (p : Int) (r : Int → Int) (i : Int) : Prop := p = 1 ∧ 0 ≤ i ∧ i < r 4
def isW_ (p : Int) (r : Int → Int) (i : Int) : Prop := p = 1 ∧ 0 ≤ i ∧ i < r 6
def isB_ (p : Int) (r : Int → Int) (i : Int) : Prop := p = 1 ∧ 0 ≤ i ∧ i < r 7
/-- whale(w, what) -/
def qWhale_ (p : Int) (r s : Int → Int) (w what : Int) : Int × Int :=
  if p = 1 ∧ 0 ≤ w ∧ w < r 6 ∧ 0 ≤ what ∧ what ≤ 4 then
    (if what = 0 then r (107 + 4 * w) else if what = 1 then s (2 + w) else if what = 2 then s (7 + w) else if what = 3 then r (109 + 4 * w) else r (110 + 4 * w), 0)
  else (-1, 1)
/-- a day or an island that is kept with 1 added; -2 is none -/
def un_ (v : Int) : Int := if v = 0 then -2 else v - 1
/-- box(b, what) -/
def qBox_ (p : Int) (r s : Int → Int) (b what : Int) : Int × Int :=
  if p = 1 ∧ 0 ≤ b ∧ b < r 7 ∧ 0 ≤ what ∧ what ≤ 5 then
    (if what < 4 then r (127 + 4 * b + what) else if what = 4 then un_ (s (12 + b)) else un_ (s (20 + b)), 0)
  else (-1, 1)
def qLength_ (p : Int) (r : Int → Int) (i : Int) : Int × Int := if p = 1 ∧ 0 ≤ i ∧ i < r 4 then (r (10 + 7 * i), 0) else (-1, 1)
def qNote_ (p : Int) (r s : Int → Int) (i k : Int) : Int × Int := if p = 1 ∧ 0 ≤ i ∧ i < r 4 ∧ 0 ≤ k ∧ k < r (10 + 7 * i) then (nt_ r i k (s 0), 0) else (-1, 1)
/-- a box's notes: as many as its island's song has -/
def bl_ (r : Int → Int) (b : Int) : Int := r (10 + 7 * r (128 + 4 * b))
theorem bl_in {r : Int → Int} (h : RW_ r) {b : Int} (h0 : 0 ≤ b) (h1 : b < r 7) : 2 ≤ bl_ r b ∧ bl_ r b ≤ 6 := by
  have := h.box h0 h1
  exact h.len (by omega) (by omega)
def qSung_ (p : Int) (r s : Int → Int) (b k : Int) : Int × Int := if p = 1 ∧ 0 ≤ b ∧ b < r 7 ∧ 0 ≤ k ∧ k < bl_ r b then (s (28 + 6 * b + k), 0) else (-1, 1)
