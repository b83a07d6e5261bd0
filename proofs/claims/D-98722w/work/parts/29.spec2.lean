/-! WHAT BOTH SIDES ANSWER, part 2: loops; songs -/
set_option maxRecDepth 100000
/-- a loop over 0 .. n - 1 -/
def it_ {α : Type} (f : Int → α → α) (a : α) : Nat → α
  | 0 => a
  | n + 1 => f n (it_ f a n)
def iI_ {α : Type} (f : Int → α → α) (a : α) (k : Int) : α := it_ f a k.toNat
theorem iI_0 {α : Type} (f : Int → α → α) (a : α) : iI_ f a 0 = a := rfl
theorem iI_s {α : Type} (f : Int → α → α) (a : α) {k : Int} (h : 0 ≤ k) : iI_ f a (k + 1) = f k (iI_ f a k) := by
  unfold iI_
  rw [show (k + 1).toNat = k.toNat + 1 by omega]
  show f ((k.toNat : Nat) : Int) _ = _
  rw [show ((k.toNat : Nat) : Int) = k by omega]
/-- a loop whose steps agree -/
theorem iI_congr {α : Type} {f g : Int → α → α} {a : α} {n : Int} (h : ∀ k x, 0 ≤ k → k < n → f k x = g k x) : iI_ f a n = iI_ g a n := by
  have key : ∀ m : Nat, (m : Int) ≤ n → it_ f a m = it_ g a m := by
    intro m
    induction m with
    | zero => intro _; rfl
    | succ m ih =>
      intro hm
      show f m (it_ f a m) = g m (it_ g a m)
      rw [ih (by omega), h m _ (by omega) (by omega)]
  unfold iI_
  by_cases hn : 0 ≤ n
  · exact key n.toNat (by omega)
  · rw [show n.toNat = 0 by omega]; rfl
/-- a loop's invariant -/
theorem iI_inv {α : Type} {f : Int → α → α} {a : α} {n : Int} (P : Int → α → Prop) (h0 : P 0 a) (hs : ∀ k x, 0 ≤ k → k < n → P k x → P (k + 1) (f k x)) (hn : 0 ≤ n) : P n (iI_ f a n) := by
  have key : ∀ m : Nat, (m : Int) ≤ n → P m (it_ f a m) := by
    intro m
    induction m with
    | zero => intro _; exact h0
    | succ m ih =>
      intro hm
      have := hs m _ (by omega) (by omega) (ih (by omega))
      exact this
  have := key n.toNat (by omega)
  rw [show ((n.toNat : Nat) : Int) = n by omega] at this
  exact this
/-- a sum over 0 .. n - 1 -/
def sI_ (f : Int → Int) (n : Int) : Int := iI_ (fun k a => a + f k) 0 n
theorem sI_0 (f : Int → Int) : sI_ f 0 = 0 := rfl
theorem sI_s (f : Int → Int) {k : Int} (h : 0 ≤ k) : sI_ f (k + 1) = sI_ f k + f k := iI_s _ _ h
theorem sI_bd {f : Int → Int} {n lo hi : Int} (h : ∀ k, 0 ≤ k → k < n → lo ≤ f k ∧ f k ≤ hi) (hn : 0 ≤ n) : n * lo ≤ sI_ f n ∧ sI_ f n ≤ n * hi := by
  refine iI_inv (P := fun k a => k * lo ≤ a ∧ a ≤ k * hi) ⟨by simp, by simp⟩ (fun k x h0 h1 hx => ?_) hn
  have := h k h0 h1
  rw [Int.add_mul, Int.add_mul]
  omega
theorem sI_congr {f g : Int → Int} {n : Int} (h : ∀ k, 0 ≤ k → k < n → f k = g k) : sI_ f n = sI_ g n := iI_congr fun k x h0 h1 => by rw [h k h0 h1]
/-- the first of 0 .. n - 1 with P; -1 -/
def fi_ (P : Int → Bool) : Nat → Int
  | 0 => -1
  | n + 1 => if fi_ P n = -1 then (if P n then n else -1) else fi_ P n
def fI_ (P : Int → Bool) (n : Int) : Int := fi_ P n.toNat
theorem fI_none {P : Int → Bool} {n : Int} (h : ∀ k, 0 ≤ k → k < n → P k = false) : fI_ P n = -1 := by
  have key : ∀ m : Nat, (m : Int) ≤ n → fi_ P m = -1 := by
    intro m
    induction m with
    | zero => intro _; rfl
    | succ m ih =>
      intro hm
      show (if fi_ P m = -1 then (if P m then (m : Int) else -1) else fi_ P m) = -1
      rw [if_pos (ih (by omega)), h m (by omega) (by omega)]
      rfl
  unfold fI_
  by_cases hn : 0 ≤ n
  · exact key n.toNat (by omega)
  · rw [show n.toNat = 0 by omega]; rfl
theorem fI_hit {P : Int → Bool} {n k : Int} (h0 : 0 ≤ k) (h1 : k < n) (hP : P k = true) (h : ∀ j, 0 ≤ j → j < k → P j = false) : fI_ P n = k := by
  have base : fi_ P (k.toNat + 1) = k := by
    have e : fi_ P k.toNat = -1 := fI_none h
    show (if fi_ P k.toNat = -1 then (if P ((k.toNat : Nat) : Int) then ((k.toNat : Nat) : Int) else -1) else fi_ P k.toNat) = k
    rw [if_pos e, show ((k.toNat : Nat) : Int) = k by omega, hP]
    rfl
  have key : ∀ m : Nat, fi_ P (k.toNat + 1 + m) = k := by
    intro m
    induction m with
    | zero => exact base
    | succ m ih =>
      show (if fi_ P (k.toNat + 1 + m) = -1 then _ else fi_ P (k.toNat + 1 + m)) = k
      rw [ih, if_neg (by omega)]
  unfold fI_
  have := key (n.toNat - (k.toNat + 1))
  rw [show k.toNat + 1 + (n.toNat - (k.toNat + 1)) = n.toNat by omega] at this
  exact this
theorem fI_spec (P : Int → Bool) {n : Int} (hn : 0 ≤ n) : (fI_ P n = -1 ∧ ∀ k, 0 ≤ k → k < n → P k = false) ∨ (0 ≤ fI_ P n ∧ fI_ P n < n ∧ P (fI_ P n) = true ∧ ∀ j, 0 ≤ j → j < fI_ P n → P j = false) := by
  by_cases h : ∀ k, 0 ≤ k → k < n → P k = false
  · exact Or.inl ⟨fI_none h, h⟩
  · right
    have key : ∀ m : Nat, (m : Int) ≤ n → (∀ k, 0 ≤ k → k < (m : Int) → P k = false) ∨ ∃ k, 0 ≤ k ∧ k < (m : Int) ∧ P k = true ∧ ∀ j, 0 ≤ j → j < k → P j = false := by
      intro m
      induction m with
      | zero => intro _; left; intro k h0 h1; omega
      | succ m ih =>
        intro hm
        rcases ih (by omega) with q | ⟨k, a, b, c, d⟩
        · cases hp : P (m : Int) with
          | false =>
            left
            intro k h0 h1
            by_cases hk : k = (m : Int)
            · rw [hk]; exact hp
            · exact q k h0 (by omega)
          | true => exact Or.inr ⟨m, by omega, by omega, hp, q⟩
        · exact Or.inr ⟨k, a, by omega, c, d⟩
    rcases key n.toNat (by omega) with q | ⟨k, a, b, c, d⟩
    · exact absurd (fun k h0 h1 => q k h0 (by omega)) h
    · rw [fI_hit a (by omega) c d]
      exact ⟨a, by omega, c, d⟩
/-- in how many of the first L notes a row is unlike a song in a year -/
def ul_ (r row : Int → Int) (i y L : Int) : Int := sI_ (fun k => if nt_ r i k y = row k then 0 else 1) L
theorem ul_in (r row : Int → Int) (i y : Int) {L : Int} (h : 0 ≤ L) : 0 ≤ ul_ r row i y L ∧ ul_ r row i y L ≤ L := by
  have := sI_bd (f := fun k => if nt_ r i k y = row k then (0 : Int) else 1) (n := L) (lo := 0) (hi := 1) (fun k _ _ => by split <;> omega) h
  unfold ul_
  omega
/-- a box's notes, one of them another one -/
def rb_ (s : Int → Int) (b at1 other : Int) : Int → Int := fun k => if k = at1 then other else s (28 + 6 * b + k)
/-- who hears a row of L notes in a year: best and least so far -/
def hs_ (r row : Int → Int) (L y : Int) : Int → Int × Int → Int × Int := fun i q =>
  if r (10 + 7 * i) = L then (if q.2 < ul_ r row i y L then q else (if ul_ r row i y L < q.2 then i else -2, ul_ r row i y L)) else q
def hd_ (r row : Int → Int) (L y : Int) : Int := if (iI_ (hs_ r row L y) (-2, 7) (r 4)).2 ≤ r 1 then (iI_ (hs_ r row L y) (-2, 7) (r 4)).1 else -2
theorem hd_in {r row : Int → Int} {L y : Int} (hr : 0 ≤ r 4) : hd_ r row L y = -2 ∨ (0 ≤ hd_ r row L y ∧ hd_ r row L y < r 4) := by
  have h := iI_inv (f := hs_ r row L y) (a := ((-2 : Int), (7 : Int))) (n := r 4) (P := fun k q => q.1 = -2 ∨ (0 ≤ q.1 ∧ q.1 < k)) (Or.inl rfl) (fun k q h0 h1 hq => by
    unfold hs_
    split
    · split
      · omega
      · split
        · right; exact ⟨h0, by show k < k + 1; omega⟩
        · left; rfl
    · omega) hr
  unfold hd_
  split
  · exact h
  · exact Or.inl rfl
/-- who hears a box now -/
def hn_ (r s : Int → Int) (b : Int) : Int := hd_ r (rb_ s b (-1) 0) (bl_ r b) (s 0)
def qHeard_ (p : Int) (r s : Int → Int) (b : Int) : Int × Int := if p = 1 ∧ 0 ≤ b ∧ b < r 7 then (hn_ r s b, 0) else (-1, 1)
def qHeardIn_ (p : Int) (r s : Int → Int) (b n : Int) : Int × Int :=
  if p = 1 ∧ 0 ≤ b ∧ b < r 7 then (if 0 ≤ n ∧ n ≤ 99 then (hd_ r (rb_ s b (-1) 0) (bl_ r b) (s 0 + n), 0) else (-1, 2)) else (-1, 1)
/-- a bit of a set -/
abbrev hb_ (x k : Int) : Prop := iand_ (ishr_ x k) 1 = 1
/-- a way joins two islands -/
abbrev jn_ (r : Int → Int) (k a b : Int) : Prop := (r (59 + 4 * k) = a ∧ r (60 + 4 * k) = b) ∨ (r (59 + 4 * k) = b ∧ r (60 + 4 * k) = a)
/-- the way between two islands that isn't closed; -1 -/
def wo_ (r s : Int → Int) (a b : Int) : Int := fI_ (fun k => decide (jn_ r k a b ∧ ¬ hb_ (s 1) k)) (r 5)
theorem wo_in {r s : Int → Int} {a b : Int} (h : 0 ≤ r 5) : wo_ r s a b = -1 ∨ (0 ≤ wo_ r s a b ∧ wo_ r s a b < r 5) := by
  rcases fI_spec (fun k => decide (jn_ r k a b ∧ ¬ hb_ (s 1) k)) h with q | q
  · exact Or.inl q.1
  · exact Or.inr ⟨q.1, q.2.1⟩
def qWay_ (p : Int) (r s : Int → Int) (i j : Int) : Int × Int :=
  if p = 1 ∧ (0 ≤ i ∧ i < r 4) ∧ (0 ≤ j ∧ j < r 4) ∧ i ≠ j then (if wo_ r s i j < 0 then -2 else r (61 + 4 * wo_ r s i j), 0) else (-1, 1)
/-- least and how many islands are so near -/
def ns_ (r row : Int → Int) (L y : Int) : Int → Int × Int → Int × Int := fun i q =>
  if r (10 + 7 * i) = L then (if ul_ r row i y L < q.1 then ul_ r row i y L else q.1, if ul_ r row i y L < q.1 then 1 else if ul_ r row i y L = q.1 then q.2 + 1 else q.2) else q
def nr_ (r s : Int → Int) (b : Int) : Int × Int := iI_ (ns_ r (rb_ s b (-1) 0) (bl_ r b) (s 0)) (7, 0) (r 4)
def qNear_ (p : Int) (r s : Int → Int) (b : Int) : Int × Int := if p = 1 ∧ 0 ≤ b ∧ b < r 7 then ((nr_ r s b).1, 0) else (-1, 1)
def qAsNear_ (p : Int) (r s : Int → Int) (b : Int) : Int × Int := if p = 1 ∧ 0 ≤ b ∧ b < r 7 then ((nr_ r s b).2, 0) else (-1, 1)
/-- what was sent -/
def sn_ (r s : Int → Int) (what b : Int) : Int := if s (12 + b) = 0 then 0 else if what = 0 then 1 else if what = 1 then (if s (20 + b) - 1 = r (128 + 4 * b) then 1 else 0) else s (12 + b) - 1 - r (130 + 4 * b)
def qSent_ (p : Int) (r s : Int → Int) (what : Int) : Int × Int := if p = 1 ∧ 0 ≤ what ∧ what ≤ 2 then (sI_ (sn_ r s what) (r 7), 0) else (-1, 1)
/-- two songs: in how many notes they are apart; -2 of another length -/
def ap_ (r : Int → Int) (i j : Int) : Int := if r (10 + 7 * i) = r (10 + 7 * j) then sI_ (fun k => if r (11 + 7 * i + k) = r (11 + 7 * j + k) then 0 else 1) (r (10 + 7 * i)) else -2
theorem ap_in {r : Int → Int} (h : RW_ r) {i j : Int} (h0 : 0 ≤ i) (h1 : i < r 4) : ap_ r i j = -2 ∨ (0 ≤ ap_ r i j ∧ ap_ r i j ≤ 6) := by
  unfold ap_
  split
  · have hl := h.len h0 h1
    have := sI_bd (f := fun k => if r (11 + 7 * i + k) = r (11 + 7 * j + k) then (0 : Int) else 1) (n := r (10 + 7 * i)) (lo := 0) (hi := 1) (fun k _ _ => by split <;> omega) (by omega)
    omega
  · exact Or.inl rfl
def qApart_ (p : Int) (r : Int → Int) (i j : Int) : Int × Int := if p = 1 ∧ (0 ≤ i ∧ i < r 4) ∧ (0 ≤ j ∧ j < r 4) then (ap_ r i j, 0) else (-1, 1)
/-- the least that two songs are apart; 7: none -/
def br_ (r : Int → Int) : Int := iI_ (fun i a => iI_ (fun j a => if 0 ≤ ap_ r i j ∧ ap_ r i j < a then ap_ r i j else a) a i) 7 (r 4)
def qBear_ (p : Int) (r : Int → Int) : Int × Int := if p = 1 then (if 6 < br_ r then -2 else Int.tdiv (br_ r - 1) 2, 0) else (-1, 1)
def mx_ (r : Int → Int) : Int := iI_ (fun i a => iI_ (fun j a => a + (if 0 ≤ ap_ r i j ∧ ap_ r i j ≤ 2 * r 1 then 1 else 0)) a i) 0 (r 4)
def qMixed_ (p : Int) (r : Int → Int) : Int × Int := if p = 1 then (mx_ r, 0) else (-1, 1)
