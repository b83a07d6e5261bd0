/-! PARSING, part 1: heaps set by rows; tokens. The spec lives on the abstract heap itself: the reference at m. -/
set_option maxRecDepth 100000
/-- a row of places, n from lo on, set by f -/
def pb_ (γ : JH) (a : Nat) (lo n : Int) (f : Int → Int) : JH := (γ.1, (fun b j => if b = a ∧ lo ≤ j ∧ j < lo + n then f (j - lo) else γ.2.1 b j), γ.2.2)
theorem iv_pb (γ : JH) (a : Nat) (lo n : Int) (f : Int → Int) (b : Nat) (j : Int) : iv_ (pb_ γ a lo n f) b j = if b = a ∧ lo ≤ j ∧ j < lo + n then f (j - lo) else iv_ γ b j := rfl
theorem sh_pb (γ : JH) (a : Nat) (lo n : Int) (f : Int → Int) (b : Nat) : sh_ (pb_ γ a lo n f) b = sh_ γ b := rfl
theorem rv_pb (γ : JH) (a : Nat) (lo n : Int) (f : Int → Int) (b : Nat) (j : Int) : rv_ (pb_ γ a lo n f) b j = rv_ γ b j := rfl
theorem jx_ {γ δ : JH} (h1 : γ.1 = δ.1) (h3 : γ.2.2 = δ.2.2) (h : ∀ b k, iv_ γ b k = iv_ δ b k) : γ = δ := Prod.ext h1 (Prod.ext (funext fun b => funext fun k => h b k) h3)
theorem pb_0 (γ : JH) (a : Nat) (lo : Int) (f : Int → Int) : pb_ γ a lo 0 f = γ := jx_ rfl rfl fun b k => by rw [iv_pb, if_neg (by omega)]
theorem pb_s (γ : JH) (a : Nat) (lo : Int) {n : Int} (f : Int → Int) (h : 0 ≤ n) : pi_ (pb_ γ a lo n f) a (lo + n) (f n) = pb_ γ a lo (n + 1) f := jx_ rfl rfl fun b k => by
  rw [iv_pi, iv_pb, iv_pb]
  by_cases hb : b = a
  · by_cases hk : k = lo + n
    · rw [if_pos ⟨hb, hk⟩, if_pos ⟨hb, by omega, by omega⟩, hk, show lo + n - lo = n by omega]
    · rw [if_neg (fun q => hk q.2)]
      by_cases hl : lo ≤ k ∧ k < lo + n
      · rw [if_pos ⟨hb, hl.1, hl.2⟩, if_pos ⟨hb, by omega, by omega⟩]
      · rw [if_neg (fun q => hl q.2), if_neg (by omega)]
  · rw [if_neg (fun q => hb q.1), if_neg (fun q => hb q.1), if_neg (fun q => hb q.1)]
theorem pi_pi (γ : JH) (a : Nat) (k x y : Int) : pi_ (pi_ γ a k x) a k y = pi_ γ a k y := jx_ rfl rfl fun b j => by
  rw [iv_pi, iv_pi, iv_pi]
  by_cases h : b = a ∧ j = k
  · rw [if_pos h, if_pos h]
  · rw [if_neg h, if_neg h, if_neg h]
theorem pi_cm (γ : JH) {a b : Nat} {k j x y : Int} (h : ¬ (a = b ∧ k = j)) : pi_ (pi_ γ a k x) b j y = pi_ (pi_ γ b j y) a k x := jx_ rfl rfl fun c i => by
  simp only [iv_pi]
  by_cases h1 : c = a ∧ i = k
  · by_cases h2 : c = b ∧ i = j
    · exact absurd ⟨h1.1.symm.trans h2.1, h1.2.symm.trans h2.2⟩ h
    · rw [if_neg h2, if_pos h1, if_pos h1]
  · rw [if_neg h1, if_neg h1]
theorem pi_pb (γ : JH) {a b : Nat} {k x lo n : Int} {f : Int → Int} (h : a ≠ b) : pi_ (pb_ γ a lo n f) b k x = pb_ (pi_ γ b k x) a lo n f := jx_ rfl rfl fun c i => by
  simp only [iv_pi, iv_pb]
  by_cases h1 : c = b ∧ i = k
  · rw [if_pos h1, if_neg (fun q => h (q.1.symm.trans h1.1)), if_pos h1]
  · rw [if_neg h1, if_neg h1]
/-- behind k0, where P ends -/
def skp_ (P : Int → Bool) (L : Int → Int) (k0 e : Int) : Int := k0 + fI_ (fun j => !P (L (k0 + j))) (e - k0 + 1)
theorem skp_hit {P : Int → Bool} {L : Int → Int} {k0 e k : Int} (h0 : k0 ≤ k) (h1 : k ≤ e) (ha : ∀ j, k0 ≤ j → j < k → P (L j) = true) (hn : P (L k) = false) : skp_ P L k0 e = k := by
  unfold skp_
  rw [fI_hit (k := k - k0) (by omega) (by omega) (by rw [show k0 + (k - k0) = k by omega, hn]; rfl) (fun j j0 j1 => by rw [ha (k0 + j) (by omega) (by omega)]; rfl)]
  omega
theorem skp_in {P : Int → Bool} {L : Int → Int} {k0 e : Int} (h : k0 ≤ e) (hn : P (L e) = false) : (k0 ≤ skp_ P L k0 e ∧ skp_ P L k0 e ≤ e) ∧ (∀ j, k0 ≤ j → j < skp_ P L k0 e → P (L j) = true) ∧ P (L (skp_ P L k0 e)) = false := by
  unfold skp_
  rcases fI_spec (fun j => !P (L (k0 + j))) (n := e - k0 + 1) (by omega) with ⟨-, q⟩ | ⟨q1, q2, q3, q4⟩
  · have := q (e - k0) (by omega) (by omega)
    rw [show k0 + (e - k0) = e by omega, hn] at this
    exact absurd this (by decide)
  · refine ⟨by omega, fun j j0 j1 => ?_, by simpa using q3⟩
    have := q4 (j - k0) (by omega) (by omega)
    rw [show k0 + (j - k0) = j by omega] at this
    simpa using this
def isS_ (c : Int) : Bool := decide (97 ≤ c ∧ c ≤ 122)
def isD_ (c : Int) : Bool := decide (48 ≤ c ∧ c ≤ 57)
def isB2_ (c : Int) : Bool := decide (c = 32)
/-- what stands at a place of the text; -1 behind it -/
def lk_ (m : Nat) (γ : JH) (k : Int) : Int := if k < iv_ γ m 3 then iv_ γ (m + 1) k else -1
def dv_ (L : Int → Int) (k0 n : Int) : Int := iI_ (fun j a => 10 * a + L (k0 + j) - 48) 0 n
def mn8_ (a b : Int) : Int := if a < b then a else b
/-- the next token -/
def nxt_ (m : Nat) (γ : JH) : JH :=
  let e := iv_ γ m 3
  let k := skp_ isB2_ (lk_ m γ) (iv_ γ m 5) e
  let c := lk_ m γ k
  let g := pi_ (pi_ (pi_ γ m 4 k) m 8 0) m 7 0
  if c = -1 then pi_ (pi_ g m 6 0) m 5 k
  else if isS_ c = true then
    let k2 := skp_ isS_ (lk_ m γ) k e
    pi_ (pi_ (pi_ (pb_ g (m + 2) 0 (mn8_ (k2 - k) 8) (fun j => lk_ m γ (k + j))) m 8 (k2 - k)) m 5 k2) m 6 (if 8 < k2 - k then 1 else 2)
  else if isD_ c = true then
    let k2 := skp_ isD_ (lk_ m γ) k e
    pi_ (pi_ (pi_ g m 7 (dv_ (lk_ m γ) k (mn8_ (k2 - k) 4))) m 5 k2) m 6 (if 4 < k2 - k then 1 else 3)
  else pi_ (pi_ g m 5 (k + 1)) m 6 (if c = 59 then 59 else 1)
/-- a fault -/
def wr_ (m : Nat) (γ : JH) (w at1 : Int) : JH := if iv_ γ m 13 = 0 then pi_ (pi_ (pi_ γ m 13 1) m 9 w) m 10 at1 else γ
/-- the word that stands there -/
def iw_ (m : Nat) (γ : JH) (n : Int) (c : Int → Int) : Bool := decide (iv_ γ m 13 = 0 ∧ iv_ γ m 6 = 2 ∧ iv_ γ m 8 = n) && al_ (fun k => decide (iv_ γ (m + 2) k = c k)) n
