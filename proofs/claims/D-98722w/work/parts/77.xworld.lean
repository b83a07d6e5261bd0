/-! THE COMPONENT'S WORLD: its object at X, what its constructor made at X + 1 .. X + 12; a post, a desk. Written by mod/m77.py -/
set_option maxRecDepth 100000
def XR_ (G : JG) (X : Nat) (σ : JH) : Prop := (gH_ G).size ≤ X ∧ sh_ σ X = some (.inl 0) ∧ rv_ σ X 7 = some (X + 2) ∧ rv_ σ X 8 = some (X + 3) ∧ (sh_ σ (X + 2) = some (.inl 2) ∧ sh_ σ (X + 3) = some (.inl 2)) ∧ gK_ G 100 < (gH_ G).size ∧ (rv_ σ X 0 = some (X + 1) ∧ sh_ σ (X + 1) = some (.inr (1, 1000))) ∧ (rv_ σ X 9 = some (X + 4) ∧ sh_ σ (X + 4) = some (.inr (0, 1024))) ∧ (rv_ σ X 10 = some (X + 5) ∧ sh_ σ (X + 5) = some (.inr (0, 6))) ∧ (rv_ σ X 11 = some (X + 6) ∧ sh_ σ (X + 6) = some (.inr (0, 7))) ∧ (rv_ σ X 12 = some (X + 7) ∧ sh_ σ (X + 7) = some (.inr (0, 7))) ∧ (rv_ σ X 13 = some (X + 8) ∧ sh_ σ (X + 8) = some (.inr (2, 288))) ∧ (rv_ σ X 14 = some (X + 9) ∧ sh_ σ (X + 9) = some (.inr (0, 256))) ∧ (rv_ σ X 15 = some (X + 10) ∧ sh_ σ (X + 10) = some (.inr (0, 5))) ∧ (rv_ σ X 18 = some (X + 11) ∧ sh_ σ (X + 11) = some (.inr (0, 49))) ∧ (rv_ σ X 19 = some (X + 12) ∧ sh_ σ (X + 12) = some (.inr (0, 896)))
/-- where a post and a desk lie: the post, the desk, its lists, their arrays, how long those are, what stands in them, the islands' songs -/
abbrev XT : Type := Nat × Nat × (Nat → Nat) × (Nat → Nat) × (Nat → Nat) × (Nat → Int → Nat) × (Int → Nat)
def xP_ (T : XT) : Nat := T.1
def xD_ (T : XT) : Nat := T.2.1
def xA_ (T : XT) : Nat → Nat := T.2.2.1
def xE_ (T : XT) : Nat → Nat := T.2.2.2.1
def xC_ (T : XT) : Nat → Nat := T.2.2.2.2.1
def xg_ (T : XT) : Nat → Int → Nat := T.2.2.2.2.2.1
def xS_ (T : XT) : Int → Nat := T.2.2.2.2.2.2
/-- a post as told, from lo on -/
def PQ_ (G : JG) (σ : JH) (lo : Nat) (T : XT) (r : Int → Int) : Prop :=
  (sh_ σ (xP_ T) = some (.inl 5) ∧ lo ≤ xP_ T ∧ iv_ σ (xP_ T) 0 = r 0 ∧ iv_ σ (xP_ T) 1 = r 1 ∧ iv_ σ (xP_ T) 2 = r 2 ∧ iv_ σ (xP_ T) 3 = r 3) ∧
  (rv_ σ (xP_ T) 4 = some (xA_ T 0) ∧ Ls_ G σ (xA_ T 0) (xE_ T 0) (xC_ T 0) (r 4) (xg_ T 0) ∧ lo ≤ xA_ T 0 ∧ (lo ≤ xE_ T 0 ∨ xE_ T 0 = gK_ G 100)) ∧ (rv_ σ (xP_ T) 5 = some (xA_ T 1) ∧ Ls_ G σ (xA_ T 1) (xE_ T 1) (xC_ T 1) (r 5) (xg_ T 1) ∧ lo ≤ xA_ T 1 ∧ (lo ≤ xE_ T 1 ∨ xE_ T 1 = gK_ G 100)) ∧ (rv_ σ (xP_ T) 6 = some (xA_ T 2) ∧ Ls_ G σ (xA_ T 2) (xE_ T 2) (xC_ T 2) (r 6) (xg_ T 2) ∧ lo ≤ xA_ T 2 ∧ (lo ≤ xE_ T 2 ∨ xE_ T 2 = gK_ G 100)) ∧ (rv_ σ (xP_ T) 7 = some (xA_ T 3) ∧ Ls_ G σ (xA_ T 3) (xE_ T 3) (xC_ T 3) (r 7) (xg_ T 3) ∧ lo ≤ xA_ T 3 ∧ (lo ≤ xE_ T 3 ∨ xE_ T 3 = gK_ G 100)) ∧ (rv_ σ (xP_ T) 8 = some (xA_ T 4) ∧ Ls_ G σ (xA_ T 4) (xE_ T 4) (xC_ T 4) (r 8) (xg_ T 4) ∧ lo ≤ xA_ T 4 ∧ (lo ≤ xE_ T 4 ∨ xE_ T 4 = gK_ G 100)) ∧
  (∀ i, 0 ≤ i → i < r 4 → sh_ σ (xg_ T 0 i) = some (.inl 9) ∧ lo ≤ xg_ T 0 i ∧ rv_ σ (xg_ T 0 i) 1 = some (xS_ T i) ∧ sh_ σ (xS_ T i) = some (.inr (0, (r (10 + 7 * i)).toNat)) ∧ lo ≤ xS_ T i ∧ ∀ k, 0 ≤ k → k < r (10 + 7 * i) → iv_ σ (xS_ T i) k = r (11 + 7 * i + k)) ∧
  (∀ k, 0 ≤ k → k < r 5 → sh_ σ (xg_ T 1 k) = some (.inl 10) ∧ lo ≤ xg_ T 1 k ∧ iv_ σ (xg_ T 1 k) 0 = r (59 + 4 * k) ∧ iv_ σ (xg_ T 1 k) 1 = r (60 + 4 * k) ∧ iv_ σ (xg_ T 1 k) 2 = r (61 + 4 * k) ∧ iv_ σ (xg_ T 1 k) 3 = r (62 + 4 * k)) ∧
  (∀ w, 0 ≤ w → w < r 6 → (∃ κ : Nat, κ < 4 ∧ r (107 + 4 * w) = (κ : Int) ∧ sh_ σ (xg_ T 2 w) = some (.inl (11 + κ))) ∧ lo ≤ xg_ T 2 w ∧ iv_ σ (xg_ T 2 w) 1 = r (108 + 4 * w) ∧ iv_ σ (xg_ T 2 w) 2 = r (109 + 4 * w) ∧ iv_ σ (xg_ T 2 w) 3 = r (110 + 4 * w)) ∧
  (∀ b, 0 ≤ b → b < r 7 → sh_ σ (xg_ T 3 b) = some (.inl 15) ∧ lo ≤ xg_ T 3 b ∧ iv_ σ (xg_ T 3 b) 1 = r (127 + 4 * b) ∧ iv_ σ (xg_ T 3 b) 2 = r (128 + 4 * b) ∧ iv_ σ (xg_ T 3 b) 3 = r (129 + 4 * b) ∧ iv_ σ (xg_ T 3 b) 4 = r (130 + 4 * b)) ∧
  (∀ k, 0 ≤ k → k < r 8 → sh_ σ (xg_ T 4 k) = some (.inl 16) ∧ lo ≤ xg_ T 4 k ∧ iv_ σ (xg_ T 4 k) 0 = r (159 + 3 * k) ∧ iv_ σ (xg_ T 4 k) 1 = r (160 + 3 * k) ∧ iv_ σ (xg_ T 4 k) 2 = r (161 + 3 * k))
/-- a desk, from lo on -/
def DQ_ (G : JG) (σ : JH) (lo D : Nat) (r s : Int → Int) : Prop :=
  (sh_ σ D = some (.inl 17) ∧ lo ≤ D ∧ iv_ σ D 5 = s 0 ∧ iv_ σ D 6 = s 1) ∧
  (rv_ σ D 0 = some (D + 1) ∧ sh_ σ (D + 1) = some (.inr (0, 5))) ∧ (rv_ σ D 1 = some (D + 2) ∧ sh_ σ (D + 2) = some (.inr (0, 5))) ∧ (rv_ σ D 2 = some (D + 3) ∧ sh_ σ (D + 3) = some (.inr (0, 8))) ∧ (rv_ σ D 3 = some (D + 4) ∧ sh_ σ (D + 4) = some (.inr (0, 8))) ∧ (rv_ σ D 4 = some (D + 5) ∧ sh_ σ (D + 5) = some (.inr (0, 48))) ∧
  (∀ w, 0 ≤ w → w < 5 → iv_ σ (D + 1) w = s (2 + w) ∧ iv_ σ (D + 2) w = s (7 + w)) ∧ (∀ b, 0 ≤ b → b < 8 → iv_ σ (D + 3) b = un_ (s (12 + b)) ∧ iv_ σ (D + 4) b = un_ (s (20 + b))) ∧
  (∀ b k, 0 ≤ b → b < r 7 → 0 ≤ k → k < bl_ r b → iv_ σ (D + 5) (6 * b + k) = s (28 + 6 * b + k))
/-- its object with a post and a desk -/
def XD_ (G : JG) (X : Nat) (σ : JH) (T : XT) (r s : Int → Int) : Prop := XR_ G X σ ∧ rv_ σ X 5 = some (xP_ T) ∧ rv_ σ X 6 = some (xD_ T) ∧ PQ_ G σ (X + 13) T r ∧ DQ_ G σ (X + 13) (xD_ T) r s
/-- with a post, or without -/
def XQ_ (G : JG) (X : Nat) (σ : JH) (p : Int) (T : XT) (r s : Int → Int) : Prop := XR_ G X σ ∧ ((p = 0 ∧ rv_ σ X 5 = none) ∨ (p = 1 ∧ XD_ G X σ T r s))
/-- its scratch -/
def xs_ (X : Nat) (b : Nat) (k : Int) : Prop := (X + 4 ≤ b ∧ b ≤ X + 12) ∨ (b = X ∧ (k = 16 ∨ k = 17))
/-- what its questions write -/
def xe_ (X : Nat) (b : Nat) (k : Int) : Prop := xs_ X b k ∨ (b = X ∧ (k = 3 ∨ k = 4))
section
variable {G : JG} {X : Nat} {σ σ' : JH} {T : XT} {r s : Int → Int} {lo D : Nat} {S : Nat → Int → Prop} {dc du : Nat}
theorem XR_.ge (h : XR_ G X σ) : (gH_ G).size ≤ X := h.1
theorem XR_.sh (h : XR_ G X σ) : sh_ σ X = some (.inl 0) := h.2.1
theorem XR_.f7 (h : XR_ G X σ) : rv_ σ X 7 = some (X + 2) := h.2.2.1
theorem XR_.f8 (h : XR_ G X σ) : rv_ σ X 8 = some (X + 3) := h.2.2.2.1
theorem XR_.h2 (h : XR_ G X σ) : sh_ σ (X + 2) = some (.inl 2) ∧ sh_ σ (X + 3) = some (.inl 2) := h.2.2.2.2.1
theorem XR_.k100 (h : XR_ G X σ) : gK_ G 100 < (gH_ G).size := h.2.2.2.2.2.1
theorem XR_.f0 (h : XR_ G X σ) : rv_ σ X 0 = some (X + 1) := h.2.2.2.2.2.2.1.1
theorem XR_.a0 (h : XR_ G X σ) : sh_ σ (X + 1) = some (.inr (1, 1000)) := h.2.2.2.2.2.2.1.2
theorem XR_.g0 (h : XR_ G X σ) : (gH_ G).size ≤ X + 1 := Nat.le_trans h.1 (Nat.le_add_right _ _)
theorem XR_.f9 (h : XR_ G X σ) : rv_ σ X 9 = some (X + 4) := h.2.2.2.2.2.2.2.1.1
theorem XR_.a9 (h : XR_ G X σ) : sh_ σ (X + 4) = some (.inr (0, 1024)) := h.2.2.2.2.2.2.2.1.2
theorem XR_.g9 (h : XR_ G X σ) : (gH_ G).size ≤ X + 4 := Nat.le_trans h.1 (Nat.le_add_right _ _)
theorem XR_.f10 (h : XR_ G X σ) : rv_ σ X 10 = some (X + 5) := h.2.2.2.2.2.2.2.2.1.1
theorem XR_.a10 (h : XR_ G X σ) : sh_ σ (X + 5) = some (.inr (0, 6)) := h.2.2.2.2.2.2.2.2.1.2
theorem XR_.g10 (h : XR_ G X σ) : (gH_ G).size ≤ X + 5 := Nat.le_trans h.1 (Nat.le_add_right _ _)
theorem XR_.f11 (h : XR_ G X σ) : rv_ σ X 11 = some (X + 6) := h.2.2.2.2.2.2.2.2.2.1.1
theorem XR_.a11 (h : XR_ G X σ) : sh_ σ (X + 6) = some (.inr (0, 7)) := h.2.2.2.2.2.2.2.2.2.1.2
theorem XR_.g11 (h : XR_ G X σ) : (gH_ G).size ≤ X + 6 := Nat.le_trans h.1 (Nat.le_add_right _ _)
theorem XR_.f12 (h : XR_ G X σ) : rv_ σ X 12 = some (X + 7) := h.2.2.2.2.2.2.2.2.2.2.1.1
theorem XR_.a12 (h : XR_ G X σ) : sh_ σ (X + 7) = some (.inr (0, 7)) := h.2.2.2.2.2.2.2.2.2.2.1.2
theorem XR_.g12 (h : XR_ G X σ) : (gH_ G).size ≤ X + 7 := Nat.le_trans h.1 (Nat.le_add_right _ _)
theorem XR_.f13 (h : XR_ G X σ) : rv_ σ X 13 = some (X + 8) := h.2.2.2.2.2.2.2.2.2.2.2.1.1
theorem XR_.a13 (h : XR_ G X σ) : sh_ σ (X + 8) = some (.inr (2, 288)) := h.2.2.2.2.2.2.2.2.2.2.2.1.2
theorem XR_.g13 (h : XR_ G X σ) : (gH_ G).size ≤ X + 8 := Nat.le_trans h.1 (Nat.le_add_right _ _)
theorem XR_.f14 (h : XR_ G X σ) : rv_ σ X 14 = some (X + 9) := h.2.2.2.2.2.2.2.2.2.2.2.2.1.1
theorem XR_.a14 (h : XR_ G X σ) : sh_ σ (X + 9) = some (.inr (0, 256)) := h.2.2.2.2.2.2.2.2.2.2.2.2.1.2
theorem XR_.g14 (h : XR_ G X σ) : (gH_ G).size ≤ X + 9 := Nat.le_trans h.1 (Nat.le_add_right _ _)
theorem XR_.f15 (h : XR_ G X σ) : rv_ σ X 15 = some (X + 10) := h.2.2.2.2.2.2.2.2.2.2.2.2.2.1.1
theorem XR_.a15 (h : XR_ G X σ) : sh_ σ (X + 10) = some (.inr (0, 5)) := h.2.2.2.2.2.2.2.2.2.2.2.2.2.1.2
theorem XR_.g15 (h : XR_ G X σ) : (gH_ G).size ≤ X + 10 := Nat.le_trans h.1 (Nat.le_add_right _ _)
theorem XR_.f18 (h : XR_ G X σ) : rv_ σ X 18 = some (X + 11) := h.2.2.2.2.2.2.2.2.2.2.2.2.2.2.1.1
theorem XR_.a18 (h : XR_ G X σ) : sh_ σ (X + 11) = some (.inr (0, 49)) := h.2.2.2.2.2.2.2.2.2.2.2.2.2.2.1.2
theorem XR_.g18 (h : XR_ G X σ) : (gH_ G).size ≤ X + 11 := Nat.le_trans h.1 (Nat.le_add_right _ _)
theorem XR_.f19 (h : XR_ G X σ) : rv_ σ X 19 = some (X + 12) := h.2.2.2.2.2.2.2.2.2.2.2.2.2.2.2.1
theorem XR_.a19 (h : XR_ G X σ) : sh_ σ (X + 12) = some (.inr (0, 896)) := h.2.2.2.2.2.2.2.2.2.2.2.2.2.2.2.2
theorem XR_.g19 (h : XR_ G X σ) : (gH_ G).size ≤ X + 12 := Nat.le_trans h.1 (Nat.le_add_right _ _)
theorem XR_.to (h : XR_ G X σ) (h1 : ∀ b, b ≤ X + 12 → sh_ σ' b = sh_ σ b) (h2 : ∀ k, k ≠ 5 → k ≠ 6 → rv_ σ' X k = rv_ σ X k) : XR_ G X σ' := by
  unfold XR_ at *
  rw [h1 X (by omega), h1 (X + 2) (by omega), h1 (X + 3) (by omega), h2 7 (by decide) (by decide), h2 8 (by decide) (by decide), h1 (X + 1) (by omega), h2 0 (by decide) (by decide), h1 (X + 4) (by omega), h2 9 (by decide) (by decide), h1 (X + 5) (by omega), h2 10 (by decide) (by decide), h1 (X + 6) (by omega), h2 11 (by decide) (by decide), h1 (X + 7) (by omega), h2 12 (by decide) (by decide), h1 (X + 8) (by omega), h2 13 (by decide) (by decide), h1 (X + 9) (by omega), h2 14 (by decide) (by decide), h1 (X + 10) (by omega), h2 15 (by decide) (by decide), h1 (X + 11) (by omega), h2 18 (by decide) (by decide), h1 (X + 12) (by omega), h2 19 (by decide) (by decide)]
  exact h
theorem XR_.lt (h : XR_ G X σ) (hlt : ∀ a s, sh_ σ a = some s → a < sz_ σ) : X + 12 < sz_ σ := hlt _ _ h.a19
theorem XR_.fr (h : XR_ G X σ) (f : Fr_ S σ σ') : XR_ G X σ' := h.to (fun b _ => f.1 b) (fun k _ _ => f.2.1 X k)
theorem XR_.gw (h : XR_ G X σ) (f : Gw_ S dc du σ σ') (hlt : ∀ a s, sh_ σ a = some s → a < sz_ σ) (hS : ∀ k, S X k → k = 3 ∨ k = 4 ∨ k = 5 ∨ k = 6 ∨ k = 16 ∨ k = 17 ∨ k = 1 ∨ k = 2) (hS2 : ∀ k, k ≠ 5 → k ≠ 6 → rv_ σ' X k = rv_ σ X k) : XR_ G X σ' := by
  have := h.lt hlt
  exact h.to (fun b hb => f.1 b (by omega)) hS2
theorem XD_.R (h : XD_ G X σ T r s) : XR_ G X σ := h.1
theorem XD_.f5 (h : XD_ G X σ T r s) : rv_ σ X 5 = some (xP_ T) := h.2.1
theorem XD_.f6 (h : XD_ G X σ T r s) : rv_ σ X 6 = some (xD_ T) := h.2.2.1
theorem XD_.P (h : XD_ G X σ T r s) : PQ_ G σ (X + 13) T r := h.2.2.2.1
theorem XD_.K (h : XD_ G X σ T r s) : DQ_ G σ (X + 13) (xD_ T) r s := h.2.2.2.2
theorem PQ_.sh (h : PQ_ G σ lo T r) : sh_ σ (xP_ T) = some (.inl 5) := h.1.1
theorem PQ_.n0 (h : PQ_ G σ lo T r) : iv_ σ (xP_ T) 0 = r 0 := h.1.2.2.1
theorem PQ_.n1 (h : PQ_ G σ lo T r) : iv_ σ (xP_ T) 1 = r 1 := h.1.2.2.2.1
theorem PQ_.n2 (h : PQ_ G σ lo T r) : iv_ σ (xP_ T) 2 = r 2 := h.1.2.2.2.2.1
theorem PQ_.n3 (h : PQ_ G σ lo T r) : iv_ σ (xP_ T) 3 = r 3 := h.1.2.2.2.2.2
theorem PQ_.f4 (h : PQ_ G σ lo T r) : rv_ σ (xP_ T) 4 = some (xA_ T 0) := h.2.1.1
theorem PQ_.l0 (h : PQ_ G σ lo T r) : Ls_ G σ (xA_ T 0) (xE_ T 0) (xC_ T 0) (r 4) (xg_ T 0) := h.2.1.2.1
theorem PQ_.f5 (h : PQ_ G σ lo T r) : rv_ σ (xP_ T) 5 = some (xA_ T 1) := h.2.2.1.1
theorem PQ_.l1 (h : PQ_ G σ lo T r) : Ls_ G σ (xA_ T 1) (xE_ T 1) (xC_ T 1) (r 5) (xg_ T 1) := h.2.2.1.2.1
theorem PQ_.f6 (h : PQ_ G σ lo T r) : rv_ σ (xP_ T) 6 = some (xA_ T 2) := h.2.2.2.1.1
theorem PQ_.l2 (h : PQ_ G σ lo T r) : Ls_ G σ (xA_ T 2) (xE_ T 2) (xC_ T 2) (r 6) (xg_ T 2) := h.2.2.2.1.2.1
theorem PQ_.f7 (h : PQ_ G σ lo T r) : rv_ σ (xP_ T) 7 = some (xA_ T 3) := h.2.2.2.2.1.1
theorem PQ_.l3 (h : PQ_ G σ lo T r) : Ls_ G σ (xA_ T 3) (xE_ T 3) (xC_ T 3) (r 7) (xg_ T 3) := h.2.2.2.2.1.2.1
theorem PQ_.f8 (h : PQ_ G σ lo T r) : rv_ σ (xP_ T) 8 = some (xA_ T 4) := h.2.2.2.2.2.1.1
theorem PQ_.l4 (h : PQ_ G σ lo T r) : Ls_ G σ (xA_ T 4) (xE_ T 4) (xC_ T 4) (r 8) (xg_ T 4) := h.2.2.2.2.2.1.2.1
theorem PQ_.isl (h : PQ_ G σ lo T r) {i : Int} (h0 : 0 ≤ i) (h1 : i < r 4) : sh_ σ (xg_ T 0 i) = some (.inl 9) ∧ lo ≤ xg_ T 0 i ∧ rv_ σ (xg_ T 0 i) 1 = some (xS_ T i) ∧ sh_ σ (xS_ T i) = some (.inr (0, (r (10 + 7 * i)).toNat)) ∧ lo ≤ xS_ T i ∧ ∀ k, 0 ≤ k → k < r (10 + 7 * i) → iv_ σ (xS_ T i) k = r (11 + 7 * i + k) := h.2.2.2.2.2.2.1 i h0 h1
theorem PQ_.way (h : PQ_ G σ lo T r) {k : Int} (h0 : 0 ≤ k) (h1 : k < r 5) : sh_ σ (xg_ T 1 k) = some (.inl 10) ∧ lo ≤ xg_ T 1 k ∧ iv_ σ (xg_ T 1 k) 0 = r (59 + 4 * k) ∧ iv_ σ (xg_ T 1 k) 1 = r (60 + 4 * k) ∧ iv_ σ (xg_ T 1 k) 2 = r (61 + 4 * k) ∧ iv_ σ (xg_ T 1 k) 3 = r (62 + 4 * k) := h.2.2.2.2.2.2.2.1 k h0 h1
theorem PQ_.whl (h : PQ_ G σ lo T r) {w : Int} (h0 : 0 ≤ w) (h1 : w < r 6) : (∃ κ : Nat, κ < 4 ∧ r (107 + 4 * w) = (κ : Int) ∧ sh_ σ (xg_ T 2 w) = some (.inl (11 + κ))) ∧ lo ≤ xg_ T 2 w ∧ iv_ σ (xg_ T 2 w) 1 = r (108 + 4 * w) ∧ iv_ σ (xg_ T 2 w) 2 = r (109 + 4 * w) ∧ iv_ σ (xg_ T 2 w) 3 = r (110 + 4 * w) := h.2.2.2.2.2.2.2.2.1 w h0 h1
theorem PQ_.box (h : PQ_ G σ lo T r) {b : Int} (h0 : 0 ≤ b) (h1 : b < r 7) : sh_ σ (xg_ T 3 b) = some (.inl 15) ∧ lo ≤ xg_ T 3 b ∧ iv_ σ (xg_ T 3 b) 1 = r (127 + 4 * b) ∧ iv_ σ (xg_ T 3 b) 2 = r (128 + 4 * b) ∧ iv_ σ (xg_ T 3 b) 3 = r (129 + 4 * b) ∧ iv_ σ (xg_ T 3 b) 4 = r (130 + 4 * b) := h.2.2.2.2.2.2.2.2.2.1 b h0 h1
theorem PQ_.spt (h : PQ_ G σ lo T r) {k : Int} (h0 : 0 ≤ k) (h1 : k < r 8) : sh_ σ (xg_ T 4 k) = some (.inl 16) ∧ lo ≤ xg_ T 4 k ∧ iv_ σ (xg_ T 4 k) 0 = r (159 + 3 * k) ∧ iv_ σ (xg_ T 4 k) 1 = r (160 + 3 * k) ∧ iv_ σ (xg_ T 4 k) 2 = r (161 + 3 * k) := h.2.2.2.2.2.2.2.2.2.2 k h0 h1
theorem DQ_.sh (h : DQ_ G σ lo D r s) : sh_ σ D = some (.inl 17) := h.1.1
theorem DQ_.y (h : DQ_ G σ lo D r s) : iv_ σ D 5 = s 0 := h.1.2.2.1
theorem DQ_.c (h : DQ_ G σ lo D r s) : iv_ σ D 6 = s 1 := h.1.2.2.2
theorem DQ_.f0 (h : DQ_ G σ lo D r s) : rv_ σ D 0 = some (D + 1) := h.2.1.1
theorem DQ_.a0 (h : DQ_ G σ lo D r s) : sh_ σ (D + 1) = some (.inr (0, 5)) := h.2.1.2
theorem DQ_.f1 (h : DQ_ G σ lo D r s) : rv_ σ D 1 = some (D + 2) := h.2.2.1.1
theorem DQ_.a1 (h : DQ_ G σ lo D r s) : sh_ σ (D + 2) = some (.inr (0, 5)) := h.2.2.1.2
theorem DQ_.f2 (h : DQ_ G σ lo D r s) : rv_ σ D 2 = some (D + 3) := h.2.2.2.1.1
theorem DQ_.a2 (h : DQ_ G σ lo D r s) : sh_ σ (D + 3) = some (.inr (0, 8)) := h.2.2.2.1.2
theorem DQ_.f3 (h : DQ_ G σ lo D r s) : rv_ σ D 3 = some (D + 4) := h.2.2.2.2.1.1
theorem DQ_.a3 (h : DQ_ G σ lo D r s) : sh_ σ (D + 4) = some (.inr (0, 8)) := h.2.2.2.2.1.2
theorem DQ_.f4 (h : DQ_ G σ lo D r s) : rv_ σ D 4 = some (D + 5) := h.2.2.2.2.2.1.1
theorem DQ_.a4 (h : DQ_ G σ lo D r s) : sh_ σ (D + 5) = some (.inr (0, 48)) := h.2.2.2.2.2.1.2
theorem DQ_.wh (h : DQ_ G σ lo D r s) {w : Int} (h0 : 0 ≤ w) (h1 : w < 5) : iv_ σ (D + 1) w = s (2 + w) ∧ iv_ σ (D + 2) w = s (7 + w) := h.2.2.2.2.2.2.1 w h0 h1
theorem DQ_.bx (h : DQ_ G σ lo D r s) {b : Int} (h0 : 0 ≤ b) (h1 : b < 8) : iv_ σ (D + 3) b = un_ (s (12 + b)) ∧ iv_ σ (D + 4) b = un_ (s (20 + b)) := h.2.2.2.2.2.2.2.1 b h0 h1
theorem DQ_.sg (h : DQ_ G σ lo D r s) {b k : Int} (h0 : 0 ≤ b) (h1 : b < r 7) (h2 : 0 ≤ k) (h3 : k < bl_ r b) : iv_ σ (D + 5) (6 * b + k) = s (28 + 6 * b + k) := h.2.2.2.2.2.2.2.2 b k h0 h1 h2 h3
/-- a desk moves along -/
theorem DQ_.gw (h : DQ_ G σ lo D r s) (f : Gw_ S dc du σ σ') (hlt : ∀ a s, sh_ σ a = some s → a < sz_ σ) (hS : ∀ b k, S b k → b < lo) : DQ_ G σ' lo D r s := by
  have hlo := h.1.2.1
  have ld := hlt _ _ h.sh
  have l1 := hlt _ _ h.a0
  have l2 := hlt _ _ h.a1
  have l3 := hlt _ _ h.a2
  have l4 := hlt _ _ h.a3
  have l5 := hlt _ _ h.a4
  have e : ∀ b k, D ≤ b → b < sz_ σ → rv_ σ' b k = rv_ σ b k ∧ iv_ σ' b k = iv_ σ b k := fun b k hb hz => f.2.1 b k hz (fun q => by have := hS _ _ q; omega)
  refine ⟨⟨(f.1 _ ld).trans h.sh, hlo, (e D 5 (by omega) ld).2.trans h.y, (e D 6 (by omega) ld).2.trans h.c⟩, ⟨(e D 0 (by omega) ld).1.trans h.f0, (f.1 _ l1).trans h.a0⟩, ⟨(e D 1 (by omega) ld).1.trans h.f1, (f.1 _ l2).trans h.a1⟩, ⟨(e D 2 (by omega) ld).1.trans h.f2, (f.1 _ l3).trans h.a2⟩, ⟨(e D 3 (by omega) ld).1.trans h.f3, (f.1 _ l4).trans h.a3⟩, ⟨(e D 4 (by omega) ld).1.trans h.f4, (f.1 _ l5).trans h.a4⟩, fun w w0 w1 => ⟨(e _ _ (by omega) l1).2.trans (h.wh w0 w1).1, (e _ _ (by omega) l2).2.trans (h.wh w0 w1).2⟩, fun b b0 b1 => ⟨(e _ _ (by omega) l3).2.trans (h.bx b0 b1).1, (e _ _ (by omega) l4).2.trans (h.bx b0 b1).2⟩, fun b k b0 b1 k0 k1 => (e _ _ (by omega) l5).2.trans (h.sg b0 b1 k0 k1)⟩
/-- a post moves along -/
theorem PQ_.gw (h : PQ_ G σ lo T r) (f : Gw_ S dc du σ σ') (hlt : ∀ a s, sh_ σ a = some s → a < sz_ σ) (hS : ∀ b k, S b k → b < lo ∧ (gH_ G).size ≤ b) (hG : gK_ G 100 < (gH_ G).size) : PQ_ G σ' lo T r := by
  have e : ∀ b k, (lo ≤ b ∨ b = gK_ G 100) → b < sz_ σ → rv_ σ' b k = rv_ σ b k ∧ iv_ σ' b k = iv_ σ b k := fun b k hb hz => f.2.1 b k hz (fun q => by have := hS _ _ q; omega)
  have lp := hlt _ _ h.sh
  have lop := h.1.2.1
  have L : ∀ i n, Ls_ G σ (xA_ T i) (xE_ T i) (xC_ T i) n (xg_ T i) → lo ≤ xA_ T i → (lo ≤ xE_ T i ∨ xE_ T i = gK_ G 100) → Ls_ G σ' (xA_ T i) (xE_ T i) (xC_ T i) n (xg_ T i) := fun i n hl h1 h2 => hl.gw f hlt (fun k q => by have := hS _ _ q; omega) (fun k q => by have := hS _ _ q; omega)
  obtain ⟨⟨q1, q2, q3, q4, q5, q6⟩, ⟨u0, v0, w0, x0⟩, ⟨u1, v1, w1, x1⟩, ⟨u2, v2, w2, x2⟩, ⟨u3, v3, w3, x3⟩, ⟨u4, v4, w4, x4⟩, qi, qw, qh, qb, qs⟩ := h
  refine ⟨⟨(f.1 _ lp).trans q1, q2, (e _ _ (Or.inl lop) lp).2.trans q3, (e _ _ (Or.inl lop) lp).2.trans q4, (e _ _ (Or.inl lop) lp).2.trans q5, (e _ _ (Or.inl lop) lp).2.trans q6⟩, ⟨(e _ _ (Or.inl lop) lp).1.trans u0, L 0 _ v0 w0 x0, w0, x0⟩, ⟨(e _ _ (Or.inl lop) lp).1.trans u1, L 1 _ v1 w1 x1, w1, x1⟩, ⟨(e _ _ (Or.inl lop) lp).1.trans u2, L 2 _ v2 w2 x2, w2, x2⟩, ⟨(e _ _ (Or.inl lop) lp).1.trans u3, L 3 _ v3 w3 x3, w3, x3⟩, ⟨(e _ _ (Or.inl lop) lp).1.trans u4, L 4 _ v4 w4 x4, w4, x4⟩, fun i i0 i1 => ?_, fun k k0 k1 => ?_, fun w w0 w1 => ?_, fun b b0 b1 => ?_, fun k k0 k1 => ?_⟩
  · obtain ⟨a1, a2, a3, a4, a5, a6⟩ := qi i i0 i1
    have l1 := hlt _ _ a1
    have l2 := hlt _ _ a4
    exact ⟨(f.1 _ l1).trans a1, a2, (e _ _ (Or.inl a2) l1).1.trans a3, (f.1 _ l2).trans a4, a5, fun k k0 k1 => (e _ _ (Or.inl a5) l2).2.trans (a6 k k0 k1)⟩
  · obtain ⟨a1, a2, a3, a4, a5, a6⟩ := qw k k0 k1
    have l1 := hlt _ _ a1
    exact ⟨(f.1 _ l1).trans a1, a2, (e _ _ (Or.inl a2) l1).2.trans a3, (e _ _ (Or.inl a2) l1).2.trans a4, (e _ _ (Or.inl a2) l1).2.trans a5, (e _ _ (Or.inl a2) l1).2.trans a6⟩
  · obtain ⟨⟨κ, c1, c2, a1⟩, a2, a3, a4, a5⟩ := qh w w0 w1
    have l1 := hlt _ _ a1
    exact ⟨⟨κ, c1, c2, (f.1 _ l1).trans a1⟩, a2, (e _ _ (Or.inl a2) l1).2.trans a3, (e _ _ (Or.inl a2) l1).2.trans a4, (e _ _ (Or.inl a2) l1).2.trans a5⟩
  · obtain ⟨a1, a2, a3, a4, a5, a6⟩ := qb b b0 b1
    have l1 := hlt _ _ a1
    exact ⟨(f.1 _ l1).trans a1, a2, (e _ _ (Or.inl a2) l1).2.trans a3, (e _ _ (Or.inl a2) l1).2.trans a4, (e _ _ (Or.inl a2) l1).2.trans a5, (e _ _ (Or.inl a2) l1).2.trans a6⟩
  · obtain ⟨a1, a2, a3, a4, a5⟩ := qs k k0 k1
    have l1 := hlt _ _ a1
    exact ⟨(f.1 _ l1).trans a1, a2, (e _ _ (Or.inl a2) l1).2.trans a3, (e _ _ (Or.inl a2) l1).2.trans a4, (e _ _ (Or.inl a2) l1).2.trans a5⟩
/-- by what it writes itself -/
theorem XD_.gw (h : XD_ G X σ T r s) (f : Gw_ (xe_ X) dc du σ σ') (hlt : ∀ a s, sh_ σ a = some s → a < sz_ σ) (hr : ∀ k, rv_ σ' X k = rv_ σ X k) : XD_ G X σ' T r s := by
  have hl := h.R.lt hlt
  have hge := h.R.ge
  exact ⟨h.R.to (fun b hb => f.1 b (by omega)) (fun k _ _ => hr k), (hr 5).trans h.f5, (hr 6).trans h.f6, h.P.gw f hlt (fun b k q => by unfold xe_ xs_ at q; omega) h.R.k100, h.K.gw f hlt (fun b k q => by unfold xe_ xs_ at q; omega)⟩
theorem XD_.fr (h : XD_ G X σ T r s) (f : Fr_ (xe_ X) σ σ') (hlt : ∀ a s, sh_ σ a = some s → a < sz_ σ) : XD_ G X σ' T r s := h.gw f.gw hlt (fun k => f.2.1 X k)
theorem XD_.xs (h : XD_ G X σ T r s) (f : Fr_ (xs_ X) σ σ') (hlt : ∀ a s, sh_ σ a = some s → a < sz_ σ) : XD_ G X σ' T r s := h.fr (f.mono fun _ _ q => Or.inl q) hlt
theorem lt_fr (hlt : ∀ a s, sh_ σ a = some s → a < sz_ σ) (f : Fr_ S σ σ') : ∀ a s, sh_ σ' a = some s → a < sz_ σ' := fun a s h => by rw [f.2.2.1]; exact hlt a s (by rw [← f.1]; exact h)
theorem XQ_.gw {p : Int} (h : XQ_ G X σ p T r s) (f : Gw_ (xe_ X) dc du σ σ') (hlt : ∀ a s, sh_ σ a = some s → a < sz_ σ) (hr : ∀ k, rv_ σ' X k = rv_ σ X k) : XQ_ G X σ' p T r s := by
  have hl := h.1.lt hlt
  refine ⟨h.1.to (fun b hb => f.1 b (by omega)) (fun k _ _ => hr k), ?_⟩
  rcases h.2 with q | q
  · exact Or.inl ⟨q.1, (hr 5).trans q.2⟩
  · exact Or.inr ⟨q.1, q.2.gw f hlt hr⟩
end
