/-! THE REFERENCE'S WORLD: its object at m, its arrays at m + 1 .. m + 16. Written by mod/m30_world.py -/
set_option maxRecDepth 100000
theorem q_oi1 : Cond.instanceMethod objectInit ∈ lw_all := q170
theorem q_oi2 : Cond.code objectInit ⟨#[0xb1]⟩ 1 none ∈ lw_all := q171
def MR_ (G : JG) (m : Nat) (σ : JH) : Prop := (gH_ G).size ≤ m ∧ sh_ σ m = some (.inl 1) ∧ (rv_ σ m 1 = some (m + 1) ∧ sh_ σ (m + 1) = some (.inr (0, 1000))) ∧ (rv_ σ m 12 = some (m + 2) ∧ sh_ σ (m + 2) = some (.inr (0, 8))) ∧ (rv_ σ m 15 = some (m + 3) ∧ sh_ σ (m + 3) = some (.inr (0, 363))) ∧ (rv_ σ m 16 = some (m + 4) ∧ sh_ σ (m + 4) = some (.inr (0, 363))) ∧ (rv_ σ m 17 = some (m + 5) ∧ sh_ σ (m + 5) = some (.inr (0, 76))) ∧ (rv_ σ m 18 = some (m + 6) ∧ sh_ σ (m + 6) = some (.inr (0, 912))) ∧ (rv_ σ m 19 = some (m + 7) ∧ sh_ σ (m + 7) = some (.inr (0, 228))) ∧ (rv_ σ m 22 = some (m + 8) ∧ sh_ σ (m + 8) = some (.inr (0, 3200))) ∧ (rv_ σ m 24 = some (m + 9) ∧ sh_ σ (m + 9) = some (.inr (0, 7))) ∧ (rv_ σ m 25 = some (m + 10) ∧ sh_ σ (m + 10) = some (.inr (0, 7))) ∧ (rv_ σ m 28 = some (m + 11) ∧ sh_ σ (m + 11) = some (.inr (0, 8))) ∧ (rv_ σ m 29 = some (m + 12) ∧ sh_ σ (m + 12) = some (.inr (0, 8))) ∧ (rv_ σ m 30 = some (m + 13) ∧ sh_ σ (m + 13) = some (.inr (0, 40))) ∧ (rv_ σ m 35 = some (m + 14) ∧ sh_ σ (m + 14) = some (.inr (0, 49))) ∧ (rv_ σ m 36 = some (m + 15) ∧ sh_ σ (m + 15) = some (.inr (0, 7))) ∧ (rv_ σ m 37 = some (m + 16) ∧ sh_ σ (m + 16) = some (.inr (0, 7)))
section
variable {G : JG} {m : Nat} {σ : JH}
theorem MR_.ge (h : MR_ G m σ) : (gH_ G).size ≤ m := h.1
theorem MR_.sh (h : MR_ G m σ) : sh_ σ m = some (.inl 1) := h.2.1
theorem MR_.f1 (h : MR_ G m σ) : rv_ σ m 1 = some (m + 1) := h.2.2.1.1
theorem MR_.a1 (h : MR_ G m σ) : sh_ σ (m + 1) = some (.inr (0, 1000)) := h.2.2.1.2
theorem MR_.g1 (h : MR_ G m σ) : (gH_ G).size ≤ m + 1 := Nat.le_trans h.1 (Nat.le_add_right _ _)
theorem MR_.f12 (h : MR_ G m σ) : rv_ σ m 12 = some (m + 2) := h.2.2.2.1.1
theorem MR_.a12 (h : MR_ G m σ) : sh_ σ (m + 2) = some (.inr (0, 8)) := h.2.2.2.1.2
theorem MR_.g12 (h : MR_ G m σ) : (gH_ G).size ≤ m + 2 := Nat.le_trans h.1 (Nat.le_add_right _ _)
theorem MR_.f15 (h : MR_ G m σ) : rv_ σ m 15 = some (m + 3) := h.2.2.2.2.1.1
theorem MR_.a15 (h : MR_ G m σ) : sh_ σ (m + 3) = some (.inr (0, 363)) := h.2.2.2.2.1.2
theorem MR_.g15 (h : MR_ G m σ) : (gH_ G).size ≤ m + 3 := Nat.le_trans h.1 (Nat.le_add_right _ _)
theorem MR_.f16 (h : MR_ G m σ) : rv_ σ m 16 = some (m + 4) := h.2.2.2.2.2.1.1
theorem MR_.a16 (h : MR_ G m σ) : sh_ σ (m + 4) = some (.inr (0, 363)) := h.2.2.2.2.2.1.2
theorem MR_.g16 (h : MR_ G m σ) : (gH_ G).size ≤ m + 4 := Nat.le_trans h.1 (Nat.le_add_right _ _)
theorem MR_.f17 (h : MR_ G m σ) : rv_ σ m 17 = some (m + 5) := h.2.2.2.2.2.2.1.1
theorem MR_.a17 (h : MR_ G m σ) : sh_ σ (m + 5) = some (.inr (0, 76)) := h.2.2.2.2.2.2.1.2
theorem MR_.g17 (h : MR_ G m σ) : (gH_ G).size ≤ m + 5 := Nat.le_trans h.1 (Nat.le_add_right _ _)
theorem MR_.f18 (h : MR_ G m σ) : rv_ σ m 18 = some (m + 6) := h.2.2.2.2.2.2.2.1.1
theorem MR_.a18 (h : MR_ G m σ) : sh_ σ (m + 6) = some (.inr (0, 912)) := h.2.2.2.2.2.2.2.1.2
theorem MR_.g18 (h : MR_ G m σ) : (gH_ G).size ≤ m + 6 := Nat.le_trans h.1 (Nat.le_add_right _ _)
theorem MR_.f19 (h : MR_ G m σ) : rv_ σ m 19 = some (m + 7) := h.2.2.2.2.2.2.2.2.1.1
theorem MR_.a19 (h : MR_ G m σ) : sh_ σ (m + 7) = some (.inr (0, 228)) := h.2.2.2.2.2.2.2.2.1.2
theorem MR_.g19 (h : MR_ G m σ) : (gH_ G).size ≤ m + 7 := Nat.le_trans h.1 (Nat.le_add_right _ _)
theorem MR_.f22 (h : MR_ G m σ) : rv_ σ m 22 = some (m + 8) := h.2.2.2.2.2.2.2.2.2.1.1
theorem MR_.a22 (h : MR_ G m σ) : sh_ σ (m + 8) = some (.inr (0, 3200)) := h.2.2.2.2.2.2.2.2.2.1.2
theorem MR_.g22 (h : MR_ G m σ) : (gH_ G).size ≤ m + 8 := Nat.le_trans h.1 (Nat.le_add_right _ _)
theorem MR_.f24 (h : MR_ G m σ) : rv_ σ m 24 = some (m + 9) := h.2.2.2.2.2.2.2.2.2.2.1.1
theorem MR_.a24 (h : MR_ G m σ) : sh_ σ (m + 9) = some (.inr (0, 7)) := h.2.2.2.2.2.2.2.2.2.2.1.2
theorem MR_.g24 (h : MR_ G m σ) : (gH_ G).size ≤ m + 9 := Nat.le_trans h.1 (Nat.le_add_right _ _)
theorem MR_.f25 (h : MR_ G m σ) : rv_ σ m 25 = some (m + 10) := h.2.2.2.2.2.2.2.2.2.2.2.1.1
theorem MR_.a25 (h : MR_ G m σ) : sh_ σ (m + 10) = some (.inr (0, 7)) := h.2.2.2.2.2.2.2.2.2.2.2.1.2
theorem MR_.g25 (h : MR_ G m σ) : (gH_ G).size ≤ m + 10 := Nat.le_trans h.1 (Nat.le_add_right _ _)
theorem MR_.f28 (h : MR_ G m σ) : rv_ σ m 28 = some (m + 11) := h.2.2.2.2.2.2.2.2.2.2.2.2.1.1
theorem MR_.a28 (h : MR_ G m σ) : sh_ σ (m + 11) = some (.inr (0, 8)) := h.2.2.2.2.2.2.2.2.2.2.2.2.1.2
theorem MR_.g28 (h : MR_ G m σ) : (gH_ G).size ≤ m + 11 := Nat.le_trans h.1 (Nat.le_add_right _ _)
theorem MR_.f29 (h : MR_ G m σ) : rv_ σ m 29 = some (m + 12) := h.2.2.2.2.2.2.2.2.2.2.2.2.2.1.1
theorem MR_.a29 (h : MR_ G m σ) : sh_ σ (m + 12) = some (.inr (0, 8)) := h.2.2.2.2.2.2.2.2.2.2.2.2.2.1.2
theorem MR_.g29 (h : MR_ G m σ) : (gH_ G).size ≤ m + 12 := Nat.le_trans h.1 (Nat.le_add_right _ _)
theorem MR_.f30 (h : MR_ G m σ) : rv_ σ m 30 = some (m + 13) := h.2.2.2.2.2.2.2.2.2.2.2.2.2.2.1.1
theorem MR_.a30 (h : MR_ G m σ) : sh_ σ (m + 13) = some (.inr (0, 40)) := h.2.2.2.2.2.2.2.2.2.2.2.2.2.2.1.2
theorem MR_.g30 (h : MR_ G m σ) : (gH_ G).size ≤ m + 13 := Nat.le_trans h.1 (Nat.le_add_right _ _)
theorem MR_.f35 (h : MR_ G m σ) : rv_ σ m 35 = some (m + 14) := h.2.2.2.2.2.2.2.2.2.2.2.2.2.2.2.1.1
theorem MR_.a35 (h : MR_ G m σ) : sh_ σ (m + 14) = some (.inr (0, 49)) := h.2.2.2.2.2.2.2.2.2.2.2.2.2.2.2.1.2
theorem MR_.g35 (h : MR_ G m σ) : (gH_ G).size ≤ m + 14 := Nat.le_trans h.1 (Nat.le_add_right _ _)
theorem MR_.f36 (h : MR_ G m σ) : rv_ σ m 36 = some (m + 15) := h.2.2.2.2.2.2.2.2.2.2.2.2.2.2.2.2.1.1
theorem MR_.a36 (h : MR_ G m σ) : sh_ σ (m + 15) = some (.inr (0, 7)) := h.2.2.2.2.2.2.2.2.2.2.2.2.2.2.2.2.1.2
theorem MR_.g36 (h : MR_ G m σ) : (gH_ G).size ≤ m + 15 := Nat.le_trans h.1 (Nat.le_add_right _ _)
theorem MR_.f37 (h : MR_ G m σ) : rv_ σ m 37 = some (m + 16) := h.2.2.2.2.2.2.2.2.2.2.2.2.2.2.2.2.2.1
theorem MR_.a37 (h : MR_ G m σ) : sh_ σ (m + 16) = some (.inr (0, 7)) := h.2.2.2.2.2.2.2.2.2.2.2.2.2.2.2.2.2.2
theorem MR_.g37 (h : MR_ G m σ) : (gH_ G).size ≤ m + 16 := Nat.le_trans h.1 (Nat.le_add_right _ _)
theorem MR_.to {σ' : JH} (h : MR_ G m σ) (h1 : ∀ b, sh_ σ' b = sh_ σ b) (h2 : ∀ b k, rv_ σ' b k = rv_ σ b k) : MR_ G m σ' := by
  unfold MR_ at *
  simp only [h1, h2]
  exact h
/-- the reference's world, what is told (r) and what is now (s) named -/
def MD_ (G : JG) (m : Nat) (σ : JH) (r s : Int → Int) : Prop := MR_ G m σ ∧ (∀ k, iv_ σ (m + 3) k = r k) ∧ ∀ k, iv_ σ (m + 5) k = s k
variable {r s : Int → Int}
theorem MD_.ge (h : MD_ G m σ r s) : (gH_ G).size ≤ m := h.1.ge
theorem MD_.sh (h : MD_ G m σ r s) : sh_ σ m = some (.inl 1) := h.1.sh
theorem MD_.f1 (h : MD_ G m σ r s) : rv_ σ m 1 = some (m + 1) := h.1.f1
theorem MD_.a1 (h : MD_ G m σ r s) : sh_ σ (m + 1) = some (.inr (0, 1000)) := h.1.a1
theorem MD_.g1 (h : MD_ G m σ r s) : (gH_ G).size ≤ m + 1 := h.1.g1
theorem MD_.f12 (h : MD_ G m σ r s) : rv_ σ m 12 = some (m + 2) := h.1.f12
theorem MD_.a12 (h : MD_ G m σ r s) : sh_ σ (m + 2) = some (.inr (0, 8)) := h.1.a12
theorem MD_.g12 (h : MD_ G m σ r s) : (gH_ G).size ≤ m + 2 := h.1.g12
theorem MD_.f15 (h : MD_ G m σ r s) : rv_ σ m 15 = some (m + 3) := h.1.f15
theorem MD_.a15 (h : MD_ G m σ r s) : sh_ σ (m + 3) = some (.inr (0, 363)) := h.1.a15
theorem MD_.g15 (h : MD_ G m σ r s) : (gH_ G).size ≤ m + 3 := h.1.g15
theorem MD_.f16 (h : MD_ G m σ r s) : rv_ σ m 16 = some (m + 4) := h.1.f16
theorem MD_.a16 (h : MD_ G m σ r s) : sh_ σ (m + 4) = some (.inr (0, 363)) := h.1.a16
theorem MD_.g16 (h : MD_ G m σ r s) : (gH_ G).size ≤ m + 4 := h.1.g16
theorem MD_.f17 (h : MD_ G m σ r s) : rv_ σ m 17 = some (m + 5) := h.1.f17
theorem MD_.a17 (h : MD_ G m σ r s) : sh_ σ (m + 5) = some (.inr (0, 76)) := h.1.a17
theorem MD_.g17 (h : MD_ G m σ r s) : (gH_ G).size ≤ m + 5 := h.1.g17
theorem MD_.f18 (h : MD_ G m σ r s) : rv_ σ m 18 = some (m + 6) := h.1.f18
theorem MD_.a18 (h : MD_ G m σ r s) : sh_ σ (m + 6) = some (.inr (0, 912)) := h.1.a18
theorem MD_.g18 (h : MD_ G m σ r s) : (gH_ G).size ≤ m + 6 := h.1.g18
theorem MD_.f19 (h : MD_ G m σ r s) : rv_ σ m 19 = some (m + 7) := h.1.f19
theorem MD_.a19 (h : MD_ G m σ r s) : sh_ σ (m + 7) = some (.inr (0, 228)) := h.1.a19
theorem MD_.g19 (h : MD_ G m σ r s) : (gH_ G).size ≤ m + 7 := h.1.g19
theorem MD_.f22 (h : MD_ G m σ r s) : rv_ σ m 22 = some (m + 8) := h.1.f22
theorem MD_.a22 (h : MD_ G m σ r s) : sh_ σ (m + 8) = some (.inr (0, 3200)) := h.1.a22
theorem MD_.g22 (h : MD_ G m σ r s) : (gH_ G).size ≤ m + 8 := h.1.g22
theorem MD_.f24 (h : MD_ G m σ r s) : rv_ σ m 24 = some (m + 9) := h.1.f24
theorem MD_.a24 (h : MD_ G m σ r s) : sh_ σ (m + 9) = some (.inr (0, 7)) := h.1.a24
theorem MD_.g24 (h : MD_ G m σ r s) : (gH_ G).size ≤ m + 9 := h.1.g24
theorem MD_.f25 (h : MD_ G m σ r s) : rv_ σ m 25 = some (m + 10) := h.1.f25
theorem MD_.a25 (h : MD_ G m σ r s) : sh_ σ (m + 10) = some (.inr (0, 7)) := h.1.a25
theorem MD_.g25 (h : MD_ G m σ r s) : (gH_ G).size ≤ m + 10 := h.1.g25
theorem MD_.f28 (h : MD_ G m σ r s) : rv_ σ m 28 = some (m + 11) := h.1.f28
theorem MD_.a28 (h : MD_ G m σ r s) : sh_ σ (m + 11) = some (.inr (0, 8)) := h.1.a28
theorem MD_.g28 (h : MD_ G m σ r s) : (gH_ G).size ≤ m + 11 := h.1.g28
theorem MD_.f29 (h : MD_ G m σ r s) : rv_ σ m 29 = some (m + 12) := h.1.f29
theorem MD_.a29 (h : MD_ G m σ r s) : sh_ σ (m + 12) = some (.inr (0, 8)) := h.1.a29
theorem MD_.g29 (h : MD_ G m σ r s) : (gH_ G).size ≤ m + 12 := h.1.g29
theorem MD_.f30 (h : MD_ G m σ r s) : rv_ σ m 30 = some (m + 13) := h.1.f30
theorem MD_.a30 (h : MD_ G m σ r s) : sh_ σ (m + 13) = some (.inr (0, 40)) := h.1.a30
theorem MD_.g30 (h : MD_ G m σ r s) : (gH_ G).size ≤ m + 13 := h.1.g30
theorem MD_.f35 (h : MD_ G m σ r s) : rv_ σ m 35 = some (m + 14) := h.1.f35
theorem MD_.a35 (h : MD_ G m σ r s) : sh_ σ (m + 14) = some (.inr (0, 49)) := h.1.a35
theorem MD_.g35 (h : MD_ G m σ r s) : (gH_ G).size ≤ m + 14 := h.1.g35
theorem MD_.f36 (h : MD_ G m σ r s) : rv_ σ m 36 = some (m + 15) := h.1.f36
theorem MD_.a36 (h : MD_ G m σ r s) : sh_ σ (m + 15) = some (.inr (0, 7)) := h.1.a36
theorem MD_.g36 (h : MD_ G m σ r s) : (gH_ G).size ≤ m + 15 := h.1.g36
theorem MD_.f37 (h : MD_ G m σ r s) : rv_ σ m 37 = some (m + 16) := h.1.f37
theorem MD_.a37 (h : MD_ G m σ r s) : sh_ σ (m + 16) = some (.inr (0, 7)) := h.1.a37
theorem MD_.g37 (h : MD_ G m σ r s) : (gH_ G).size ≤ m + 16 := h.1.g37
theorem MD_.rr (h : MD_ G m σ r s) (k : Int) : iv_ σ (m + 3) k = r k := h.2.1 k
theorem MD_.ss (h : MD_ G m σ r s) (k : Int) : iv_ σ (m + 5) k = s k := h.2.2 k
theorem MD_.rrx (h : MD_ G m σ r s) {k j : Int} (e : k = j) : iv_ σ (m + 3) k = r j := by rw [e]; exact h.2.1 j
theorem MD_.ssx (h : MD_ G m σ r s) {k j : Int} (e : k = j) : iv_ σ (m + 5) k = s j := by rw [e]; exact h.2.2 j
/-- the reference's scratch: what its questions may write -/
def ms_ (m : Nat) (b : Nat) (k : Int) : Prop := (m + 8 ≤ b ∧ b ≤ m + 16) ∨ (b = m ∧ (k = 23 ∨ k = 26 ∨ k = 27 ∨ k = 31 ∨ k = 32 ∨ k = 33 ∨ k = 34 ∨ k = 38))
theorem MD_.fr {σ' : JH} {S : Nat → Int → Prop} (h : MD_ G m σ r s) (f : Fr_ S σ σ') (hn : ∀ k, ¬ S (m + 3) k ∧ ¬ S (m + 5) k) : MD_ G m σ' r s := ⟨h.1.to f.1 f.2.1, fun k => (f.2.2.2.2 _ _ (hn k).1).trans (h.2.1 k), fun k => (f.2.2.2.2 _ _ (hn k).2).trans (h.2.2 k)⟩
theorem MD_.ms {σ' : JH} (h : MD_ G m σ r s) (f : Fr_ (ms_ m) σ σ') : MD_ G m σ' r s := h.fr f (fun k => ⟨fun q => by unfold ms_ at q; omega, fun q => by unfold ms_ at q; omega⟩)
theorem MD_.pi (h : MD_ G m σ r s) {a : Nat} {k x : Int} (ha : a ≠ m + 3 ∧ a ≠ m + 5) : MD_ G m (pi_ σ a k x) r s := ⟨h.1, fun j => by rw [iv_pi, if_neg (fun q => ha.1 q.1.symm)]; exact h.2.1 j, fun j => by rw [iv_pi, if_neg (fun q => ha.2 q.1.symm)]; exact h.2.2 j⟩
end
