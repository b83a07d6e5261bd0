/-! BOTH as they are made. Written by mod/ma5.py -/
set_option maxRecDepth 100000
section
variable {G : JG} {X m lo : Nat} {σ0 σ : JH} {r s B : Int → Int} {U I : Int → Int → Int} {T : XT}
theorem XS_.new (hB : BO_ G X σ0 σ [(0, .inr (1, 1000)), (7, .inl 2), (8, .inl 2), (9, .inr (0, 1024)), (10, .inr (0, 6)), (11, .inr (0, 7)), (12, .inr (0, 7)), (13, .inr (2, 288)), (14, .inr (0, 256)), (15, .inr (0, 5)), (18, .inr (0, 49)), (19, .inr (0, 896))] 3544 (fun j => if j = 3 then -1 else iv_ σ0 X j)) (hs : sh_ σ0 X = some (.inl 0)) (hz : ∀ k, iv_ σ0 X k = 0) (hr : ∀ k, rv_ σ0 X k = none) (hsz : sz_ σ0 = X + 1) (hge : (gH_ G).size ≤ X) (hE : sh_ σ (gK_ G 100) = some (.inr (3, 0))) (hk : gK_ G 100 < (gH_ G).size) (hlo : X + 13 ≤ lo) : XS_ G X lo σ 0 0 (-1) 0 0 0 0 B r s U I T ((gK_ G 100, 0, fun _ => 0), (gK_ G 100, 0, fun _ => 0)) := by
  have w0 := hB.at 0 rfl
  have w1 := hB.at 1 rfl
  have w2 := hB.at 2 rfl
  have w3 := hB.at 3 rfl
  have w4 := hB.at 4 rfl
  have w5 := hB.at 5 rfl
  have w6 := hB.at 6 rfl
  have w7 := hB.at 7 rfl
  have w8 := hB.at 8 rfl
  have w9 := hB.at 9 rfl
  have w10 := hB.at 10 rfl
  have w11 := hB.at 11 rfl
  rw [hsz] at w0 w1 w2 w3 w4 w5 w6 w7 w8 w9 w10 w11
  have hv := hB.2.2.2.2.1
  have e : ∀ k, k ≠ 3 → iv_ σ X k = 0 := fun k hk => by rw [hv k]; (try dsimp only); rw [if_neg hk]; exact hz k
  have hR : XR_ G X σ := ⟨hge, hB.sh.trans hs, w1.1, w2.1, ⟨w1.2.1, w2.2.1⟩, hk, ⟨w0.1, w0.2.1⟩, ⟨w3.1, w3.2.1⟩, ⟨w4.1, w4.2.1⟩, ⟨w5.1, w5.2.1⟩, ⟨w6.1, w6.2.1⟩, ⟨w7.1, w7.2.1⟩, ⟨w8.1, w8.2.1⟩, ⟨w9.1, w9.2.1⟩, ⟨w10.1, w10.2.1⟩, ⟨w11.1, w11.2.1⟩⟩
  have h5 : rv_ σ X 5 = none := (hB.2.2.2.1 5 (by decide)).trans (hr 5)
  have l1 : Ls_ G σ (X + 2) (gK_ G 100) 0 0 (fun _ => 0) := ⟨w1.2.1, by omega, (w1.2.2.2 rfl).1, hE, (w1.2.2.2 rfl).2, ⟨Int.le_refl _, Int.le_refl _⟩, Or.inl ⟨rfl, rfl⟩, fun i i0 i1 => by omega⟩
  have l2 : Ls_ G σ (X + 3) (gK_ G 100) 0 0 (fun _ => 0) := ⟨w2.2.1, by omega, (w2.2.2.2 rfl).1, hE, (w2.2.2.2 rfl).2, ⟨Int.le_refl _, Int.le_refl _⟩, Or.inl ⟨rfl, rfl⟩, fun i i0 i1 => by omega⟩
  exact ⟨⟨hR, Or.inl ⟨rfl, h5⟩⟩, hlo, ⟨⟨e 1 (by decide), ⟨by decide, by decide⟩, fun k k0 k1 => by omega⟩, ⟨e 2 (by decide), by rw [hv 3]; rfl, e 4 (by decide)⟩, hE⟩, fun q => by omega, fun _ => ⟨rfl, rfl⟩, ⟨l1, Or.inr rfl, fun k k0 k1 => by omega, fun q => by omega⟩, ⟨l2, Or.inr rfl, fun k k0 k1 => by omega, fun q => by omega⟩, fun q => absurd (show (gH_ G).size ≤ gK_ G 100 from q) (by omega), fun q => by omega⟩
theorem MS_.new (hB : BO_ G m σ0 σ [(1, .inr (0, 1000)), (12, .inr (0, 8)), (15, .inr (0, 363)), (16, .inr (0, 363)), (17, .inr (0, 76)), (18, .inr (0, 912)), (19, .inr (0, 228)), (22, .inr (0, 3200)), (24, .inr (0, 7)), (25, .inr (0, 7)), (28, .inr (0, 8)), (29, .inr (0, 8)), (30, .inr (0, 40)), (35, .inr (0, 49)), (36, .inr (0, 7)), (37, .inr (0, 7))] 6283 (fun j => if j = 10 then -1 else iv_ σ0 m j)) (hs : sh_ σ0 m = some (.inl 1)) (hz : ∀ k, iv_ σ0 m k = 0) (hsz : sz_ σ0 = m + 1) (hge : (gH_ G).size ≤ m) : MS_ G m σ 0 0 (-1) 0 0 0 0 B (iv_ σ (m + 3)) (iv_ σ (m + 5)) U I := by
  have w0 := hB.at 0 rfl
  have w1 := hB.at 1 rfl
  have w2 := hB.at 2 rfl
  have w3 := hB.at 3 rfl
  have w4 := hB.at 4 rfl
  have w5 := hB.at 5 rfl
  have w6 := hB.at 6 rfl
  have w7 := hB.at 7 rfl
  have w8 := hB.at 8 rfl
  have w9 := hB.at 9 rfl
  have w10 := hB.at 10 rfl
  have w11 := hB.at 11 rfl
  have w12 := hB.at 12 rfl
  have w13 := hB.at 13 rfl
  have w14 := hB.at 14 rfl
  have w15 := hB.at 15 rfl
  rw [hsz] at w0 w1 w2 w3 w4 w5 w6 w7 w8 w9 w10 w11 w12 w13 w14 w15
  have hv := hB.2.2.2.2.1
  have e : ∀ k, k ≠ 10 → iv_ σ m k = 0 := fun k hk => by rw [hv k]; (try dsimp only); rw [if_neg hk]; exact hz k
  have hR : MR_ G m σ := ⟨hge, hB.sh.trans hs, ⟨w0.1, w0.2.1⟩, ⟨w1.1, w1.2.1⟩, ⟨w2.1, w2.2.1⟩, ⟨w3.1, w3.2.1⟩, ⟨w4.1, w4.2.1⟩, ⟨w5.1, w5.2.1⟩, ⟨w6.1, w6.2.1⟩, ⟨w7.1, w7.2.1⟩, ⟨w8.1, w8.2.1⟩, ⟨w9.1, w9.2.1⟩, ⟨w10.1, w10.2.1⟩, ⟨w11.1, w11.2.1⟩, ⟨w12.1, w12.2.1⟩, ⟨w13.1, w13.2.1⟩, ⟨w14.1, w14.2.1⟩, ⟨w15.1, w15.2.1⟩⟩
  exact ⟨⟨hR, fun _ => rfl, fun _ => rfl⟩, ⟨e 2 (by decide), ⟨by decide, by decide⟩, fun k k0 k1 => by omega⟩, ⟨e 9 (by decide), by rw [hv 10]; rfl, e 11 (by decide)⟩, ⟨e 14 (by decide), Or.inl rfl⟩, ⟨e 20 (by decide), ⟨by decide, by decide⟩, fun k j k0 k1 => by omega, fun k k0 k1 => by omega⟩, ⟨e 21 (by decide), ⟨by decide, by decide⟩, fun k j k0 k1 => by omega, fun k k0 k1 => by omega⟩⟩
end
