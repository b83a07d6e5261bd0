/-! WHAT BOTH SIDES ANSWER: ways to watch, by the component's road -/
set_option maxRecDepth 100000
section
variable {r s : Int → Int}
def onN_ (x : Nat) : Nat := ((x >>> 0) &&& 1) + ((x >>> 1) &&& 1) + ((x >>> 2) &&& 1) + ((x >>> 3) &&& 1) + ((x >>> 4) &&& 1) + ((x >>> 5) &&& 1) + ((x >>> 6) &&& 1) + ((x >>> 7) &&& 1) + ((x >>> 8) &&& 1) + ((x >>> 9) &&& 1) + ((x >>> 10) &&& 1) + ((x >>> 11) &&& 1)
theorem on_n {x : Nat} (h : x < 4096) : on_ (x : Int) = (onN_ x : Int) := by
  have e : ∀ k : Nat, k < 12 → iand_ (ishr_ (x : Int) ((k : Nat) : Int)) 1 = (((x >>> k) &&& 1 : Nat) : Int) := fun k hk => by
    have hle : x >>> k ≤ x := by rw [Nat.shiftRight_eq_div_pow]; exact Nat.div_le_self _ _
    rw [ishr_n (by omega) (by omega), show (1 : Int) = ((1 : Nat) : Int) from rfl, iand_n (by omega) (by omega)]
  have e0 := e 0 (by omega); have e1 := e 1 (by omega); have e2 := e 2 (by omega); have e3 := e 3 (by omega)
  have e4 := e 4 (by omega); have e5 := e 5 (by omega); have e6 := e 6 (by omega); have e7 := e 7 (by omega)
  have e8 := e 8 (by omega); have e9 := e 9 (by omega); have e10 := e 10 (by omega); have e11 := e 11 (by omega)
  show 0 + iand_ (ishr_ (x : Int) ((0 : Nat) : Int)) 1 + iand_ (ishr_ (x : Int) ((1 : Nat) : Int)) 1 + iand_ (ishr_ (x : Int) ((2 : Nat) : Int)) 1 + iand_ (ishr_ (x : Int) ((3 : Nat) : Int)) 1 + iand_ (ishr_ (x : Int) ((4 : Nat) : Int)) 1 + iand_ (ishr_ (x : Int) ((5 : Nat) : Int)) 1 + iand_ (ishr_ (x : Int) ((6 : Nat) : Int)) 1 + iand_ (ishr_ (x : Int) ((7 : Nat) : Int)) 1 + iand_ (ishr_ (x : Int) ((8 : Nat) : Int)) 1 + iand_ (ishr_ (x : Int) ((9 : Nat) : Int)) 1 + iand_ (ishr_ (x : Int) ((10 : Nat) : Int)) 1 + iand_ (ishr_ (x : Int) ((11 : Nat) : Int)) 1 = _
  rw [e0, e1, e2, e3, e4, e5, e6, e7, e8, e9, e10, e11]
  unfold onN_
  omega
theorem onN_chk : ∀ a, a < 64 → ∀ b, b < 64 → (64 * a + b = 0 ∨ onN_ ((64 * a + b) &&& (64 * a + b - 1)) + 1 = onN_ (64 * a + b)) := by decide +kernel
theorem onN_s {x : Nat} (h : x < 4096) (h0 : 0 < x) : onN_ (x &&& (x - 1)) + 1 = onN_ x := by
  have := onN_chk (x / 64) (by omega) (x % 64) (by omega)
  rw [show 64 * (x / 64) + x % 64 = x by omega] at this
  omega
theorem onN_or : ∀ a, a < 128 → ∀ b, b < 128 → (a ||| b = a ∨ onN_ a + 1 ≤ onN_ (a ||| b)) := by decide +kernel
theorem onN_7 : ∀ a, a < 128 → onN_ a ≤ 7 := by decide +kernel
theorem onN_12 : ∀ a, a < 64 → ∀ b, b < 64 → onN_ (64 * a + b) ≤ 12 := by decide +kernel
theorem onN_le {x : Nat} (h : x < 4096) : onN_ x ≤ 12 := by
  have := onN_12 (x / 64) (by omega) (x % 64) (by omega)
  rw [show 64 * (x / 64) + x % 64 = x by omega] at this
  exact this
theorem onN_1 : ∀ a, a < 12 → onN_ (2 ^ a) = 1 := by decide +kernel
/-- the set at a round's start: stable, or of many islands -/
def LS2_ (r s : Int → Int) (u i : Int) (W : Nat) (n : Int) : Prop := LD_ r s u i W W (r 5) ∨ n + 1 ≤ (onN_ W : Int)
/-- in a round -/
def LR_ (r s : Int → Int) (u i : Int) (X W : Nat) (kk : Int) : Prop := LD_ r s u i X W kk ∧ (∃ Z, Z < 128 ∧ X = W ||| Z) ∧ (LD_ r s u i W W (r 5) → X = W)
theorem LR_.skip {u i kk : Int} {X W : Nat} (h : LR_ r s u i X W kk) (hk : hb_ (s 1) kk ∨ hb_ u kk) : LR_ r s u i X W (kk + 1) := ⟨h.1.skip hk, h.2.1, h.2.2⟩
theorem LR_.off {u i kk : Int} {X W : Nat} (h : LR_ r s u i X W kk) (hz : X &&& en2_ r kk = 0) : LR_ r s u i X W (kk + 1) := ⟨h.1.off hz, h.2.1, h.2.2⟩
theorem LR_.go {u i kk : Int} {X W : Nat} (hW : RW_ r) (h : LR_ r s u i X W kk) (h0 : 0 ≤ kk) (h1 : kk < r 5) (ho : ¬ hb_ (s 1) kk) (hu : ¬ hb_ u kk) (hz : X &&& en2_ r kk ≠ 0) : LR_ r s u i (X ||| en2_ r kk) W (kk + 1) := by
  refine ⟨h.1.go hW h0 h1 ho hu hz, ?_, fun hs => ?_⟩
  · obtain ⟨Z, hZ, e⟩ := h.2.1
    exact ⟨Z ||| en2_ r kk, Nat.or_lt_two_pow (n := 7) hZ (en2_lt hW h0 h1), by rw [e, Nat.or_assoc]⟩
  · have e := h.2.2 hs
    rw [e] at hz ⊢
    rcases hs.2.2.2.2 rfl kk h0 h1 h1 ho hu with q | q
    · exact q
    · exact absurd q hz
theorem LR_.first {u i : Int} (h0 : 0 ≤ i) (h1 : i < 7) : LR_ r s u i (2 ^ i.toNat) (2 ^ i.toNat) 0 ∧ LS2_ r s u i (2 ^ i.toNat) 0 := by
  refine ⟨⟨(LD_.start h0 h1).again, ⟨0, by omega, (Nat.or_zero _).symm⟩, fun _ => rfl⟩, Or.inr ?_⟩
  rw [onN_1 _ (by omega)]
  decide
theorem LR_.next {u i n : Int} {X W : Nat} (h : LR_ r s u i X W (r 5)) (hs : LS2_ r s u i W n) : LR_ r s u i X X 0 ∧ LS2_ r s u i X (n + 1) := by
  refine ⟨⟨h.1.again, ⟨0, by omega, (Nat.or_zero _).symm⟩, fun _ => rfl⟩, ?_⟩
  rcases hs with hs | hs
  · have e := h.2.2 hs
    subst e
    exact Or.inl hs
  · by_cases e : X = W
    · subst e; exact Or.inl h.1
    · right
      obtain ⟨Z, hZ, eZ⟩ := h.2.1
      have hWX := h.1.2.2.2.1
      have hX := h.1.1
      rcases onN_or W (by omega) Z hZ with q | q
      · exact absurd (eZ.trans q) e
      · rw [← eZ] at q; omega
theorem LS2_.done {u i j : Int} {W : Nat} (hW : RW_ r) (hl : LR_ r s u i W W 0) (h : LS2_ r s u i W 7) (hj : 0 ≤ j) (hi : 0 ≤ i) : ld_ r s u i j ↔ W.testBit j.toNat = true := by
  rcases h with h | h
  · exact h.done hW hj hi
  · have := onN_7 W hl.1.1
    omega
/-- the best of the sets from v on that were tried -/
def WB_ (r s : Int → Int) (i j : Int) (C B0 : Nat) (v : Int) (B : Nat) : Prop :=
  (B ≤ B0 ∧ B &&& C = 0 ∧ ¬ ld_ r s (B : Int) i j) ∧ (∀ Y : Nat, v < Y → Y ≤ B0 → Y &&& C = 0 → ¬ ld_ r s (Y : Int) i j → onN_ B < onN_ Y ∨ (onN_ B = onN_ Y ∧ B ≤ Y))
theorem WB_.take {i j : Int} {C B0 B V : Nat} (h : WB_ r s i j C B0 V B) (h1 : V ≤ B0) (h2 : V &&& C = 0) (h3 : onN_ V ≤ onN_ B) (h4 : ¬ ld_ r s (V : Int) i j) : WB_ r s i j C B0 ((V : Int) - 1) V := by
  refine ⟨⟨h1, h2, h4⟩, fun Y y0 y1 y2 y3 => ?_⟩
  by_cases e : Y = V
  · subst e; exact Or.inr ⟨rfl, Nat.le_refl _⟩
  · have := h.2 Y (by omega) y1 y2 y3
    omega
theorem WB_.pass {i j : Int} {C B0 B V : Nat} (h : WB_ r s i j C B0 V B) (hn : V &&& C = 0 → ¬ ld_ r s (V : Int) i j → onN_ B < onN_ V) : WB_ r s i j C B0 ((V : Int) - 1) B := by
  refine ⟨h.1, fun Y y0 y1 y2 y3 => ?_⟩
  by_cases e : Y = V
  · subst e; exact Or.inl (hn y2 y3)
  · exact h.2 Y (by omega) y1 y2 y3
theorem mk_0 {X C : Nat} (hX : X < 4096) : mk_ X C &&& C = 0 := by
  refine Nat.eq_of_testBit_eq fun k => ?_
  rw [Nat.testBit_and, mk_bit hX, Nat.zero_testBit]
  cases X.testBit k <;> cases C.testBit k <;> rfl
theorem p5_ (hr : 0 ≤ r 5 ∧ r 5 ≤ 12) : 1 ≤ 2 ^ (r 5).toNat ∧ 2 ^ (r 5).toNat ≤ 4096 := ⟨Nat.one_le_two_pow, (Nat.pow_le_pow_right (n := 2) (j := 12) (by decide) (by omega) : 2 ^ (r 5).toNat ≤ 2 ^ 12)⟩
theorem WB_.first {i j : Int} {C : Nat} (hr : 0 ≤ r 5 ∧ r 5 ≤ 12) (hC : C < 4096) (hs : s 1 = (C : Int)) (hij : i ≠ j) : WB_ r s i j C (mk_ (2 ^ (r 5).toNat - 1) C) ((mk_ (2 ^ (r 5).toNat - 1) C : Nat) : Int) (mk_ (2 ^ (r 5).toNat - 1) C) := by
  have h5 := p5_ hr
  have hX : 2 ^ (r 5).toNat - 1 < 4096 := by omega
  have hm : mk_ (2 ^ (r 5).toNat - 1) C ≤ 2 ^ (r 5).toNat - 1 := Nat.and_le_left
  refine ⟨⟨Nat.le_refl _, mk_0 hX, fun q => ?_⟩, fun Y y0 y1 => by omega⟩
  refine hij (q (fun t => i = t) rfl (fun k a b he hn _ => absurd ?_ hn))
  have hk := he.1
  have ho := he.2.1
  rw [hs, hb_i (by omega) hk.1 (by omega)] at ho
  rw [hb_i (by omega) hk.1 (by omega), mk_bit hX, Nat.testBit_two_pow_sub_one, Bool.and_eq_true]
  exact ⟨decide_eq_true (by omega), by simpa using ho⟩
theorem WB_.done {i j : Int} {C B : Nat} (hr : 0 ≤ r 5 ∧ r 5 ≤ 12) (hC : C < 4096) (hs : s 1 = (C : Int)) (h : WB_ r s i j C (mk_ (2 ^ (r 5).toNat - 1) C) (-1) B) : WT_ r s i j (B : Int) := by
  have h5 := p5_ hr
  have hm : mk_ (2 ^ (r 5).toNat - 1) C ≤ 2 ^ (r 5).toNat - 1 := Nat.and_le_left
  have hB := h.1.1
  refine ⟨⟨by omega, by omega⟩, h.1.2.2, fun Y y0 y1 y2 => ?_⟩
  obtain ⟨Z, rfl⟩ := Int.eq_ofNat_of_zero_le y0
  have hZ : Z < 4096 := by omega
  have hle : mk_ Z C ≤ Z := Nat.and_le_left
  have hsub : ∀ k, 0 ≤ k → k < 12 → hb_ (mk_ Z C : Nat) k → hb_ (Z : Int) k := by
    intro k h0 h1 hb
    rw [hb_i (by omega) h0 (by omega), mk_bit hZ, Bool.and_eq_true] at hb
    rw [hb_i (by omega) h0 (by omega)]
    exact hb.1
  have hon := on_le hsub
  have hmz : mk_ Z C ≤ mk_ (2 ^ (r 5).toNat - 1) C := by
    have e : mk_ Z C = Z &&& mk_ (2 ^ (r 5).toNat - 1) C := by
      unfold mk_
      rw [← Nat.and_assoc, Nat.and_two_pow_sub_one_eq_mod, Nat.mod_eq_of_lt (by omega)]
    rw [e]
    exact Nat.and_le_right
  have q := h.2 (mk_ Z C) (by omega) hmz (mk_0 hZ) (fun hl => y2 (hl.mono (fun k hk ho hb => by
    rw [hb_i (by omega) hk.1 (by omega)] at hb ⊢
    rw [hs, hb_i (by omega) hk.1 (by omega)] at ho
    rw [mk_bit hZ, hb, Bool.true_and]
    simpa using ho)))
  rw [on_n (by omega), on_n hZ] at hon
  rw [on_n (by omega), on_n hZ]
  omega
theorem ld_new {X : Nat} {k : Int} (hW : RW_ r) (hX : X < 128) (h0 : 0 ≤ k) (h1 : k < r 5) : ior_ (X : Int) (ior_ (ishl_ 1 (r (59 + 4 * k))) (ishl_ 1 (r (60 + 4 * k)))) = ((X ||| en2_ r k : Nat) : Int) := by
  have hw := hW.way h0 h1
  have hn := hW.n
  have p1 : 2 ^ (r (59 + 4 * k)).toNat < 2 ^ 7 := p2_lt (n := 7) hw.1.1 (by omega)
  have p2 : 2 ^ (r (60 + 4 * k)).toNat < 2 ^ 7 := p2_lt (n := 7) hw.2.1.1 (by omega)
  have he := en2_lt hW h0 h1
  rw [ishl_i (by omega) (by omega), ishl_i (by omega) (by omega), ior_n (by omega) (by omega)]
  show ior_ (X : Int) ((en2_ r k : Nat) : Int) = _
  rw [ior_n (by omega) (by omega)]
end
