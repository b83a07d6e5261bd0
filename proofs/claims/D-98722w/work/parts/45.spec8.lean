/-! WHAT BOTH SIDES ANSWER, part 8: ways to watch, to walk; decades -/
set_option maxRecDepth 100000
theorem ishl_i {a : Int} (h0 : 0 ≤ a) (h1 : a < 31) : ishl_ 1 a = ((2 ^ a.toNat : Nat) : Int) := by
  have := ishl_1 (k := a.toNat) (by omega)
  rw [show ((a.toNat : Nat) : Int) = a by omega] at this
  exact this
theorem hb_i {x : Nat} {k : Int} (hx : x < 2147483648) (h0 : 0 ≤ k) (h1 : k < 31) : hb_ x k ↔ x.testBit k.toNat = true := by
  have := hb_n (a := x) (k := k.toNat) hx (by omega)
  rw [show ((k.toNat : Nat) : Int) = k by omega] at this
  exact this
theorem p2_lt {a : Int} {n : Nat} (h0 : 0 ≤ a) (h1 : a < n) : 2 ^ a.toNat < 2 ^ n := Nat.pow_lt_pow_right (by decide) (by omega)
/-- a bit of a word is 0 or 1 -/
theorem bit01 (x k : Int) : iand_ (ishr_ x k) 1 = 0 ∨ iand_ (ishr_ x k) 1 = 1 := by
  unfold iand_
  generalize Int32.ofInt (ishr_ x k) = y
  have e : (y &&& Int32.ofInt 1).toBitVec.toNat = y.toBitVec.toNat % 2 := by
    rw [Int32.toBitVec_and, BitVec.toNat_and]
    show y.toBitVec.toNat &&& 1 = _
    exact Nat.and_one_is_mod _
  rw [bvi_ e (by omega)]
  omega
/-- how many bits of the first twelve -/
def on_ (x : Int) : Int := sI_ (fun k => iand_ (ishr_ x k) 1) 12
theorem on_le {x y : Int} (h : ∀ k, 0 ≤ k → k < 12 → hb_ x k → hb_ y k) : on_ x ≤ on_ y := by
  refine (sI_lt (i0 := 0) 12 (fun k h0 h1 => ?_)).1
  have a := bit01 x k
  have b := bit01 y k
  have c := h k h0 h1
  unfold hb_ at c
  omega
theorem on_lt {x y : Int} (h : ∀ k, 0 ≤ k → k < 12 → hb_ x k → hb_ y k) {j : Int} (h0 : 0 ≤ j) (h1 : j < 12) (hx : ¬ hb_ x j) (hy : hb_ y j) : on_ x < on_ y := by
  have q := (sI_lt (f := fun k => iand_ (ishr_ x k) 1) (g := fun k => iand_ (ishr_ y k) 1) (i0 := j) 12 (fun k h0 h1 => by
    have a := bit01 x k
    have b := bit01 y k
    have c := h k h0 h1
    unfold hb_ at c
    omega)).2 h0 h1 (by
      have a := bit01 x j
      unfold hb_ at hx hy
      omega)
  have e : ((12 : Nat) : Int) = 12 := rfl
  rw [e] at q
  unfold on_
  omega
section
variable {r s : Int → Int}
/-- ways lead from i to j without those of u -/
def ld_ (r s : Int → Int) (u i j : Int) : Prop := ∀ P : Int → Prop, P i → (∀ k a b, eg_ r s k a b → ¬ hb_ u k → P a → P b) → P j
theorem ld_.rf {u i : Int} : ld_ r s u i i := fun _ h _ => h
theorem ld_.go {u i a b k : Int} (h : ld_ r s u i a) (he : eg_ r s k a b) (hu : ¬ hb_ u k) : ld_ r s u i b := fun P h1 h2 => h2 k a b he hu (h P h1 h2)
theorem ld_.mono {u v i j : Int} (h : ld_ r s u i j) (hs : ∀ k, (0 ≤ k ∧ k < r 5) → ¬ hb_ (s 1) k → hb_ v k → hb_ u k) : ld_ r s v i j := fun P h1 h2 => h P h1 (fun k a b he hu hp => h2 k a b he (fun q => hu (hs k he.1 he.2.1 q)) hp)
/-- the ends of a way, as a set -/
def en2_ (r : Int → Int) (k : Int) : Nat := 2 ^ (r (59 + 4 * k)).toNat ||| 2 ^ (r (60 + 4 * k)).toNat
theorem en2_bit {k t : Int} (hW : RW_ r) (h0 : 0 ≤ k) (h1 : k < r 5) (ht : 0 ≤ t) : (en2_ r k).testBit t.toNat = true ↔ r (59 + 4 * k) = t ∨ r (60 + 4 * k) = t := by
  have hw := hW.way h0 h1
  unfold en2_
  rw [Nat.testBit_or, Nat.testBit_two_pow, Nat.testBit_two_pow, Bool.or_eq_true, decide_eq_true_iff, decide_eq_true_iff]
  omega
theorem en2_lt {k : Int} (hW : RW_ r) (h0 : 0 ≤ k) (h1 : k < r 5) : en2_ r k < 128 := by
  have hw := hW.way h0 h1
  have hn := hW.n
  exact Nat.or_lt_two_pow (n := 7) (p2_lt (by omega) (by omega)) (p2_lt (by omega) (by omega))
theorem en2_and {k : Int} {X : Nat} (hW : RW_ r) (h0 : 0 ≤ k) (h1 : k < r 5) : X &&& en2_ r k ≠ 0 ↔ X.testBit (r (59 + 4 * k)).toNat = true ∨ X.testBit (r (60 + 4 * k)).toNat = true := by
  have hw := hW.way h0 h1
  constructor
  · intro h
    obtain ⟨i, hi⟩ := Nat.exists_testBit_of_ne_zero h
    rw [Nat.testBit_and, Bool.and_eq_true] at hi
    have h2 := (en2_bit (t := (i : Int)) hW h0 h1 (by omega)).mp (by rw [Int.toNat_natCast]; exact hi.2)
    rcases h2 with q | q
    · left; rw [q, Int.toNat_natCast]; exact hi.1
    · right; rw [q, Int.toNat_natCast]; exact hi.1
  · intro h hz
    have key : ∀ t : Int, 0 ≤ t → (r (59 + 4 * k) = t ∨ r (60 + 4 * k) = t) → X.testBit t.toNat = false := by
      intro t ht hq
      have : (X &&& en2_ r k).testBit t.toNat = false := by rw [hz, Nat.zero_testBit]
      rw [Nat.testBit_and, (en2_bit hW h0 h1 ht).mpr hq, Bool.and_true] at this
      exact this
    rcases h with h | h
    · rw [key _ (by omega) (Or.inl rfl)] at h; exact absurd h (by decide)
    · rw [key _ (by omega) (Or.inr rfl)] at h; exact absurd h (by decide)
/-- a set of islands that are come to, by the ways ahead of kk; W: as it was at the round's start -/
def LD_ (r s : Int → Int) (u i : Int) (X W : Nat) (kk : Int) : Prop :=
  X < 128 ∧ X.testBit i.toNat = true ∧ (∀ t : Int, 0 ≤ t → X.testBit t.toNat = true → ld_ r s u i t) ∧ W ≤ X ∧
  (X = W → ∀ k, 0 ≤ k → k < kk → k < r 5 → ¬ hb_ (s 1) k → ¬ hb_ u k → W ||| en2_ r k = W ∨ W &&& en2_ r k = 0)
theorem LD_.skip {u i kk : Int} {X W : Nat} (h : LD_ r s u i X W kk) (hk : hb_ (s 1) kk ∨ hb_ u kk) : LD_ r s u i X W (kk + 1) :=
  ⟨h.1, h.2.1, h.2.2.1, h.2.2.2.1, fun e k h0 h1 h2 h3 h4 => by
    by_cases hk2 : k = kk
    · subst hk2; rcases hk with q | q
      · exact absurd q h3
      · exact absurd q h4
    · exact h.2.2.2.2 e k h0 (by omega) h2 h3 h4⟩
theorem LD_.off {u i kk : Int} {X W : Nat} (h : LD_ r s u i X W kk) (hz : X &&& en2_ r kk = 0) : LD_ r s u i X W (kk + 1) :=
  ⟨h.1, h.2.1, h.2.2.1, h.2.2.2.1, fun e k h0 h1 h2 h3 h4 => by
    by_cases hk2 : k = kk
    · subst hk2; right; rw [← e]; exact hz
    · exact h.2.2.2.2 e k h0 (by omega) h2 h3 h4⟩
theorem LD_.go {u i kk : Int} {X W : Nat} (hW : RW_ r) (h : LD_ r s u i X W kk) (h0 : 0 ≤ kk) (h1 : kk < r 5) (ho : ¬ hb_ (s 1) kk) (hu : ¬ hb_ u kk) (hz : X &&& en2_ r kk ≠ 0) : LD_ r s u i (X ||| en2_ r kk) W (kk + 1) := by
  have hw := hW.way h0 h1
  have hle : X ≤ X ||| en2_ r kk := Nat.left_le_or
  refine ⟨Nat.or_lt_two_pow (n := 7) h.1 (en2_lt hW h0 h1), by rw [Nat.testBit_or, h.2.1, Bool.true_or], fun t ht hb => ?_, Nat.le_trans h.2.2.2.1 hle, fun e k g0 g1 g2 g3 g4 => ?_⟩
  · rw [Nat.testBit_or, Bool.or_eq_true] at hb
    rcases hb with hb | hb
    · exact h.2.2.1 t ht hb
    · have hb := (en2_bit hW h0 h1 ht).mp hb
      have e1 : jn_ r kk (r (59 + 4 * kk)) (r (60 + 4 * kk)) := by unfold jn_; omega
      have e2 : jn_ r kk (r (60 + 4 * kk)) (r (59 + 4 * kk)) := by unfold jn_; omega
      rcases (en2_and hW h0 h1).mp hz with q | q
      · have l1 := h.2.2.1 _ hw.1.1 q
        rcases hb with z | z
        · rw [← z]; exact l1
        · rw [← z]; exact l1.go ⟨⟨h0, h1⟩, ho, e1⟩ hu
      · have l1 := h.2.2.1 _ hw.2.1.1 q
        rcases hb with z | z
        · rw [← z]; exact l1.go ⟨⟨h0, h1⟩, ho, e2⟩ hu
        · rw [← z]; exact l1
  · have hwx := h.2.2.2.1
    have e2 : X = W := by omega
    by_cases hk2 : k = kk
    · subst hk2; left; rw [e2] at e; exact e
    · exact h.2.2.2.2 e2 k g0 (by omega) g2 g3 g4
theorem LD_.start {u i : Int} (h0 : 0 ≤ i) (h1 : i < 7) : LD_ r s u i (2 ^ i.toNat) 0 0 := by
  refine ⟨p2_lt (n := 7) h0 (by omega), Nat.testBit_two_pow_self, fun t ht hb => ?_, Nat.zero_le _, fun e k g0 g1 => by omega⟩
  rw [Nat.testBit_two_pow, decide_eq_true_iff] at hb
  rw [show t = i by omega]; exact ld_.rf
theorem LD_.again {u i kk : Int} {X W : Nat} (h : LD_ r s u i X W kk) : LD_ r s u i X X 0 := ⟨h.1, h.2.1, h.2.2.1, Nat.le_refl _, fun e k g0 g1 => by omega⟩
theorem LD_.done {u i j : Int} {X : Nat} (hW : RW_ r) (h : LD_ r s u i X X (r 5)) (hj : 0 ≤ j) (hi : 0 ≤ i) : ld_ r s u i j ↔ X.testBit j.toNat = true := by
  refine ⟨fun hl => ?_, h.2.2.1 j hj⟩
  have q := hl (fun t => 0 ≤ t ∧ X.testBit t.toNat = true) ⟨hi, h.2.1⟩ (fun k a b he hu hp => ?_)
  · exact q.2
  · obtain ⟨hk, ho, hjn⟩ := he
    have hw := hW.way hk.1 hk.2
    unfold jn_ at hjn
    have hne : X &&& en2_ r k ≠ 0 := by
      rw [en2_and hW hk.1 hk.2]
      rcases hjn with z | z
      · left; rw [z.1]; exact hp.2
      · right; rw [z.2]; exact hp.2
    refine ⟨by omega, ?_⟩
    rcases h.2.2.2.2 rfl k hk.1 hk.2 hk.2 ho hu with z | z
    · rw [← z, Nat.testBit_or, (en2_bit hW hk.1 hk.2 (by omega)).mpr (by omega), Bool.or_true]
    · exact absurd z hne
/-- the fewest ways to watch; of such sets the least -/
def WT_ (r s : Int → Int) (i j X : Int) : Prop := (0 ≤ X ∧ X < (2 ^ (r 5).toNat : Nat)) ∧ ¬ ld_ r s X i j ∧ ∀ Y : Int, 0 ≤ Y → Y < (2 ^ (r 5).toNat : Nat) → ¬ ld_ r s Y i j → on_ X < on_ Y ∨ (on_ X = on_ Y ∧ X ≤ Y)
theorem WT_.one {i j X Y : Int} (h : WT_ r s i j X) (g : WT_ r s i j Y) : X = Y := by
  have a := h.2.2 Y g.1.1 g.1.2 g.2.1
  have b := g.2.2 X h.1.1 h.1.2 h.2.1
  omega
noncomputable def wt_ (r s : Int → Int) (i j : Int) : Int := Classical.epsilon (fun X => WT_ r s i j X)
theorem wt_eq {i j X : Int} (h : WT_ r s i j X) : wt_ r s i j = X := (Classical.epsilon_spec (p := fun X => WT_ r s i j X) ⟨X, h⟩ : WT_ r s i j (wt_ r s i j)).one h
noncomputable def qWatch_ (p : Int) (r s : Int → Int) (i j : Int) : Int × Int := if p = 1 ∧ (0 ≤ i ∧ i < r 4) ∧ (0 ≤ j ∧ j < r 4) ∧ i ≠ j then (wt_ r s i j, 0) else (-1, 1)
theorem all_cut {i j : Int} (h : i ≠ j) {u : Int} (hu : ∀ k, 0 ≤ k → k < r 5 → hb_ u k) : ¬ ld_ r s u i j := fun q => h (q (fun t => i = t) rfl (fun k a b he hn _ => absurd (hu k he.1.1 he.1.2) hn))
/-- closed ways needn't be watched -/
def mk_ (X C : Nat) : Nat := X &&& (4095 ^^^ C)
theorem mk_bit {X C : Nat} {k : Nat} (hX : X < 4096) : (mk_ X C).testBit k = (X.testBit k && !C.testBit k) := by
  unfold mk_
  rw [Nat.testBit_and, Nat.testBit_xor, show (4095 : Nat) = 2 ^ 12 - 1 from rfl, Nat.testBit_two_pow_sub_one]
  by_cases hk : k < 12
  · simp [hk]
  · rw [Nat.testBit_lt_two_pow (Nat.lt_of_lt_of_le hX (Nat.pow_le_pow_right (n := 2) (i := 12) (by decide) (by omega)))]
    simp
theorem mk_w {X C : Nat} (hX : X < 4096) (hC : C < 4096) : iand_ X (ixor_ C (-1)) = ((mk_ X C : Nat) : Int) := by
  unfold iand_ ixor_
  have hlt : mk_ X C < 2147483648 := Nat.lt_of_le_of_lt Nat.and_le_left (by omega)
  refine bvi_ ?_ hlt
  rw [Int32.toBitVec_and, BitVec.toNat_and, bvm_ (by omega), Int32.ofInt_toInt, Int32.toBitVec_xor, BitVec.toNat_xor, bvm_ (by omega)]
  refine Nat.eq_of_testBit_eq fun k => ?_
  rw [mk_bit hX, Nat.testBit_and, Nat.testBit_xor]
  show (X.testBit k && (C.testBit k ^^ (4294967295 : Nat).testBit k)) = _
  rw [show (4294967295 : Nat) = 2 ^ 32 - 1 from rfl, Nat.testBit_two_pow_sub_one]
  by_cases hk : k < 32
  · simp [hk]
  · rw [Nat.testBit_lt_two_pow (Nat.lt_of_lt_of_le hX (Nat.pow_le_pow_right (n := 2) (i := 12) (by decide) (by omega)))]
    simp
/-- the least of a cut is free of closed ways -/
theorem WT_.mk {i j : Int} {X C : Nat} (hr : 0 ≤ r 5 ∧ r 5 ≤ 12) (hC : C < 4096) (hs : s 1 = (C : Int)) (h : WT_ r s i j X) : mk_ X C = X := by
  have hX : X < 4096 := by
    have := h.1.2
    have q : 2 ^ (r 5).toNat ≤ 2 ^ 12 := Nat.pow_le_pow_right (by decide) (by omega)
    omega
  have hle : mk_ X C ≤ X := Nat.and_le_left
  have hsub : ∀ k, 0 ≤ k → k < 12 → hb_ (mk_ X C : Nat) k → hb_ (X : Int) k := by
    intro k h0 h1 hb
    rw [hb_i (by omega) h0 (by omega), mk_bit hX, Bool.and_eq_true] at hb
    rw [hb_i (by omega) h0 (by omega)]
    exact hb.1
  have q := h.2.2 (mk_ X C : Nat) (by omega) (by have := h.1.2; omega) (fun hl => h.2.1 (hl.mono (fun k hk ho hb => by
    rw [hb_i (by omega) hk.1 (by omega)] at hb ⊢
    rw [hs, hb_i (by omega) hk.1 (by omega)] at ho
    rw [mk_bit hX, hb, Bool.true_and]
    simpa using ho)))
  have := on_le hsub
  omega
end
