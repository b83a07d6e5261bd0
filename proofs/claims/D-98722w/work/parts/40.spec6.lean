/-! WHAT BOTH SIDES ANSWER, part 6: bits; whales that bring boxes -/
set_option maxRecDepth 100000
theorem bvn_ {a : Nat} (h : a < 2147483648) : (Int32.ofInt (a : Int)).toBitVec = BitVec.ofNat 32 a := by
  rw [Int32.toBitVec_ofInt, BitVec.ofInt_natCast]
theorem bvi_ {x : Int32} {n : Nat} (h : x.toBitVec.toNat = n) (hn : n < 2147483648) : x.toInt = (n : Int) := by
  rw [← Int32.toInt_toBitVec, BitVec.toInt_eq_toNat_of_lt (by omega), h]
theorem bvm_ {a : Nat} (h : a < 2147483648) : (Int32.ofInt (a : Int)).toBitVec.toNat = a := by
  rw [bvn_ h, BitVec.toNat_ofNat]
  exact Nat.mod_eq_of_lt (by omega)
theorem ior_n {a b : Nat} (ha : a < 2147483648) (hb : b < 2147483648) : ior_ a b = ((a ||| b : Nat) : Int) := by
  unfold ior_
  refine bvi_ ?_ (Nat.or_lt_two_pow (n := 31) ha hb)
  rw [Int32.toBitVec_or, BitVec.toNat_or, bvm_ ha, bvm_ hb]
theorem iand_n {a b : Nat} (ha : a < 2147483648) (hb : b < 2147483648) : iand_ a b = ((a &&& b : Nat) : Int) := by
  unfold iand_
  refine bvi_ ?_ (Nat.and_lt_two_pow (n := 31) _ hb)
  rw [Int32.toBitVec_and, BitVec.toNat_and, bvm_ ha, bvm_ hb]
theorem ixor_n {a b : Nat} (ha : a < 2147483648) (hb : b < 2147483648) : ixor_ a b = ((a ^^^ b : Nat) : Int) := by
  unfold ixor_
  refine bvi_ ?_ (Nat.xor_lt_two_pow (n := 31) ha hb)
  rw [Int32.toBitVec_xor, BitVec.toNat_xor, bvm_ ha, bvm_ hb]
theorem ishl_1 {k : Nat} (hk : k < 31) : ishl_ 1 k = ((2 ^ k : Nat) : Int) := by
  have : ∀ k : Fin 31, ishl_ 1 ((k.val : Nat) : Int) = ((2 ^ k.val : Nat) : Int) := by decide
  exact this ⟨k, hk⟩
theorem ishr_n {a k : Nat} (ha : a < 2147483648) (hk : k < 31) : ishr_ a k = ((a >>> k : Nat) : Int) := by
  unfold ishr_
  have h1 : a >>> k < 2147483648 := Nat.lt_of_le_of_lt (Nat.shiftRight_le _ _) ha
  refine bvi_ ?_ h1
  rw [Int32.toBitVec_shiftRight]
  have h2 : ∀ k : Fin 31, ((Int32.ofInt ((k.val : Nat) : Int) &&& 31).toBitVec.smod 32).toNat = k.val := by decide
  have h3 := h2 ⟨k, hk⟩
  unfold BitVec.sshiftRight'
  rw [h3, BitVec.toNat_sshiftRight]
  have h4 : (Int32.ofInt (a : Int)).toBitVec.msb = false := by
    rw [BitVec.msb_eq_decide, bvm_ ha]
    simp
    omega
  rw [h4]
  simp
  rw [Nat.mod_eq_of_lt (by omega)]
theorem hb_n {a k : Nat} (ha : a < 2147483648) (hk : k < 31) : hb_ a k ↔ a.testBit k = true := by
  unfold hb_
  rw [ishr_n ha hk]
  have h1 : a >>> k < 2147483648 := Nat.lt_of_le_of_lt (Nat.shiftRight_le _ _) ha
  have := iand_n (b := 1) h1 (by decide)
  rw [show ((1 : Nat) : Int) = 1 from rfl] at this
  rw [this]
  unfold Nat.testBit
  rw [Nat.and_comm]
  constructor
  · intro q
    have q1 : 1 &&& a >>> k = 1 := by omega
    rw [q1]; rfl
  · intro q
    rw [Nat.and_comm] at q ⊢
    rw [Nat.and_one_is_mod] at q ⊢
    have : a >>> k % 2 = 0 ∨ a >>> k % 2 = 1 := by omega
    rcases this with z | z
    · rw [z] at q; exact absurd q (by decide)
    · rw [z]; rfl
section
variable {r s : Int → Int}
/-- how much a kind carries -/
def mo_ (kd : Int) : Int := if kd = 0 then 3 else if kd = 2 then 99 else 9
/-- the day on which a whale is where the box lies -/
def th_ (r s : Int → Int) (w b : Int) : Int := av1_ r s (r (107 + 4 * w)) (s (2 + w)) (r (127 + 4 * b)) (s (7 + w))
/-- the day on which it takes it -/
def tk_ (r s : Int → Int) (w b : Int) : Int := if r (130 + 4 * b) < th_ r s w b then th_ r s w b else r (130 + 4 * b)
/-- whether it can take it -/
abbrev ct_ (r s : Int → Int) (w b : Int) : Prop := r (129 + 4 * b) ≤ mo_ (r (107 + 4 * w)) ∧ s (12 + b) ≤ 0 ∧ 0 ≤ hn_ r s b ∧ 0 ≤ th_ r s w b
/-- the day on which it is there -/
def ar_ (r s : Int → Int) (w b : Int) : Int := av1_ r s (r (107 + 4 * w)) (r (127 + 4 * b)) (hn_ r s b) (tk_ r s w b)
abbrev cy_ (r s : Int → Int) (w b : Int) : Prop := ct_ r s w b ∧ 0 ≤ ar_ r s w b
def bg_ (r s : Int → Int) (w b : Int) : Int := if cy_ r s w b then ar_ r s w b + r (109 + 4 * w) else -2
theorem th_in (hW : RW_ r) (hD : DW_ r s) {w b : Int} (hw : 0 ≤ w ∧ w < r 6) : th_ r s w b = -2 ∨ (0 ≤ th_ r s w b ∧ th_ r s w b ≤ s (7 + w) + 3276) := by
  have hn := hW.n
  have h1 := hD.whale (w := w) (by omega) (by omega)
  have := av1_in (s := s) hW (r (107 + 4 * w)) (s (2 + w)) (r (127 + 4 * b)) (dy := s (7 + w)) (by omega)
  unfold th_
  omega
theorem tk_in (hW : RW_ r) (hD : DW_ r s) {w b : Int} (hw : 0 ≤ w ∧ w < r 6) (hb : 0 ≤ b ∧ b < r 7) : 0 ≤ tk_ r s w b ∧ (tk_ r s w b ≤ s (7 + w) + 3276 ∨ tk_ r s w b ≤ 9999) := by
  have := th_in hW hD (b := b) hw
  have := hW.box hb.1 hb.2
  unfold tk_
  split <;> omega
theorem ar_in (hW : RW_ r) (hD : DW_ r s) {w b : Int} (hw : 0 ≤ w ∧ w < r 6) (hb : 0 ≤ b ∧ b < r 7) : ar_ r s w b = -2 ∨ (0 ≤ ar_ r s w b ∧ (ar_ r s w b ≤ s (7 + w) + 6552 ∨ ar_ r s w b ≤ 13275)) := by
  have hn := hW.n
  have h1 := hD.whale (w := w) (by omega) (by omega)
  have h2 := tk_in hW hD hw hb
  have := av1_in (s := s) hW (r (107 + 4 * w)) (r (127 + 4 * b)) (hn_ r s b) (dy := tk_ r s w b) (by omega)
  unfold ar_
  omega
theorem bg_in (hW : RW_ r) (hD : DW_ r s) {w b : Int} (hw : 0 ≤ w ∧ w < r 6) (hb : 0 ≤ b ∧ b < r 7) : bg_ r s w b = -2 ∨ (0 ≤ bg_ r s w b ∧ (bg_ r s w b ≤ s (7 + w) + 6651 ∨ bg_ r s w b ≤ 13374)) := by
  have h1 := ar_in hW hD hw hb
  have h2 := hW.whale hw.1 hw.2
  unfold bg_
  split
  · rename_i q; have := q.2; omega
  · exact Or.inl rfl
theorem bg_bd (hW : RW_ r) (hD : DW_ r s) {w b : Int} (hw : 0 ≤ w ∧ w < r 6) (hb : 0 ≤ b ∧ b < r 7) : bg_ r s w b = -2 ∨ (0 ≤ bg_ r s w b ∧ bg_ r s w b ≤ 96651) := by
  have hn := hW.n
  have h1 := hD.whale (w := w) (by omega) (by omega)
  have h2 := bg_in hW hD hw hb
  omega
def qBrings_ (p : Int) (r s : Int → Int) (w b : Int) : Int × Int := if p = 1 ∧ (0 ≤ w ∧ w < r 6) ∧ (0 ≤ b ∧ b < r 7) then (bg_ r s w b, 0) else (-1, 1)
def sof_ (r s : Int → Int) (b : Int) : Int → Int → Int := fun w best => if 0 ≤ bg_ r s w b ∧ (best < 0 ∨ bg_ r s w b < bg_ r s best b) then w else best
def qSoonest_ (p : Int) (r s : Int → Int) (b : Int) : Int × Int := if p = 1 ∧ (0 ≤ b ∧ b < r 7) then (iI_ (sof_ r s b) (-2) (r 6), 0) else (-1, 1)
def sbf_ (r s : Int → Int) (b but : Int) : Int → Int → Int := fun w best => if w ≠ but ∧ 0 ≤ bg_ r s w b ∧ (best < 0 ∨ r (110 + 4 * w) < r (110 + 4 * best)) then w else best
/-- of whales that can bring it, but one, that which loses least -/
def sb_ (r s : Int → Int) (b but : Int) : Int := iI_ (sbf_ r s b but) (-2) (r 6)
theorem sb_in (hr : 0 ≤ r 6) (b but : Int) : sb_ r s b but = -2 ∨ (0 ≤ sb_ r s b but ∧ sb_ r s b but < r 6) := by
  refine iI_inv (fun n (x : Int) => x = -2 ∨ (0 ≤ x ∧ x < n)) (Or.inl rfl) (fun k x h0 h1 h => ?_) hr
  unfold sbf_
  split <;> omega
theorem sb_none (b : Int) : sb_ r s b (-1) = sb_ r s b (-2) := iI_congr fun k x h0 h1 => by
  unfold sbf_
  have e1 : k ≠ -1 := by omega
  have e2 : k ≠ -2 := by omega
  simp only [e1, e2, ne_eq, not_false_eq_true, true_and]
def qSurest_ (p : Int) (r s : Int → Int) (b : Int) : Int × Int := if p = 1 ∧ (0 ≤ b ∧ b < r 7) then (sb_ r s b (-1), 0) else (-1, 1)
def qBy_ (p : Int) (r s : Int → Int) (b d : Int) : Int × Int :=
  if p = 1 ∧ (0 ≤ b ∧ b < r 7) then (if 0 ≤ d ∧ d ≤ 99999 then (iI_ (fun w a => ior_ a (if 0 ≤ bg_ r s w b ∧ bg_ r s w b ≤ d then ishl_ 1 w else 0)) 0 (r 6), 0) else (-1, 2)) else (-1, 1)
/-- what is lost -/
def lo_ (r s : Int → Int) (b : Int) : Int := r (110 + 4 * sb_ r s b (-1)) * (if sb_ r s b (sb_ r s b (-1)) < 0 then 100 else r (110 + 4 * sb_ r s b (sb_ r s b (-1))))
theorem lo_in (hW : RW_ r) {b : Int} (h : 0 ≤ sb_ r s b (-1)) : 0 ≤ lo_ r s b ∧ lo_ r s b ≤ 9900 := by
  have hn := hW.n
  have h1 := sb_in (r := r) (s := s) (by omega) b (-1)
  have h2 := sb_in (r := r) (s := s) (by omega) b (sb_ r s b (-1))
  have h3 := hW.whale (w := sb_ r s b (-1)) (by omega) (by omega)
  unfold lo_
  have key : ∀ a c : Int, 0 ≤ a ∧ a ≤ 99 → 0 ≤ c ∧ c ≤ 100 → 0 ≤ a * c ∧ a * c ≤ 9900 := by
    intro a c ha hc
    refine ⟨Int.mul_nonneg ha.1 hc.1, ?_⟩
    calc a * c ≤ 99 * 100 := Int.mul_le_mul ha.2 hc.2 hc.1 (by decide)
      _ = 9900 := rfl
  split
  · exact key _ _ (by omega) (by omega)
  · have h4 := hW.whale (w := sb_ r s b (sb_ r s b (-1))) (by omega) (by omega)
    exact key _ _ (by omega) (by omega)
def rg_ (l lower : Int) : Int := (if lower = 1 then 10000 else 10000 - l) / (Int.gcd 10000 (10000 - l) : Int)
def qReg_ (p : Int) (r s : Int → Int) (b lower : Int) : Int × Int :=
  if p = 1 ∧ (0 ≤ b ∧ b < r 7) then (if sb_ r s b (-1) < 0 then (-1, 6) else (rg_ (lo_ r s b) lower, 0)) else (-1, 1)
end
