/-! WHAT BOTH SIDES DO, part 10: acts -/
set_option maxRecDepth 100000
section
variable {r s : Int → Int}
theorem cm_congr {s u : Int → Int} : ∀ n : Nat, (n : Int) ≤ 8 → (∀ j, 0 ≤ j → j < 76 → s j = u j) → cm_ s n = cm_ u n := by
  intro n
  induction n with
  | zero => intros; rfl
  | succ n ih =>
    intro hn h
    simp only [cm_]
    rw [ih (by omega) h, h (12 + (n : Int)) (by omega) (by omega)]
theorem DW_.congr {u : Int → Int} (h : DW_ r u) (e : ∀ j, 0 ≤ j → j < 76 → s j = u j) : DW_ r s := by
  refine ⟨?_, fun w h0 h1 => ?_, fun b h0 h1 => ?_, fun j h0 h1 => ?_⟩
  · rw [e 0 (by omega) (by omega), e 1 (by omega) (by omega)]; exact h.1
  · rw [e (2 + w) (by omega) (by omega), e (7 + w) (by omega) (by omega), cm_congr 8 (by decide) e]; exact h.2.1 w h0 h1
  · rw [e (12 + b) (by omega) (by omega), e (20 + b) (by omega) (by omega)]; exact h.2.2.1 b h0 h1
  · rw [e (28 + j) (by omega) (by omega)]; exact h.2.2.2 j h0 h1
/-- one thing put by -/
def puN_ (un : Int) : Int := if un = 12 then 12 else un + 1
def puU_ (un : Int) (U : Int → Int → Int) (s : Int → Int) : Int → Int → Int := fun k => if un = 12 then (if k = 11 then s else U (k + 1)) else (if k = un then s else U k)
/-- what is told of places 0 to 75, from another -/
def ov_ (u s : Int → Int) : Int → Int := fun j => if 0 ≤ j ∧ j < 76 then u j else s j
theorem ov_in {u s : Int → Int} {j : Int} (h0 : 0 ≤ j) (h1 : j < 76) : ov_ u s j = u j := if_pos ⟨h0, h1⟩
def se_ (s : Int → Int) (w b day to : Int) : Int → Int := fun j => if j = 20 + b then to + 1 else if j = 12 + b then day + 1 else if j = 7 + w then day else if j = 2 + w then to else s j
theorem se_cm {s : Int → Int} {w b day to : Int} (hb : 0 ≤ b ∧ b < 8) (hw : 0 ≤ w ∧ w < 5) (hd : 0 ≤ day) (hs : s (12 + b) ≤ 0) : ∀ n : Nat, (n : Int) ≤ 8 → cm_ (se_ s w b day to) n = cm_ s n + (if b < n then 1 else 0) := by
  intro n
  induction n with
  | zero => intro _; simp only [cm_]; rw [if_neg (by omega)]; rfl
  | succ n ih =>
    intro hn
    simp only [cm_]
    rw [ih (by omega)]
    unfold se_
    rw [if_neg (show ¬ (12 + (n : Int) = 20 + b) by omega)]
    by_cases hq : (n : Int) = b
    · rw [if_pos (show (12 + (n : Int) = 12 + b) by omega), if_pos (show day + 1 > 0 by omega), if_neg (show ¬ b < (n : Int) by omega), if_neg (show ¬ s (12 + (n : Int)) > 0 by rw [hq]; omega), if_pos (show b < ((n + 1 : Nat) : Int) by omega)]
    · rw [if_neg (show ¬ (12 + (n : Int) = 12 + b) by omega), if_neg (show ¬ (12 + (n : Int) = 7 + w) by omega), if_neg (show ¬ (12 + (n : Int) = 2 + w) by omega)]
      by_cases hb2 : b < (n : Int)
      · rw [if_pos hb2, if_pos (show b < ((n + 1 : Nat) : Int) by omega)]; omega
      · rw [if_neg hb2, if_neg (show ¬ b < ((n + 1 : Nat) : Int) by omega)]; omega
theorem se_in (hW : RW_ r) (hD : DW_ r s) {w b : Int} (hw : 0 ≤ w ∧ w < r 6) (hb : 0 ≤ b ∧ b < r 7) (hg : 0 ≤ bg_ r s w b) : DW_ r (se_ s w b (bg_ r s w b) (hn_ r s b)) := by
  have hn := hW.n
  have h1 := bg_in hW hD hw hb
  have hc : cy_ r s w b := Classical.byContradiction fun q => by
    unfold bg_ at hg
    rw [if_neg q] at hg
    omega
  have hh : hn_ r s b = -2 ∨ (0 ≤ hn_ r s b ∧ hn_ r s b < r 4) := hd_in (by omega)
  have hc1 := hc.1.2.1
  have hc2 := hc.1.2.2.1
  have hcm := se_cm (s := s) (w := w) (b := b) (day := bg_ r s w b) (to := hn_ r s b) (by omega) (by omega) hg hc1 8 (by decide)
  rw [if_pos (show b < ((8 : Nat) : Int) by omega)] at hcm
  have hcl := cm_le s 8
  have hcl2 := cm_le (se_ s w b (bg_ r s w b) (hn_ r s b)) 8
  have hs7 := hD.2.1 w hw.1 (by omega)
  generalize hday : bg_ r s w b = day at *
  generalize hto : hn_ r s b = to at *
  refine ⟨?_, fun v h0 h1 => ?_, fun c h0 h1 => ?_, fun j h0 h1 => ?_⟩
  · have := hD.1
    unfold se_
    rw [if_neg (by omega), if_neg (by omega), if_neg (by omega), if_neg (by omega), if_neg (by omega), if_neg (by omega), if_neg (by omega), if_neg (by omega)]; exact this
  · have hv := hD.2.1 v h0 h1
    rw [hcm]
    have e2 : se_ s w b day to (2 + v) = if v = w then to else s (2 + v) := by
      unfold se_
      rw [if_neg (by omega), if_neg (by omega), if_neg (by omega)]
      by_cases q : v = w
      · rw [if_pos (by omega), if_pos q]
      · rw [if_neg (by omega), if_neg q]
    have e7 : se_ s w b day to (7 + v) = if v = w then day else s (7 + v) := by
      unfold se_
      rw [if_neg (by omega), if_neg (by omega)]
      by_cases q : v = w
      · rw [if_pos (by omega), if_pos q]
      · rw [if_neg (by omega), if_neg q, if_neg (by omega)]
    rw [e2, e7]
    by_cases q : v = w
    · rw [if_pos q, if_pos q]; omega
    · rw [if_neg q, if_neg q]; omega
  · have hv := hD.2.2.1 c h0 h1
    have e2 : se_ s w b day to (12 + c) = if c = b then day + 1 else s (12 + c) := by
      unfold se_
      rw [if_neg (by omega)]
      by_cases q : c = b
      · rw [if_pos (by omega), if_pos q]
      · rw [if_neg (by omega), if_neg q, if_neg (by omega), if_neg (by omega)]
    have e7 : se_ s w b day to (20 + c) = if c = b then to + 1 else s (20 + c) := by
      unfold se_
      by_cases q : c = b
      · rw [if_pos (by omega), if_pos q]
      · rw [if_neg (by omega), if_neg q, if_neg (by omega), if_neg (by omega), if_neg (by omega)]
    rw [e2, e7]
    by_cases q : c = b
    · rw [if_pos q, if_pos q]; omega
    · rw [if_neg q, if_neg q]; exact hv
  · have := hD.2.2.2 j h0 h1
    unfold se_
    rw [if_neg (by omega), if_neg (by omega), if_neg (by omega), if_neg (by omega)]; exact this
/-- one place changed -/
def pt_ (s : Int → Int) (k x : Int) : Int → Int := fun j => if j = k then x else s j
theorem pt_cm {s : Int → Int} {k x : Int} (hk : k < 12 ∨ 20 ≤ k) : ∀ n : Nat, (n : Int) ≤ 8 → cm_ (pt_ s k x) n = cm_ s n := by
  intro n
  induction n with
  | zero => intros; rfl
  | succ n ih =>
    intro hn
    simp only [cm_]
    rw [ih (by omega)]
    unfold pt_
    rw [if_neg (show ¬ (12 + (n : Int) = k) by omega)]
theorem pt_sung (hD : DW_ r s) {k x : Int} (hk : 28 ≤ k ∧ k < 76) (hx : 0 ≤ x ∧ x < r 0) : DW_ r (pt_ s k x) := by
  have hc := pt_cm (s := s) (k := k) (x := x) (by omega) 8 (by decide)
  refine ⟨?_, fun v h0 h1 => ?_, fun c h0 h1 => ?_, fun j h0 h1 => ?_⟩
  · have := hD.1
    unfold pt_
    rw [if_neg (by omega), if_neg (by omega)]; exact this
  · have := hD.2.1 v h0 h1
    rw [hc]
    unfold pt_
    rw [if_neg (by omega), if_neg (by omega)]; exact this
  · have := hD.2.2.1 c h0 h1
    unfold pt_
    rw [if_neg (by omega), if_neg (by omega)]; exact this
  · have := hD.2.2.2 j h0 h1
    unfold pt_
    split <;> omega
theorem pt_year (hD : DW_ r s) {x : Int} (hx : 0 ≤ x ∧ x ≤ 9999) : DW_ r (pt_ s 0 x) := by
  have hc := pt_cm (s := s) (k := 0) (x := x) (by omega) 8 (by decide)
  refine ⟨?_, fun v h0 h1 => ?_, fun c h0 h1 => ?_, fun j h0 h1 => ?_⟩
  · have := hD.1
    unfold pt_
    rw [if_pos rfl, if_neg (by omega)]; omega
  · have := hD.2.1 v h0 h1
    rw [hc]
    unfold pt_
    rw [if_neg (by omega), if_neg (by omega)]; exact this
  · have := hD.2.2.1 c h0 h1
    unfold pt_
    rw [if_neg (by omega), if_neg (by omega)]; exact this
  · have := hD.2.2.2 j h0 h1
    unfold pt_
    rw [if_neg (by omega)]; exact this
theorem xr_in {x k : Int} (hx : 0 ≤ x ∧ x < 4096) (hk : 0 ≤ k ∧ k < 12) : 0 ≤ ixor_ x (ishl_ 1 k) ∧ ixor_ x (ishl_ 1 k) < 4096 := by
  obtain ⟨n, rfl⟩ := Int.eq_ofNat_of_zero_le hx.1
  have hp := p2_lt (a := k) (n := 12) hk.1 (by omega)
  rw [ishl_i hk.1 (by omega), ixor_n (by omega) (by omega)]
  have := Nat.xor_lt_two_pow (n := 12) (x := n) (y := 2 ^ k.toNat) (by omega) hp
  omega
theorem pt_closed (hD : DW_ r s) {x : Int} (hx : 0 ≤ x ∧ x < 4096) : DW_ r (pt_ s 1 x) := by
  have hc := pt_cm (s := s) (k := 1) (x := x) (by omega) 8 (by decide)
  refine ⟨?_, fun v h0 h1 => ?_, fun c h0 h1 => ?_, fun j h0 h1 => ?_⟩
  · have := hD.1
    unfold pt_
    rw [if_pos rfl, if_neg (by omega)]; omega
  · have := hD.2.1 v h0 h1
    rw [hc]
    unfold pt_
    rw [if_neg (by omega), if_neg (by omega)]; exact this
  · have := hD.2.2.1 c h0 h1
    unfold pt_
    rw [if_neg (by omega), if_neg (by omega)]; exact this
  · have := hD.2.2.2 j h0 h1
    unfold pt_
    rw [if_neg (by omega)]; exact this
/-- acts: what is returned, the trouble, what is put by, what is now -/
def aSend_ (p : Int) (r s : Int → Int) (un : Int) (U : Int → Int → Int) (w b : Int) : Int × Int × Int × (Int → Int → Int) × (Int → Int) :=
  if p = 1 ∧ (0 ≤ w ∧ w < r 6) ∧ (0 ≤ b ∧ b < r 7) then (if bg_ r s w b < 0 then (-1, 5, un, U, s) else (bg_ r s w b, 0, puN_ un, puU_ un U s, se_ s w b (bg_ r s w b) (hn_ r s b))) else (-1, 1, un, U, s)
def aTune_ (p : Int) (r s : Int → Int) (un : Int) (U : Int → Int → Int) (b k v : Int) : Int × Int × Int × (Int → Int → Int) × (Int → Int) :=
  if p = 1 ∧ (0 ≤ b ∧ b < r 7) ∧ (0 ≤ k ∧ k < bl_ r b) then (if 0 ≤ v ∧ v < r 0 then (if s (28 + 6 * b + k) = v ∨ 0 < s (12 + b) then (0, 5, un, U, s) else (1, 0, puN_ un, puU_ un U s, pt_ s (28 + 6 * b + k) v)) else (0, 2, un, U, s)) else (0, 1, un, U, s)
def aYears_ (p : Int) (s : Int → Int) (un : Int) (U : Int → Int → Int) (n : Int) : Int × Int × Int × (Int → Int → Int) × (Int → Int) :=
  if p = 1 then (if 1 ≤ n ∧ n ≤ 99 then (if 9999 < s 0 + n then (-1, 3, un, U, s) else (s 0 + n, 0, puN_ un, puU_ un U s, pt_ s 0 (s 0 + n))) else (-1, 2, un, U, s)) else (-1, 1, un, U, s)
def aClose_ (p : Int) (r s : Int → Int) (un : Int) (U : Int → Int → Int) (k is : Int) : Int × Int × Int × (Int → Int → Int) × (Int → Int) :=
  if p = 1 ∧ (0 ≤ k ∧ k < r 5) then (if (hb_ (s 1) k ∧ is = 1) ∨ (¬ hb_ (s 1) k ∧ is = 0) then (0, 5, un, U, s) else (1, 0, puN_ un, puU_ un U s, pt_ s 1 (ixor_ (s 1) (ishl_ 1 k)))) else (0, 1, un, U, s)
def aUndo_ (s : Int → Int) (un : Int) (U : Int → Int → Int) : Int × Int × Int × (Int → Int → Int) × (Int → Int) := if un = 0 then (0, 6, un, U, s) else (1, 0, un - 1, U, ov_ (U (un - 1)) s)
def aImage_ (p : Int) (s : Int → Int) (im : Int) (I : Int → Int → Int) : Int × Int × Int × (Int → Int → Int) := if p = 1 then (if im = 3 then (-1, 3, im, I) else (im, 0, im + 1, fun k => if k = im then s else I k)) else (-1, 1, im, I)
def aBack_ (s : Int → Int) (un im : Int) (I : Int → Int → Int) (i : Int) : Int × Int × Int × (Int → Int) := if 0 ≤ i ∧ i < im then (1, 0, 0, ov_ (I i) s) else (0, 1, un, s)
/-- the i-th box that hasn't come; -1: none -/
def qLed_ (p : Int) (r s : Int → Int) (i : Int) : Int := if p = 1 then fI_ (fun b => decide (s (12 + b) ≤ 0 ∧ sI_ (fun c => if s (12 + c) ≤ 0 then 1 else 0) b = i)) (r 7) else -1
def qSize_ (tp p : Int) (r s : Int → Int) (un im x : Int) : Int := if x = 12 then tp else if ¬ (0 ≤ x ∧ x ≤ 11) then -1 else if p = 1 then (if x ≤ 8 then r x else if x = 9 then s 0 else if x = 10 then un else im) else 0
/-- a byte that is fed -/
def fb_ (a b c d e k : Int) : Int := iand_ (ishr_ (if k < 4 then a else if k < 8 then b else if k < 12 then c else if k < 16 then d else e) (24 - 8 * (k % 4))) 255
end
