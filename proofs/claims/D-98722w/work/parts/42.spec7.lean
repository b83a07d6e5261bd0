/-! WHAT BOTH SIDES ANSWER, part 7: who brings which box -/
set_option maxRecDepth 100000
section
variable {r s : Int → Int}
/-- more boxes, or as many in fewer days -/
abbrev mb_ (m1 s1 m2 s2 : Int) : Prop := m2 < m1 ∨ (m1 = m2 ∧ s1 < s2)
def mf_ (B : Int → Int) (F : Int → Int × Int × Int) (u : Int) : Int → Int × Int × Int → Int × Int × Int := fun w a =>
  if hb_ u w ∨ B w < 0 then a else if mb_ ((F (ior_ u (ishl_ 1 w))).1 + 1) ((F (ior_ u (ishl_ 1 w))).2.1 + B w) a.1 a.2.1 then ((F (ior_ u (ishl_ 1 w))).1 + 1, (F (ior_ u (ishl_ 1 w))).2.1 + B w, w) else a
/-- the best for the last j boxes, the whales u being taken: how many, their days, who brings the first of them -/
def mw_ (r s : Int → Int) : Nat → Int → Int × Int × Int
  | 0, _ => (0, 0, -2)
  | j + 1, u => if mb_ (mw_ r s j u).1 (mw_ r s j u).2.1 (iI_ (mf_ (fun w => bg_ r s w (r 7 - (j + 1))) (mw_ r s j) u) (-100, 0, -2) (r 6)).1 (iI_ (mf_ (fun w => bg_ r s w (r 7 - (j + 1))) (mw_ r s j) u) (-100, 0, -2) (r 6)).2.1 then ((mw_ r s j u).1, (mw_ r s j u).2.1, -2) else iI_ (mf_ (fun w => bg_ r s w (r 7 - (j + 1))) (mw_ r s j) u) (-100, 0, -2) (r 6)
def ub_ (u q : Int) : Int := if q < 0 then u else ior_ u (ishl_ 1 q)
def ch_ (r s : Int → Int) : Nat → Int → Int → Int
  | 0, _, _ => -2
  | j + 1, u, c => if c = r 7 - (j + 1) then (mw_ r s (j + 1) u).2.2 else ch_ r s j (ub_ u (mw_ r s (j + 1) u).2.2) c
theorem mf_in (hW : RW_ r) (hD : DW_ r s) {j : Nat} (hj : (j : Int) + 1 ≤ r 7) (hi : ∀ u, 0 ≤ (mw_ r s j u).1 ∧ (mw_ r s j u).1 ≤ j ∧ 0 ≤ (mw_ r s j u).2.1 ∧ (mw_ r s j u).2.1 ≤ 96651 * j) (u : Int) {n : Int} (hn : 0 ≤ n ∧ n ≤ r 6) :
    iI_ (mf_ (fun w => bg_ r s w (r 7 - (j + 1))) (mw_ r s j) u) (-100, 0, -2) n = (-100, 0, -2) ∨ ((1 ≤ (iI_ (mf_ (fun w => bg_ r s w (r 7 - (j + 1))) (mw_ r s j) u) (-100, 0, -2) n).1 ∧ (iI_ (mf_ (fun w => bg_ r s w (r 7 - (j + 1))) (mw_ r s j) u) (-100, 0, -2) n).1 ≤ j + 1) ∧ (0 ≤ (iI_ (mf_ (fun w => bg_ r s w (r 7 - (j + 1))) (mw_ r s j) u) (-100, 0, -2) n).2.1 ∧ (iI_ (mf_ (fun w => bg_ r s w (r 7 - (j + 1))) (mw_ r s j) u) (-100, 0, -2) n).2.1 ≤ 96651 * (j + 1)) ∧ 0 ≤ (iI_ (mf_ (fun w => bg_ r s w (r 7 - (j + 1))) (mw_ r s j) u) (-100, 0, -2) n).2.2 ∧ (iI_ (mf_ (fun w => bg_ r s w (r 7 - (j + 1))) (mw_ r s j) u) (-100, 0, -2) n).2.2 < n) := by
  refine iI_inv (n := n) (fun k (a : Int × Int × Int) => a = (-100, 0, -2) ∨ ((1 ≤ a.1 ∧ a.1 ≤ j + 1) ∧ (0 ≤ a.2.1 ∧ a.2.1 ≤ 96651 * (j + 1)) ∧ 0 ≤ a.2.2 ∧ a.2.2 < k)) (Or.inl rfl) (fun k a h0 h1 h => ?_) hn.1
  have hq := hi (ior_ u (ishl_ 1 k))
  have hb := bg_bd hW hD (w := k) (b := r 7 - (j + 1)) (by omega) (by omega)
  unfold mf_
  split
  · rcases h with h | h
    · exact Or.inl h
    · exact Or.inr ⟨h.1, h.2.1, h.2.2.1, by omega⟩
  · rename_i q
    have q2 : 0 ≤ bg_ r s k (r 7 - (j + 1)) := Int.not_lt.mp (fun z => q (Or.inr z))
    split
    · refine Or.inr ⟨⟨?_, ?_⟩, ⟨?_, ?_⟩, ?_, ?_⟩ <;> dsimp only <;> omega
    · rcases h with h | h
      · exact Or.inl h
      · exact Or.inr ⟨h.1, h.2.1, h.2.2.1, by omega⟩
theorem mw_in (hW : RW_ r) (hD : DW_ r s) : ∀ (j : Nat), (j : Int) ≤ r 7 → ∀ u, 0 ≤ (mw_ r s j u).1 ∧ (mw_ r s j u).1 ≤ j ∧ 0 ≤ (mw_ r s j u).2.1 ∧ (mw_ r s j u).2.1 ≤ 96651 * j ∧ ((mw_ r s j u).2.2 = -2 ∨ (0 ≤ (mw_ r s j u).2.2 ∧ (mw_ r s j u).2.2 < r 6)) := by
  intro j
  induction j with
  | zero => intro _ u; simp [mw_]
  | succ j ih =>
    intro hj u
    have hn := hW.n
    have hi := ih (by omega)
    have hq := hi u
    have hf := mf_in hW hD (j := j) (by omega) (fun u => ⟨(hi u).1, (hi u).2.1, (hi u).2.2.1, (hi u).2.2.2.1⟩) u (n := r 6) (by omega)
    simp only [mw_]
    split
    · dsimp only; omega
    · rename_i q
      rcases hf with h | h
      · rw [h] at q; exact absurd (Or.inl (by dsimp only; omega)) q
      · omega
/-- what trying from a box on does to the best -/
def mu_ (r s : Int → Int) (b : Int) (T : Int → Int) (j : Nat) (u many sum bm bs : Int) (F : Int → Int) (bm' bs' : Int) (F' : Int → Int) : Prop :=
  (mb_ (many + (mw_ r s j u).1) (sum + (mw_ r s j u).2.1) bm bs ∧ bm' = many + (mw_ r s j u).1 ∧ bs' = sum + (mw_ r s j u).2.1 ∧ (∀ c, 0 ≤ c → c < b → F' c = T c) ∧ ∀ c, b ≤ c → c < r 7 → F' c = ch_ r s j u c) ∨
  (¬ mb_ (many + (mw_ r s j u).1) (sum + (mw_ r s j u).2.1) bm bs ∧ bm' = bm ∧ bs' = bs ∧ ∀ c, F' c = F c)
/-- the same when some whales have been tried for a box, the best of them a -/
def mi_ (r s : Int → Int) (b : Int) (T : Int → Int) (j : Nat) (u many sum bm bs : Int) (F : Int → Int) (a : Int × Int × Int) (bm' bs' : Int) (F' : Int → Int) : Prop :=
  (mb_ (many + a.1) (sum + a.2.1) bm bs ∧ bm' = many + a.1 ∧ bs' = sum + a.2.1 ∧ (∀ c, 0 ≤ c → c < b → F' c = T c) ∧ F' b = a.2.2 ∧ ∀ c, b < c → c < r 7 → F' c = ch_ r s j (ub_ u a.2.2) c) ∨
  (¬ mb_ (many + a.1) (sum + a.2.1) bm bs ∧ bm' = bm ∧ bs' = bs ∧ ∀ c, F' c = F c)
theorem mi_.start {b : Int} {T : Int → Int} {j : Nat} {u many sum bm bs : Int} {F : Int → Int} (h : many ≤ 50) (hb : -1 ≤ bm) : mi_ r s b T j u many sum bm bs F (-100, 0, -2) bm bs F :=
  Or.inr ⟨fun q => by rcases q with q | q <;> dsimp only at q <;> omega, rfl, rfl, fun _ => rfl⟩
theorem mi_.skip {b : Int} {T : Int → Int} {j : Nat} {u many sum bm bs : Int} {F : Int → Int} {a : Int × Int × Int} {bm' bs' : Int} {F' B : Int → Int} {G : Int → Int × Int × Int} {w : Int} (h : mi_ r s b T j u many sum bm bs F a bm' bs' F') (hw : hb_ u w ∨ B w < 0) : mi_ r s b T j u many sum bm bs F (mf_ B G u w a) bm' bs' F' := by
  unfold mf_
  rw [if_pos hw]; exact h
theorem mi_.one {b : Int} {T T' : Int → Int} {j : Nat} {u many sum bm bs : Int} {F : Int → Int} {a : Int × Int × Int} {bm' bs' : Int} {F' B : Int → Int} {w : Int} {bm'' bs'' : Int} {F'' : Int → Int}
    (h : mi_ r s b T j u many sum bm bs F a bm' bs' F') (hw : ¬ (hb_ u w ∨ B w < 0)) (h0 : 0 ≤ w) (hb0 : 0 ≤ b) (hT : ∀ c, 0 ≤ c → c < b → T' c = T c) (hTb : T' b = w) (g : mu_ r s (b + 1) T' j (ior_ u (ishl_ 1 w)) (many + 1) (sum + B w) bm' bs' F' bm'' bs'' F'') :
    mi_ r s b T j u many sum bm bs F (mf_ B (mw_ r s j) u w a) bm'' bs'' F'' := by
  unfold mf_
  rw [if_neg hw]
  have eu : ub_ u w = ior_ u (ishl_ 1 w) := by unfold ub_; rw [if_neg (by omega)]
  by_cases hc : mb_ ((mw_ r s j (ior_ u (ishl_ 1 w))).1 + 1) ((mw_ r s j (ior_ u (ishl_ 1 w))).2.1 + B w) a.1 a.2.1
  · rw [if_pos hc]
    rcases g with ⟨g1, g2, g3, g4, g5⟩ | ⟨g1, g2, g3, g4⟩
    · refine Or.inl ⟨?_, ?_, ?_, fun c c0 c1 => ?_, ?_, fun c c0 c1 => ?_⟩
      · dsimp only
        rcases h with ⟨x1, x2, x3, -⟩ | ⟨x1, x2, x3, -⟩ <;> omega
      · dsimp only; omega
      · dsimp only; omega
      · rw [g4 c c0 (by omega), hT c c0 c1]
      · rw [g4 b hb0 (by omega), hTb]
      · dsimp only; rw [eu, g5 c (by omega) c1]
    · rcases h with ⟨x1, x2, x3, -⟩ | ⟨x1, x2, x3, x4⟩
      · exfalso; omega
      · refine Or.inr ⟨?_, by omega, by omega, fun c => by rw [g4 c, x4 c]⟩
        dsimp only
        omega
  · rw [if_neg hc]
    rcases g with ⟨g1, g2, g3, g4, g5⟩ | ⟨g1, g2, g3, g4⟩
    · exfalso
      rcases h with ⟨x1, x2, x3, -⟩ | ⟨x1, x2, x3, x4⟩ <;> omega
    · rcases h with ⟨x1, x2, x3, x4, x5, x6⟩ | ⟨x1, x2, x3, x4⟩
      · exact Or.inl ⟨x1, by omega, by omega, fun c c0 c1 => by rw [g4, x4 c c0 c1], by rw [g4, x5], fun c c0 c1 => by rw [g4, x6 c c0 c1]⟩
      · exact Or.inr ⟨x1, by omega, by omega, fun c => by rw [g4, x4]⟩
theorem mi_.done {b : Int} {T T' : Int → Int} {j : Nat} {u many sum bm bs : Int} {F : Int → Int} {bm' bs' : Int} {F' : Int → Int} {bm'' bs'' : Int} {F'' : Int → Int} (hbj : b = r 7 - (j + 1)) (hb0 : 0 ≤ b) 
    (h : mi_ r s b T j u many sum bm bs F (iI_ (mf_ (fun w => bg_ r s w (r 7 - (j + 1))) (mw_ r s j) u) (-100, 0, -2) (r 6)) bm' bs' F') (hT : ∀ c, 0 ≤ c → c < b → T' c = T c) (hTb : T' b = -2) (g : mu_ r s (b + 1) T' j u many sum bm' bs' F' bm'' bs'' F'') :
    mu_ r s b T (j + 1) u many sum bm bs F bm'' bs'' F'' := by
  unfold mu_
  have ech : ∀ c, b ≤ c → c < r 7 → ch_ r s (j + 1) u c = if c = b then (mw_ r s (j + 1) u).2.2 else ch_ r s j (ub_ u (mw_ r s (j + 1) u).2.2) c := by
    intro c c0 c1
    rw [ch_, hbj]
  have eu : ub_ u (-2) = u := rfl
  by_cases hc : mb_ (mw_ r s j u).1 (mw_ r s j u).2.1 (iI_ (mf_ (fun w => bg_ r s w (r 7 - (j + 1))) (mw_ r s j) u) (-100, 0, -2) (r 6)).1 (iI_ (mf_ (fun w => bg_ r s w (r 7 - (j + 1))) (mw_ r s j) u) (-100, 0, -2) (r 6)).2.1
  · have e : mw_ r s (j + 1) u = ((mw_ r s j u).1, (mw_ r s j u).2.1, -2) := by rw [mw_, if_pos hc]
    rw [e] at ech ⊢
    dsimp only at ech ⊢
    rcases g with ⟨g1, g2, g3, g4, g5⟩ | ⟨g1, g2, g3, g4⟩
    · refine Or.inl ⟨?_, g2, g3, fun c c0 c1 => by rw [g4 c c0 (by omega), hT c c0 c1], fun c c0 c1 => ?_⟩
      · rcases h with ⟨x1, x2, x3, -⟩ | ⟨x1, x2, x3, -⟩ <;> omega
      · rw [ech c c0 c1]
        by_cases hcb : c = b
        · rw [if_pos hcb, hcb, g4 b hb0 (by omega), hTb]
        · rw [if_neg hcb, g5 c (by omega) c1, eu]
    · rcases h with ⟨x1, x2, x3, -⟩ | ⟨x1, x2, x3, x4⟩
      · exfalso; omega
      · exact Or.inr ⟨by omega, by omega, by omega, fun c => by rw [g4, x4]⟩
  · have e : mw_ r s (j + 1) u = iI_ (mf_ (fun w => bg_ r s w (r 7 - (j + 1))) (mw_ r s j) u) (-100, 0, -2) (r 6) := by rw [mw_, if_neg hc]
    rw [← e] at h hc
    rcases g with ⟨g1, g2, g3, g4, g5⟩ | ⟨g1, g2, g3, g4⟩
    · exfalso
      rcases h with ⟨x1, x2, x3, -⟩ | ⟨x1, x2, x3, x4⟩ <;> omega
    · rcases h with ⟨x1, x2, x3, x4, x5, x6⟩ | ⟨x1, x2, x3, x4⟩
      · refine Or.inl ⟨x1, by omega, by omega, fun c c0 c1 => by rw [g4, x4 c c0 c1], fun c c0 c1 => ?_⟩
        rw [ech c c0 c1, g4]
        by_cases hcb : c = b
        · rw [if_pos hcb, hcb, x5]
        · rw [if_neg hcb, x6 c (by omega) c1]
      · exact Or.inr ⟨x1, by omega, by omega, fun c => by rw [g4, x4]⟩
def qMatch_ (p : Int) (r s : Int → Int) : Int × Int := if p = 1 then ((mw_ r s (r 7).toNat 0).1, 0) else (-1, 1)
def qMatchDays_ (p : Int) (r s : Int → Int) : Int × Int := if p = 1 then ((mw_ r s (r 7).toNat 0).2.1, 0) else (-1, 1)
def qMatchOf_ (p : Int) (r s : Int → Int) (b : Int) : Int × Int := if p = 1 ∧ (0 ≤ b ∧ b < r 7) then (ch_ r s (r 7).toNat 0 b, 0) else (-1, 1)
def qMeet_ (p : Int) (r s : Int → Int) (b w c x : Int) : Int × Int :=
  if p = 1 ∧ (0 ≤ b ∧ b < r 7) ∧ (0 ≤ c ∧ c < r 7) ∧ (0 ≤ w ∧ w < r 6) ∧ (0 ≤ x ∧ x < r 6) ∧ b ≠ c ∧ w ≠ x then
    (if cy_ r s w b ∧ cy_ r s x c ∧ hn_ r s b = r (127 + 4 * c) ∧ hn_ r s c = r (127 + 4 * b) ∧ (tk_ r s w b < ar_ r s w b ∧ tk_ r s x c < ar_ r s w b) ∧ (tk_ r s w b < ar_ r s x c ∧ tk_ r s x c < ar_ r s x c) then (if tk_ r s x c < tk_ r s w b then tk_ r s w b else tk_ r s x c) else -2, 0)
  else (-1, 1)
/-- from spout to spout: where a whale was last, since when, whether it could -/
def ff_ (r s : Int → Int) (w : Int) : Int → Int × Int × Int → Int × Int × Int := fun k q =>
  if r (159 + 3 * k) = w then (r (160 + 3 * k), r (161 + 3 * k), if q.2.2 = 1 ∧ 0 ≤ av1_ r s (r (107 + 4 * w)) q.1 (r (160 + 3 * k)) q.2.1 ∧ av1_ r s (r (107 + 4 * w)) q.1 (r (160 + 3 * k)) q.2.1 ≤ r (161 + 3 * k) then 1 else 0) else q
def fa_ (r s : Int → Int) (w : Int) : Int × Int × Int := iI_ (ff_ r s w) (r (108 + 4 * w), 0, 1) (r 8)
theorem ff_in (hW : RW_ r) {w n : Int} (hw : 0 ≤ w ∧ w < r 6) (hn : 0 ≤ n ∧ n ≤ r 8) : (0 ≤ (iI_ (ff_ r s w) (r (108 + 4 * w), 0, 1) n).1 ∧ (iI_ (ff_ r s w) (r (108 + 4 * w), 0, 1) n).1 < r 4) ∧ (0 ≤ (iI_ (ff_ r s w) (r (108 + 4 * w), 0, 1) n).2.1 ∧ (iI_ (ff_ r s w) (r (108 + 4 * w), 0, 1) n).2.1 ≤ 9999) ∧ ((iI_ (ff_ r s w) (r (108 + 4 * w), 0, 1) n).2.2 = 0 ∨ (iI_ (ff_ r s w) (r (108 + 4 * w), 0, 1) n).2.2 = 1) := by
  have h1 := hW.whale hw.1 hw.2
  refine iI_inv (n := n) (fun k (q : Int × Int × Int) => (0 ≤ q.1 ∧ q.1 < r 4) ∧ (0 ≤ q.2.1 ∧ q.2.1 ≤ 9999) ∧ (q.2.2 = 0 ∨ q.2.2 = 1)) (by dsimp only; omega) (fun k q h0 h1 h => ?_) hn.1
  have hs := hW.spout (k := k) h0 (by omega)
  unfold ff_
  split
  · refine ⟨hs.2.1, hs.2.2, ?_⟩
    dsimp only
    split <;> simp
  · exact h
theorem fa_in (hW : RW_ r) {w : Int} (hw : 0 ≤ w ∧ w < r 6) : (0 ≤ (fa_ r s w).1 ∧ (fa_ r s w).1 < r 4) ∧ (0 ≤ (fa_ r s w).2.1 ∧ (fa_ r s w).2.1 ≤ 9999) ∧ ((fa_ r s w).2.2 = 0 ∨ (fa_ r s w).2.2 = 1) := by
  have hn := hW.n
  exact ff_in hW hw (by omega)
def qFits_ (p : Int) (r s : Int → Int) : Int × Int := if p = 1 then (iI_ (fun w a => ior_ a (if (fa_ r s w).2.2 = 1 then ishl_ 1 w else 0)) 0 (r 6), 0) else (-1, 1)
/-- islands at which a whale can be by a day -/
def rc_ (r s : Int → Int) (w d : Int) : Int := iI_ (fun i a => ior_ a (if er_ r s (r (107 + 4 * w)) (fa_ r s w).1 (fa_ r s w).2.1 i ≤ d then ishl_ 1 i else 0)) 0 (r 4)
def qReach_ (p : Int) (r s : Int → Int) (w d : Int) : Int × Int := if p = 1 ∧ (0 ≤ w ∧ w < r 6) then (if 0 ≤ d ∧ d ≤ 99999 then (rc_ r s w d, 0) else (-1, 2)) else (-1, 1)
/-- how many fit; how many of them can be at an island -/
def pa_ (r s : Int → Int) : Int := sI_ (fun w => if (fa_ r s w).2.2 = 1 then 1 else 0) (r 6)
def pc_ (r s : Int → Int) (d i : Int) : Int := sI_ (fun w => if (fa_ r s w).2.2 = 1 ∧ hb_ (rc_ r s w d) i then 1 else 0) (r 6)
def po_ (r s : Int → Int) (d i : Int) : Int := if pa_ r s < 2 * pc_ r s d i then 2 * pc_ r s d i - pa_ r s else pa_ r s - 2 * pc_ r s d i
def pf_ (r s : Int → Int) (d : Int) : Int → Int × Int → Int × Int := fun i q => if po_ r s d i < q.2 then (i, po_ r s d i) else q
def qPier_ (p : Int) (r s : Int → Int) (d : Int) : Int × Int := if p = 1 then (if 0 ≤ d ∧ d ≤ 99999 then ((iI_ (pf_ r s d) (-1, 1000000) (r 4)).1, 0) else (-1, 2)) else (-1, 1)
end
