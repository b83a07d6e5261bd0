/-! THE REFERENCE: islands named; beginnings of lines. Written by mod/m62.py -/
set_option maxRecDepth 100000
section
variable {G : JG} {m : Nat} {σ : JH}
theorem PI_.ndd {γ : JH} (h : PI_ m γ) (lo hi : Int) : PI_ m (ndd_ m γ lo hi) := by
  unfold ndd_
  split
  · split
    · split
      · exact h
      · exact h.wr _ _
    · exact h.wr _ _
  · exact h
theorem ndd_fr (γ : JH) (lo hi : Int) : Fr_ (pf1_ m) γ (ndd_ m γ lo hi) := by
  unfold ndd_
  split
  · split
    · split
      · exact Fr_.rf
      · exact wr_fr _ _ _
    · exact wr_fr _ _ _
  · exact Fr_.rf
/-- goes on if nothing failed -/
def onn_ (m : Nat) (γ : JH) : JH := if iv_ γ m 13 = 0 then nxt_ m γ else γ
theorem PI_.onn {γ : JH} (h : PI_ m γ) : PI_ m (onn_ m γ) := by
  unfold onn_
  split
  · exact h.nxt
  · exact h
theorem onn_fr (γ : JH) : Fr_ (pf1_ m) γ (onn_ m γ) := by
  unfold onn_
  split
  · exact nxt_fr _
  · exact Fr_.rf
theorem mo_islandPassed  {Q : Int → JH → Prop} (hR : MR_ G m σ) (hP : PI_ m σ) (hB : FB_ m σ) (hL : LS_ G σ)
    (hQ : Q (ndv_ m σ 0 6) (onn_ m (ndd_ m σ 0 6))) : CallI_ G 10 yX2_islandPassed cX2_islandPassed 2 (some .int) [A_ (some m)] σ Q := by
  refine call_go [some (A_ (some m)), none] (by decide) (Nat.le_of_ble_eq_true rfl) rfl ?_
  refine g_al0 dX2_islandPassed_0 ?_
  refine g_iconst dX2_islandPassed_1 ?_
  refine g_bipush dX2_islandPassed_2 (by decide) (by decide) ?_
  refine g_callV2I (d' := 9) lk_X2_153 hR.sh rfl (rm_lt (by decide) (by decide)) (Nat.le_of_ble_eq_true rfl) dX2_islandPassed_4 ?_
  refine mo_named hR hP hB hL (by omega) (by omega) ?_
  have hR := hR.fr (ndd_fr (m := m) σ 0 6)
  have hP := hP.ndd 0 6
  have hp3 := hP.2.2.1
  refine g_is1 dX2_islandPassed_7 (by decide) rfl ?_
  refine g_al0 dX2_islandPassed_8 ?_
  refine f_getI 13 fk_X2_100 rfl hR.sh (fun _ _ => rfl) dX2_islandPassed_9 ?_
  refine g_if_ne (tgt := 19) dX2_islandPassed_12 (by decide) (by omega) (fun h12 => ?_) (fun h12 => ?_)
  · refine g_il1 dX2_islandPassed_19 ?_
    exact g_iret rfl dX2_islandPassed_20 ⟨_, rfl, by unfold onn_ at hQ; rw [if_neg (by omega)] at hQ; exact hQ⟩
  refine g_al0 dX2_islandPassed_15 ?_
  refine g_callV0V (d' := 3) lk_X2_121 hR.sh rfl (rm_lt (by decide) (by decide)) (Nat.le_of_ble_eq_true rfl) dX2_islandPassed_16 ?_
  refine mo_next hR hP.1 hP.2.1 ?_
  refine g_il1 dX2_islandPassed_19 ?_
  exact g_iret rfl dX2_islandPassed_20 ⟨_, rfl, by unfold onn_ at hQ; rw [if_pos (by omega)] at hQ; exact hQ⟩
/-- what reading on writes, the told apart -/
def pf0_ (m : Nat) (b : Nat) (k : Int) : Prop := (b = m ∧ ((4 ≤ k ∧ k ≤ 10) ∨ k = 13)) ∨ b = m + 2
theorem nxt_f0 (γ : JH) : Fr_ (pf0_ m) γ (nxt_ m γ) := by
  unfold nxt_
  dsimp only
  split
  · exact ((((Fr_.rf.pi (Or.inl ⟨rfl, by omega⟩)).pi (Or.inl ⟨rfl, by omega⟩)).pi (Or.inl ⟨rfl, by omega⟩)).pi (Or.inl ⟨rfl, by omega⟩)).pi (Or.inl ⟨rfl, by omega⟩)
  · split
    · refine Fr_.pi (Fr_.pi (Fr_.pi ?_ (Or.inl ⟨rfl, by omega⟩)) (Or.inl ⟨rfl, by omega⟩)) (Or.inl ⟨rfl, by omega⟩)
      refine ⟨fun _ => rfl, fun _ _ => rfl, rfl, rfl, fun b k q => ?_⟩
      unfold pf0_ at q
      rw [iv_pb, if_neg (by omega), iv_pi, if_neg (by omega), iv_pi, if_neg (by omega), iv_pi, if_neg (by omega)]
    · split
      · exact (((((Fr_.rf.pi (Or.inl ⟨rfl, by omega⟩)).pi (Or.inl ⟨rfl, by omega⟩)).pi (Or.inl ⟨rfl, by omega⟩)).pi (Or.inl ⟨rfl, by omega⟩)).pi (Or.inl ⟨rfl, by omega⟩)).pi (Or.inl ⟨rfl, by omega⟩)
      · exact ((((Fr_.rf.pi (Or.inl ⟨rfl, by omega⟩)).pi (Or.inl ⟨rfl, by omega⟩)).pi (Or.inl ⟨rfl, by omega⟩)).pi (Or.inl ⟨rfl, by omega⟩)).pi (Or.inl ⟨rfl, by omega⟩)
theorem wr_f0 (γ : JH) (w a : Int) : Fr_ (pf0_ m) γ (wr_ m γ w a) := by
  unfold wr_
  split
  · exact ((Fr_.rf.pi (Or.inl ⟨rfl, by omega⟩)).pi (Or.inl ⟨rfl, by omega⟩)).pi (Or.inl ⟨rfl, by omega⟩)
  · exact Fr_.rf
theorem mus_f0 (γ : JH) (n : Int) (c : Int → Int) : Fr_ (pf0_ m) γ (mus_ m γ n c) := by
  unfold mus_
  split
  · split
    · exact nxt_f0 _
    · exact wr_f0 _ _ _
  · exact Fr_.rf
theorem num_f0 (γ : JH) (lo hi : Int) : Fr_ (pf0_ m) γ (num_ m γ lo hi) := by
  unfold num_
  split
  · split
    · split
      · exact nxt_f0 _
      · exact wr_f0 _ _ _
    · exact wr_f0 _ _ _
  · exact Fr_.rf
theorem ndd_f0 (γ : JH) (lo hi : Int) : Fr_ (pf0_ m) γ (ndd_ m γ lo hi) := by
  unfold ndd_
  split
  · split
    · split
      · exact Fr_.rf
      · exact wr_f0 _ _ _
    · exact wr_f0 _ _ _
  · exact Fr_.rf
theorem onn_f0 (γ : JH) : Fr_ (pf0_ m) γ (onn_ m γ) := by
  unfold onn_
  split
  · exact nxt_f0 _
  · exact Fr_.rf
theorem aft_f0 (γ : JH) (n : Int) (c : Int → Int) (lo hi : Int) : Fr_ (pf0_ m) γ (aft_ m γ n c lo hi) := (mus_f0 γ n c).tr (num_f0 _ lo hi)
theorem Fr_.f1 {γ γ' : JH} (h : Fr_ (pf0_ m) γ γ') : Fr_ (pf1_ m) γ γ' := h.mono fun _ _ q => by unfold pf0_ at q; unfold pf1_; omega
theorem Fr_.f4 {γ γ' : JH} (h : Fr_ (pf0_ m) γ γ') (k : Int) : iv_ γ' (m + 4) k = iv_ γ (m + 4) k := h.2.2.2.2 _ _ (fun q => by unfold pf0_ at q; omega)
theorem FB_.f0 {γ γ' : JH} (h : FB_ m γ) (f : Fr_ (pf0_ m) γ γ') : FB_ m γ' := fun k k0 k1 => by rw [f.f4]; exact h k k0 k1
theorem PI_.aft {γ : JH} (h : PI_ m γ) (n : Int) (c : Int → Int) (lo hi : Int) : PI_ m (aft_ m γ n c lo hi) := (h.mus n c).num lo hi
/-- an island behind a word -/
def ibh_ (m : Nat) (γ : JH) (n : Int) (c : Int → Int) : JH := onn_ m (ndd_ m (mus_ m γ n c) 0 6)
def ibv_ (m : Nat) (γ : JH) (n : Int) (c : Int → Int) : Int := ndv_ m (mus_ m γ n c) 0 6
theorem ibh_f0 (γ : JH) (n : Int) (c : Int → Int) : Fr_ (pf0_ m) γ (ibh_ m γ n c) := (mus_f0 γ n c).tr ((ndd_f0 _ 0 6).tr (onn_f0 _))
theorem PI_.ibh {γ : JH} (h : PI_ m γ) (n : Int) (c : Int → Int) : PI_ m (ibh_ m γ n c) := ((h.mus n c).ndd 0 6).onn
theorem mo_islandBehind {a v n : Nat} {c : Int → Int} {Q : Int → JH → Prop} (hR : MR_ G m σ) (hP : PI_ m σ) (hB : FB_ m σ) (hL : LS_ G σ) (hS : Str_ σ a v n c)
    (hQ : Q (ibv_ m σ n c) (ibh_ m σ n c)) : CallI_ G 11 yX2_islandBehind cX2_islandBehind 2 (some .int) [A_ (some m), A_ (some a)] σ Q := by
  refine call_go [some (A_ (some m)), some (A_ (some a))] (by decide) (Nat.le_of_ble_eq_true rfl) rfl ?_
  refine g_al0 dX2_islandBehind_0 ?_
  refine g_al1 dX2_islandBehind_1 ?_
  refine g_callV1V (d' := 9) lk_X2_157 hR.sh rfl (rm_lt (by decide) (by decide)) (Nat.le_of_ble_eq_true rfl) dX2_islandBehind_2 ?_
  refine mo_must hR hP hS ?_
  have hf := mus_f0 (m := m) σ n c
  refine g_al0 dX2_islandBehind_5 ?_
  refine g_callV0I (d' := 10) lk_X2_161 (hR.fr hf).sh rfl (rm_lt (by decide) (by decide)) (Nat.le_of_ble_eq_true rfl) dX2_islandBehind_6 ?_
  refine mo_islandPassed (hR.fr hf) (hP.mus n c) (hB.f0 hf) (hL.fr hR.ge hf.f1) ?_
  exact g_iret rfl dX2_islandBehind_9 ⟨_, rfl, hQ⟩
end
