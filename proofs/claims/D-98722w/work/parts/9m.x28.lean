/-! THE COMPONENT: songs that are read. Written by mod/m9m.py -/
set_option maxRecDepth 100000
section
variable {G : JG} {m X ρ o : Nat} {σ σ' γ : JH} {T : XT} {c d : Int}
variable {f : Int → Int} {lo : Nat}
theorem nt_0 (hW : RW_ f) {i k : Int} (i0 : 0 ≤ i) (i1 : i < f 4) (k0 : 0 ≤ k) (k1 : k < 6) : nt_ f i k 0 = f (11 + 7 * i + k) := by
  have hs := hW.song i0 i1 k0 k1
  unfold nt_
  have e : (if f 2 = 0 then (0 : Int) else 0 / f 2 % f 0) = 0 := by
    split
    · rfl
    · rw [Int.zero_ediv, Int.zero_emod]
  rw [e, show f (11 + 7 * i + k) + f 0 - 0 = f (11 + 7 * i + k) + f 0 by omega, Int.add_emod_right]
  exact Int.emod_eq_of_lt hs.1 hs.2
theorem ul_z (hW : RW_ f) {i : Int} (i0 : 0 ≤ i) (i1 : i < f 4) {L : Int} (h0 : 0 ≤ L) (h6 : L ≤ 6) (w : Int → Int) : ul_ f w i 0 L = 0 ↔ ∀ k, 0 ≤ k → k < L → f (11 + 7 * i + k) = w k := by
  unfold ul_ sI_
  refine (iI_inv (n := L) (f := fun k a => a + (if nt_ f i k 0 = w k then 0 else 1)) (a := (0 : Int)) (P := fun n a => (a = 0 ↔ ∀ k, 0 ≤ k → k < n → f (11 + 7 * i + k) = w k) ∧ 0 ≤ a) ⟨⟨fun _ k k0 k1 => by omega, fun _ => rfl⟩, by omega⟩ (fun n a n0 n1 h => ?_) h0).1
  have e := nt_0 hW i0 i1 (k := n) n0 (by omega)
  (try dsimp only)
  rw [e]
  obtain ⟨h1, h2⟩ := h
  by_cases q : f (11 + 7 * i + n) = w n
  · rw [if_pos q]
    refine ⟨⟨fun z k k0 k1 => ?_, fun z => ?_⟩, by omega⟩
    · by_cases c : k = n
      · rw [c]; exact q
      · exact h1.mp (by omega) k k0 (by omega)
    · have := h1.mpr (fun k k0 k1 => z k k0 (by omega))
      omega
  · rw [if_neg q]
    refine ⟨⟨fun z => by omega, fun z => absurd (z n n0 (by omega)) q⟩, by omega⟩
theorem xr_isTold {A L : Nat} {w : Int → Int} {Q : Int → JH → Prop} (hs3 : sh_ σ ρ = some (.inl 3)) (hge : (gH_ G).size ≤ ρ) (hP1 : rv_ σ ρ 1 = some (xP_ T)) (hP : PP_ G σ lo T f) (hX : RX_ f) (hA : sh_ σ A = some (.inr (0, L))) (hL6 : L ≤ 6) (hv : ∀ k, 0 ≤ k → k < (L : Int) → iv_ σ A k = w k ∧ -100 ≤ w k ∧ w k ≤ 100)
    (hQ : ∀ z : Int, (z = 1 ∧ ∃ i, 0 ≤ i ∧ i < f 4 ∧ f (10 + 7 * i) = (L : Int) ∧ ∀ k, 0 ≤ k → k < (L : Int) → f (11 + 7 * i + k) = w k) ∨ (z = 0 ∧ ∀ i, 0 ≤ i → i < f 4 → ¬ (f (10 + 7 * i) = (L : Int) ∧ ∀ k, 0 ≤ k → k < (L : Int) → f (11 + 7 * i + k) = w k)) → Q z σ) : CallI_ G 7 yX3_isTold cX3_isTold 3 (some .boolean) [A_ (some ρ), A_ (some A)] σ Q := by
  refine call_go [some (A_ (some ρ)), some (A_ (some A)), none] (by decide) (Nat.le_of_ble_eq_true rfl) rfl ?_
  have hc := hX.1
  have L2 : ∀ (fu : Nat) (i : Int), f 4 - i < (fu : Int) → (0 ≤ i) → (i ≤ f 4) → (∀ j, 0 ≤ j → j < i → ¬ (f (10 + 7 * j) = (L : Int) ∧ ∀ k, 0 ≤ k → k < (L : Int) → f (11 + 7 * j + k) = w k)) → GoM_ G 7 yX3_isTold cX3_isTold 3 (some .boolean) σ (fun v σ' => ∃ x : Int, v = some (I_ x) ∧ Q x σ') 2 [some (A_ (some ρ)), some (A_ (some A)), some (I_ i)] [] σ := by
    intro fu
    induction fu with
    | zero => intro i hn i0 i1 hq; exact absurd hn (by omega)
    | succ fu ih =>
      intro i hn i0 i1 hq
      refine g_il2 dX3_isTold_2 ?_
      refine g_al0 dX3_isTold_3 ?_
      refine f_getA 1 fk_X3_12 rfl hs3 (fun _ _ => rfl) hP1 dX3_isTold_4 ?_
      refine f_getA 4 fk_X3_104 rfl hP.1.sh (fun _ _ => rfl) hP.1.f4 dX3_isTold_7 ?_
      refine g_callV0I (d' := 2) lk_X3_181 hP.1.l0.1 rfl (rm_lt (by decide) (by decide)) (Nat.le_of_ble_eq_true rfl) dX3_isTold_10 ?_
      refine js_size hP.1.l0 ?_
      refine g_icmp_ge (tgt := 51) dX3_isTold_13 (by decide) (by omega) (fun h13 => ?_) (fun h13 => ?_)
      · refine g_iconst dX3_isTold_51 ?_
        exact g_zret rfl (by omega) dX3_isTold_52 ⟨_, rfl, hQ _ (Or.inr ⟨rfl, fun j j0 j1 => hq j j0 (by omega)⟩)⟩
      refine g_al0 dX3_isTold_16 ?_
      refine f_getA 1 fk_X3_12 rfl hs3 (fun _ _ => rfl) hP1 dX3_isTold_17 ?_
      refine g_il2 dX3_isTold_20 ?_
      refine g_callV1I (d' := 5) lk_X3_184 hP.1.sh rfl (rm_lt (by decide) (by decide)) (Nat.le_of_ble_eq_true rfl) dX3_isTold_21 ?_
      have hW := hX.to (by omega)
      have hl := hW.len (i := i) (by omega) (by omega)
      refine xp_length hP.1 hW (by omega) ?_
      refine g_al1 dX3_isTold_24 ?_
      refine g_alen (by decide) hA dX3_isTold_25 ?_
      refine g_icmp_ne (tgt := 45) dX3_isTold_26 (by decide) (by omega) (fun h26 => ?_) (fun h26 => ?_)
      · refine g_inc2 dX3_isTold_45 (by decide) rfl ?_
        refine g_goto (tgt := 2) dX3_isTold_48 (by decide) ?_
        refine ih (i + 1) (by omega) (by omega) (by omega) (fun j j0 j1 => ?_)
        by_cases hj : j = i
        · rw [hj]; exact fun q => by omega
        · exact hq j j0 (by omega)
      refine g_al0 dX3_isTold_29 ?_
      refine f_getA 1 fk_X3_12 rfl hs3 (fun _ _ => rfl) hP1 dX3_isTold_30 ?_
      refine g_al1 dX3_isTold_33 ?_
      refine g_iconst dX3_isTold_34 ?_
      refine g_il2 dX3_isTold_35 ?_
      refine g_iconst dX3_isTold_36 ?_
      refine g_callV4I (d' := 6) lk_X3_186 hP.1.sh rfl (rm_lt (by decide) (by decide)) (Nat.le_of_ble_eq_true rfl) dX3_isTold_37 ?_
      have hz := ul_z hW i0 (show i < f 4 by omega) (L := f (10 + 7 * i)) (by omega) (by omega) w
      have hub := ul_in f w i 0 (L := f (10 + 7 * i)) (by omega)
      refine xp_unlike hP.1 hW (by omega) (by omega) hA (fun k k0 k1 => by rw [show (0 : Int) + k = k by omega]; exact hv k k0 (by omega)) (by omega) ?_
      refine g_if_ne (tgt := 45) dX3_isTold_40 (by decide) (by omega) (fun h40 => ?_) (fun h40 => ?_)
      · refine g_inc2 dX3_isTold_45 (by decide) rfl ?_
        refine g_goto (tgt := 2) dX3_isTold_48 (by decide) ?_
        refine ih (i + 1) (by omega) (by omega) (by omega) (fun j j0 j1 => ?_)
        by_cases hj : j = i
        · rw [hj]; exact fun q => by have := hz.mpr (fun k k0 k1 => q.2 k k0 (by omega)); omega
        · exact hq j j0 (by omega)
      refine g_iconst dX3_isTold_43 ?_
      exact g_zret rfl (by omega) dX3_isTold_44 ⟨_, rfl, hQ _ (Or.inl ⟨rfl, i, i0, by omega, by omega, fun k k0 k1 => hz.mp (by omega) k k0 (by omega)⟩)⟩
  refine g_iconst dX3_isTold_0 ?_
  refine g_is2 dX3_isTold_1 (by decide) rfl ?_
  exact L2 ((f 4).toNat + 1) 0 (by omega) (by omega) (by omega) (fun j j0 j1 => by omega)
/-- a song is read; sgp_: ahead of the next token -/
def sgp_ (m : Nat) (γ : JH) (i : Int) : JH := if iv_ γ m 13 = 0 then (if iv_ γ m 6 = 2 then (if tld_ m γ i = true then wr_ m γ 3 (iv_ γ m 4) else if sgi_ m γ = true then γ else wr_ m γ 7 (iv_ γ m 4)) else wr_ m γ 1 (iv_ γ m 4)) else γ
def sg0_ (m : Nat) (γ : JH) (i : Int) : JH := if iv_ γ m 13 = 0 then (if iv_ γ m 6 = 2 then (if tld_ m γ i = true then wr_ m γ 3 (iv_ γ m 4) else if sgi_ m γ = true then nxt_ m (psg_ m γ i) else wr_ m γ 7 (iv_ γ m 4)) else wr_ m γ 1 (iv_ γ m 4)) else γ
theorem tld_iff {i : Int} (hi : 0 ≤ i) (h8 : 0 ≤ iv_ γ m 8) : tld_ m γ i = true ↔ ∃ j, 0 ≤ j ∧ j < i ∧ iv_ γ (m + 4) (10 + 7 * j) = iv_ γ m 8 ∧ ∀ k, 0 ≤ k → k < iv_ γ m 8 → iv_ γ (m + 4) (11 + 7 * j + k) = iv_ γ (m + 2) k - 97 := by
  have s1 : ∀ j, sg1_ m γ j = true ↔ (iv_ γ (m + 4) (10 + 7 * j) = iv_ γ m 8 ∧ ∀ k, 0 ≤ k → k < iv_ γ m 8 → iv_ γ (m + 4) (11 + 7 * j + k) = iv_ γ (m + 2) k - 97) := fun j => by
    unfold sg1_
    rw [Bool.and_eq_true, decide_eq_true_eq, al_iff h8]
    constructor
    · rintro ⟨a, b⟩
      refine ⟨a, fun k k0 k1 => ?_⟩
      have := of_decide_eq_true (b k k0 k1)
      rw [show 10 + 7 * j + 1 + k = 11 + 7 * j + k by omega] at this
      exact this
    · rintro ⟨a, b⟩
      refine ⟨a, fun k k0 k1 => decide_eq_true ?_⟩
      rw [show 10 + 7 * j + 1 + k = 11 + 7 * j + k by omega]
      exact b k k0 k1
  unfold tld_
  constructor
  · intro q
    refine Classical.byContradiction fun w => ?_
    have : al_ (fun j => !sg1_ m γ j) i = true := (al_iff hi).mpr fun j j0 j1 => by
      cases e : sg1_ m γ j with
      | false => rfl
      | true => exact absurd ⟨j, j0, j1, (s1 j).mp e⟩ w
    rw [this] at q
    cases q
  · rintro ⟨j, j0, j1, q⟩
    cases e : al_ (fun j => !sg1_ m γ j) i with
    | false => rfl
    | true =>
      have := (al_iff hi).mp e j j0 j1
      (try dsimp only at this)
      rw [(s1 j).mpr q] at this
      cases this
theorem sgi_iff (h8 : 0 ≤ iv_ γ m 8) : sgi_ m γ = true ↔ (2 ≤ iv_ γ m 8 ∧ iv_ γ m 8 ≤ 6) ∧ ∀ k, 0 ≤ k → k < iv_ γ m 8 → iv_ γ (m + 2) k - 97 < iv_ γ (m + 4) 0 := by
  unfold sgi_
  rw [Bool.and_eq_true, decide_eq_true_eq, al_iff h8]
  constructor
  · rintro ⟨a, b⟩
    exact ⟨a, fun k k0 k1 => of_decide_eq_true (b k k0 k1)⟩
  · rintro ⟨a, b⟩
    exact ⟨a, fun k k0 k1 => decide_eq_true (b k k0 k1)⟩
theorem psg_v {i j : Int} : iv_ (psg_ m γ i) (m + 4) j = if 11 + 7 * i ≤ j ∧ j < 11 + 7 * i + iv_ γ m 8 then iv_ γ (m + 2) (j - (11 + 7 * i)) - 97 else if j = 10 + 7 * i then iv_ γ m 8 else iv_ γ (m + 4) j := by
  unfold psg_
  rw [iv_pb, iv_pi]
  by_cases c : 11 + 7 * i ≤ j ∧ j < 11 + 7 * i + iv_ γ m 8
  · rw [if_pos ⟨rfl, by omega, by omega⟩, if_pos c, show j - (10 + 7 * i + 1) = j - (11 + 7 * i) by omega]
  · rw [if_neg (fun q => c (by omega)), if_neg c]
    by_cases q : j = 10 + 7 * i
    · rw [if_pos ⟨rfl, q⟩, if_pos q]
    · rw [if_neg (fun w => q w.2), if_neg q]
theorem RR_.psg {i : Int} (h : RR_ G m X ρ σ γ o T c d) (h0 : iv_ γ m 13 = 0) (h2 : iv_ γ m 6 = 2) (h8 : iv_ γ m 8 ≤ 6) (hi : i = iv_ γ (m + 4) 4) (hc : 0 ≤ i ∧ i < 7) (h6 : ∀ i, 0 ≤ i → i < iv_ γ (m + 4) 4 → iv_ γ (m + 4) (10 + 7 * i) ≤ 6) : RR_ G m X ρ σ (psg_ m γ i) o T c d := by
  have hw := h.I.2.2.2.2.2.2.2 h2
  have hP := h.P h0
  refine h.eq0 (fun b j hb => by unfold psg_; rw [iv_pb, if_neg (by omega), iv_pi, if_neg (by omega)]) (fun _ => hP.cgr h6 (fun j j0 j1 => ?_) (fun j hj => ?_) (fun ν hν => ?_))
  · rw [psg_v]
    split
    · have := hw.2 (j - (11 + 7 * i)) (by omega) (by omega); omega
    · split
      · omega
      · exact hP.2.1 j j0 j1
  · rw [psg_v]
    unfold RL_ at hj
    rw [if_neg (by omega), if_neg (by omega)]
  · have hc4 := hP.1.l2.2.2.2.2.2.1
    have hc7 := hP.1.l3.2.2.2.2.2.1
    unfold US_ at hν
    refine ⟨by rw [psg_v, if_neg (by omega), if_neg (by omega)], fun k k0 k1 => by rw [psg_v, if_neg (by omega), if_neg (by omega)]⟩
theorem RR_.rm1 (h : RR_ G m X ρ σ γ o T c d) (hc : 3 ≤ c ∧ 23 ≤ d) : sz_ σ + 3 ≤ lc_ G ∧ us_ σ + 23 ≤ ls_ G := by
  have hM := h.2.2.2.2.2.2.2
  obtain ⟨a, t1, -⟩ := h.2.1
  have hb := t1.2.2.2.2.2.1
  have he := t1.2.2.2.2.1
  unfold RM_ at hM
  rw [he] at hM
  by_cases q : iv_ σ o 0 = 1
  · rw [if_pos q] at hM; omega
  · rw [if_neg q] at hM; omega
theorem xr_song {i : Int} {Q : Option Nat → JH → Prop} (hR : RR_ G m X ρ σ γ o T c d) (hcd : 3 ≤ c ∧ 23 ≤ d) (hRX : iv_ γ m 13 = 0 → RX_ (iv_ γ (m + 4))) (hi : iv_ γ m 13 = 0 → i = iv_ γ (m + 4) 4) (hi7 : iv_ γ m 13 = 0 → i < 7)
    (hQ : ∀ σ' o' A, RR_ G m X ρ σ' (sg0_ m γ i) o' T (c - 1) (d - 6) → GX_ ρ σ σ' → ρ + 2 ≤ A → (iv_ (sg0_ m γ i) m 13 = 0 → sh_ σ' A = some (.inr (0, (iv_ (sg0_ m γ i) (m + 4) (10 + 7 * i)).toNat)) ∧ ∀ k, 0 ≤ k → k < iv_ (sg0_ m γ i) (m + 4) (10 + 7 * i) → iv_ σ' A k = iv_ (sg0_ m γ i) (m + 4) (11 + 7 * i + k)) → Q (some A) σ') : CallA_ G 12 yX3_song cX3_song 5 (some (.array .int)) [A_ (some ρ)] σ Q := by
  refine call_go [some (A_ (some ρ)), none, none, none, none] (by decide) (Nat.le_of_ble_eq_true rfl) rfl ?_
  obtain ⟨so, pl, nu, wd, wv, n, w, hK, hTM0⟩ := hR.2.2.2.1
  have hKb := hK.2.2.2.2.2.2.2.2.2.1
  have hX : iv_ γ m 13 = 0 → ∀ i, 0 ≤ i → i < iv_ γ (m + 4) 4 → iv_ γ (m + 4) (10 + 7 * i) ≤ 6 := fun h0 i i0 i1 => ((hRX h0).2.1 i i0 i1).2
  have hi0 : iv_ γ m 13 = 0 → 0 ≤ i := fun h0 => by rw [hi h0]; exact (hRX h0).1.2.2.2.2.1.1
  have J16 : ∀ σ1 γ1, RR_ G m X ρ σ1 γ1 o T c d → GX_ ρ σ σ1 → TK_ G σ1 (ρ + 2) o so pl nu wd wv n w → ((γ1 = γ ∧ (iv_ γ m 13 = 0 → so = 2)) ∨ (γ1 = wr_ m γ 1 (iv_ γ m 4) ∧ (iv_ γ m 13 = 0 → so ≠ 2))) → GoM_ G 12 yX3_song cX3_song 5 (some (.array .int)) σ (fun v σ' => ∃ x : Option Nat, v = some (A_ x) ∧ Q x σ') 16 [some (A_ (some ρ)), none, none, none, none] [] σ1 := by
    intro σ1 γ1 hR1 hg1 hK1 hγ
    have h13 := hR.b13
    have hS1 := hK1.2.2.2.2.2.2.1
    have hwb : ∀ k, 0 ≤ k → k < (n : Int) → 0 ≤ w k ∧ w k ≤ 127 := fun k k0 k1 => (hS1.2.2.2.2.2 k k0 k1).2
    have hn8 := hK1.2.2.2.2.2.2.2.2.2.2
    obtain ⟨L, hL⟩ : ∃ L : Nat, (L : Int) = if (6 : Int) < (n : Int) then (6 : Int) else (n : Int) := ⟨(if (6 : Int) < n then 6 else (n : Int)).toNat, by split <;> omega⟩
    have hLn : (L : Int) = 6 ∧ 6 < n ∨ (L : Int) = n ∧ n ≤ 6 := by rw [hL]; split <;> omega
    refine g_al0 dX3_song_16 ?_
    refine f_getA 2 fk_X3_28 rfl hR1.h3 (fun _ _ => rfl) hR1.1.2.2.2.2.2.1 dX3_song_17 ?_
    refine f_getA 3 fk_X3_78 rfl hK1.1 (fun _ _ => rfl) hK1.2.2.2.2.2.1 dX3_song_20 ?_
    refine g_as1 dX3_song_23 (by decide) rfl ?_
    refine g_al1 dX3_song_24 ?_
    refine g_callV0I (d' := 3) lk_X3_165 hS1.1 rfl (rm_lt (by decide) (by decide)) (Nat.le_of_ble_eq_true rfl) dX3_song_25 ?_
    refine js_length hS1 ?_
    refine g_bipush dX3_song_28 (by decide) (by decide) ?_
    refine g_mmin q777 (by omega) (rm_64 (by decide)) (Nat.le_of_ble_eq_true rfl) dX3_song_30 ?_
    refine g_top hL.symm ?_
    refine g_lt (fun hlt1 hgz1 => ?_)
    refine g_newa (t := 0) (n := L) (atype := .int) rfl (by decide) q260 rfl (by omega) (by have := hR1.2.2.2.2.2.2.2; have := hR1.rm1 hcd; omega) dX3_song_33 ?_
    have hwN : Gw_ (fun _ _ => False) 1 6 σ1 (nw_ σ1 (.inr (0, L)) L) := Gw_.rf.nw.mono (fun _ _ _ q => q) (by omega) (by omega)
    have hSn := hS1.gw hwN hlt1 (fun _ _ q => q) (fun _ q => q)
    have hAN : sh_ (nw_ σ1 (.inr (0, L)) L) (sz_ σ1) = some (.inr (0, L)) := by rw [sh_nw, if_pos rfl]
    have hAg := hgz1
    have hAlo : ρ + 2 ≤ sz_ σ1 := by have := hlt1 _ _ hR1.h4; omega
    have hPl : ρ + 2 < sz_ σ1 := by
      obtain ⟨f, hP, -⟩ := hR1.2.2.2.2.1
      have := hlt1 _ _ hP.1.sh
      rw [hR1.1.2.2.2.2.2.2] at this
      exact this
    have hPA : xP_ T < sz_ σ1 := by rw [hR1.1.2.2.2.2.2.2]; exact hPl
    obtain ⟨nt, hnt0⟩ : ∃ nt, nt = iv_ σ1 (ρ + 2) 0 := ⟨_, rfl⟩
    have hntb : 0 ≤ nt ∧ nt ≤ 9999 := by
      obtain ⟨f, hP, -⟩ := hR1.2.2.2.2.1
      have := hP.2.1 0 (by decide) (by decide)
      rw [hnt0, ← hR1.1.2.2.2.2.2.2, hP.1.n0]
      exact this
    generalize hAe : sz_ σ1 = A at hAN hAg hAlo hPA ⊢
    have J145 : ∀ σ4, RR_ G m X ρ σ4 (sgp_ m γ i) o T (c - 1) (d - 6) → GX_ ρ σ σ4 → sh_ σ4 A = some (.inr (0, L)) → (∀ k, 0 ≤ k → k < (L : Int) → iv_ σ4 A k = w k - 97) → ∀ v3 v4 : Int, GoM_ G 12 yX3_song cX3_song 5 (some (.array .int)) σ (fun v σ' => ∃ x : Option Nat, v = some (A_ x) ∧ Q x σ') 145 [some (A_ (some ρ)), some (A_ (some wd)), some (A_ (some A)), some (I_ v3), some (I_ v4)] [] σ4 := by
      intro σ4 hR4 hg4 hA4 hv4 v3 v4
      refine g_lt (fun hlt4 hgz4 => ?_)
      obtain ⟨δ, hRd, hδ⟩ : ∃ δ, RR_ G m X ρ σ4 δ o T (c - 1) (d - 6) ∧ onn_ m δ = sg0_ m γ i := by
        have h13 := hR.b13
        by_cases hok : iv_ γ m 13 = 0 ∧ iv_ γ m 6 = 2 ∧ ¬ tld_ m γ i = true ∧ sgi_ m γ = true
        · have e : sgp_ m γ i = γ := by unfold sgp_; rw [if_pos hok.1, if_pos hok.2.1, if_neg hok.2.2.1, if_pos hok.2.2.2]
          rw [e] at hR4
          have hs := (sgi_iff hR.I.2.2.2.2.2.2.1.1).mp hok.2.2.2
          refine ⟨psg_ m γ i, hR4.psg hok.1 hok.2.1 hs.1.2 (hi hok.1) ⟨by have := hi hok.1; have := (hR.P hok.1).2.1 4 (by decide) (by decide); omega, hi7 hok.1⟩ (hX hok.1), ?_⟩
          unfold onn_ sg0_
          rw [if_pos (show iv_ (psg_ m γ i) m 13 = 0 by unfold psg_; rw [iv_pb, if_neg (by omega), iv_pi, if_neg (by omega)]; exact hok.1), if_pos hok.1, if_pos hok.2.1, if_neg hok.2.2.1, if_pos hok.2.2.2]
        · refine ⟨sgp_ m γ i, hR4, ?_⟩
          unfold onn_ sg0_ sgp_
          by_cases h0 : iv_ γ m 13 = 0
          · rw [if_pos h0, if_pos h0]
            by_cases h2 : iv_ γ m 6 = 2
            · rw [if_pos h2, if_pos h2]
              by_cases ht : tld_ m γ i = true
              · rw [if_pos ht, if_pos ht]
                exact if_neg (by rw [wr_13 h13]; decide)
              · have hs : ¬ sgi_ m γ = true := fun q => hok ⟨h0, h2, ht, q⟩
                rw [if_neg ht, if_neg ht, if_neg hs, if_neg hs]
                exact if_neg (by rw [wr_13 h13]; decide)
            · rw [if_neg h2, if_neg h2]
              exact if_neg (by rw [wr_13 h13]; decide)
          · rw [if_neg h0, if_neg h0, if_neg h0]
      refine g_al0 dX3_song_145 ?_
      refine g_callV0V (d' := 11) lk_X3_49 hRd.h3 rfl (rm_lt (by decide) (by decide)) (Nat.le_of_ble_eq_true rfl) dX3_song_146 ?_
      refine xr_on hRd (by omega) (fun σ5 o5 hR5 hg5 => ?_)
      refine g_al2 dX3_song_149 ?_
      exact g_aret rfl (Or.inr ⟨_, rfl⟩) dX3_song_150 ⟨_, rfl, by
          have hAl := hlt4 _ _ hA4
          have hA5 := (hg5.1 A hAl).trans hA4
          have nA : A ≠ ρ ∧ A ≠ ρ + 1 := ⟨fun q => (by rw [q, hRd.h3] at hA4; cases hA4), fun q => (by rw [q, hRd.h4] at hA4; cases hA4)⟩
          refine hQ _ _ A (by rw [← hδ]; exact hR5 _ _ (Or.inl ⟨Int.le_refl _, Int.le_refl _⟩)) (hg4.tr hg5) hAlo (fun q => ?_)
          have h13 := hR.b13
          have hok : iv_ γ m 13 = 0 ∧ iv_ γ m 6 = 2 ∧ ¬ tld_ m γ i = true ∧ sgi_ m γ = true := by
            unfold sg0_ at q
            by_cases h0 : iv_ γ m 13 = 0
            · rw [if_pos h0] at q
              by_cases h2 : iv_ γ m 6 = 2
              · rw [if_pos h2] at q
                by_cases ht : tld_ m γ i = true
                · rw [if_pos ht, wr_13 h13] at q; omega
                · rw [if_neg ht] at q
                  by_cases hs : sgi_ m γ = true
                  · exact ⟨h0, h2, ht, hs⟩
                  · rw [if_neg hs, wr_13 h13] at q; omega
              · rw [if_neg h2, wr_13 h13] at q; omega
            · rw [if_neg h0] at q; exact absurd q h0
          have hs := (sgi_iff hR.I.2.2.2.2.2.2.1.1).mp hok.2.2.2
          have hT : (n : Int) = iv_ γ m 8 ∧ ∀ k, 0 ≤ k → k < (n : Int) → w k = iv_ γ (m + 2) k := by rcases (hTM0 hok.1).2 with z | z | z | z | z <;> first | omega | exact z.2.2
          have e : ∀ j, iv_ (sg0_ m γ i) (m + 4) j = iv_ (psg_ m γ i) (m + 4) j := fun j => by
            unfold sg0_
            rw [if_pos hok.1, if_pos hok.2.1, if_neg hok.2.2.1, if_pos hok.2.2.2]
            exact (nxt_f0 _).f4 j
          have hLn : (L : Int) = iv_ γ m 8 := by omega
          refine ⟨?_, fun k k0 k1 => ?_⟩
          · rw [e, psg_v, if_neg (by omega), if_pos rfl, hA5, ← hLn, Int.toNat_natCast]
          · rw [e, psg_v, if_neg (by omega), if_pos rfl] at k1
            rw [e, psg_v, if_pos (by omega), show 11 + 7 * i + k - (11 + 7 * i) = k by omega, ← hT.2 k k0 (by omega), (hg5.2.1 A k hAl nA.1 nA.2 (fun q => by rw [hA4] at q; cases q.2.1)).2]
            exact hv4 k k0 (by omega)⟩
    have J135 : ∀ σ3 γ3, RR_ G m X ρ σ3 γ3 o T (c - 1) (d - 6) → GX_ ρ σ σ3 → sh_ σ3 A = some (.inr (0, L)) → (∀ k, 0 ≤ k → k < (L : Int) → iv_ σ3 A k = w k - 97) → ((γ3 = γ ∧ (iv_ γ m 13 = 0 → iv_ γ m 6 = 2 ∧ ¬ tld_ m γ i = true)) ∨ (γ3 = wr_ m γ 3 (iv_ γ m 4) ∧ (iv_ γ m 13 = 0 ∧ iv_ γ m 6 = 2 ∧ tld_ m γ i = true)) ∨ (γ3 = wr_ m γ 1 (iv_ γ m 4) ∧ (iv_ γ m 13 = 0 → iv_ γ m 6 ≠ 2))) → ∀ v3 v4 : Int, (v3 = 0 ∨ v3 = 1) → (iv_ γ m 13 = 0 → iv_ γ m 6 = 2 → (v3 = 1 ↔ sgi_ m γ = true)) → GoM_ G 12 yX3_song cX3_song 5 (some (.array .int)) σ (fun v σ' => ∃ x : Option Nat, v = some (A_ x) ∧ Q x σ') 135 [some (A_ (some ρ)), some (A_ (some wd)), some (A_ (some A)), some (I_ v3), some (I_ v4)] [] σ3 := by
      intro σ3 γ3 hR3 hg3 hA3 hv3 hγ v3 v4 h01 hsg
      have h13 := hR.b13
      refine g_lt (fun hlt3 hgz3 => ?_)
      refine g_il3 dX3_song_135 ?_
      refine g_if_ne (tgt := 145) dX3_song_136 (by decide) (by omega) (fun h136 => ?_) (fun h136 => ?_)
      · refine J145 σ3 ?_ hg3 hA3 hv3 _ _
        have e : sgp_ m γ i = γ3 := by
          unfold sgp_
          rcases hγ with ⟨e, q⟩ | ⟨e, q⟩ | ⟨e, q⟩
          · rw [e]
            by_cases h0 : iv_ γ m 13 = 0
            · rw [if_pos h0, if_pos (q h0).1, if_neg (q h0).2, if_pos ((hsg h0 (q h0).1).mp (by omega))]
            · rw [if_neg h0]
          · rw [e, if_pos q.1, if_pos q.2.1, if_pos q.2.2]
          · rw [e]
            by_cases h0 : iv_ γ m 13 = 0
            · rw [if_pos h0, if_neg (q h0)]
            · rw [if_neg h0, wr_id h0]
        rw [e]
        exact hR3
      refine g_al0 dX3_song_139 ?_
      refine g_bipush dX3_song_140 (by decide) (by decide) ?_
      refine g_callV1V (d' := 3) lk_X3_56 hR3.h3 rfl (rm_lt (by decide) (by decide)) (Nat.le_of_ble_eq_true rfl) dX3_song_142 ?_
      refine xr_wrongF hR3 (by omega) (fun σ4 hR4 hg4 hf4 => ?_)
      refine J145 σ4 ?_ (hg3.tr hg4) ((hf4.1 _).trans hA3) (fun k k0 k1 => (hf4.2.2.2.2 _ _ (fun q => by rw [q, hR3.h3] at hA3; cases hA3)).trans (hv3 k k0 k1)) _ _
      have e : sgp_ m γ i = wr_ m γ3 7 (iv_ γ3 m 4) := by
        unfold sgp_
        rcases hγ with ⟨e, q⟩ | ⟨e, q⟩ | ⟨e, q⟩
        · rw [e]
          by_cases h0 : iv_ γ m 13 = 0
          · rw [if_pos h0, if_pos (q h0).1, if_neg (q h0).2, if_neg (fun w => by have := (hsg h0 (q h0).1).mpr w; omega)]
          · rw [if_neg h0, wr_id h0]
        · rw [e, if_pos q.1, if_pos q.2.1, if_pos q.2.2]
          exact (wr_id (by rw [wr_13 h13]; decide)).symm
        · rw [e]
          by_cases h0 : iv_ γ m 13 = 0
          · rw [if_pos h0, if_neg (q h0)]
            exact (wr_id (by rw [wr_13 h13]; decide)).symm
          · rw [if_neg h0, wr_id h0, wr_id h0]
      rw [e]
      exact hR4
    refine g_as2 dX3_song_35 (by decide) rfl ?_
    refine g_al1 dX3_song_36 ?_
    refine g_callV0I (d' := 3) lk_X3_165 hSn.1 rfl (rm_lt (by decide) (by decide)) (Nat.le_of_ble_eq_true rfl) dX3_song_37 ?_
    refine js_length hSn ?_
    refine g_iconst dX3_song_40 ?_
    refine g_bipush dX3_song_41 (by decide) (by decide) ?_
    refine g_callSN3I (d' := 2) lk_X3_63 (rm_lt (by decide) (by decide)) (Nat.le_of_ble_eq_true rfl) dX3_song_43 ?_
    refine xo_in (by omega) (by omega) (by omega) (fun x43 hx43 => ?_)
    refine g_is3 dX3_song_46 (by decide) rfl ?_
    refine g_iconst dX3_song_47 ?_
    refine g_is4 dX3_song_48 (by decide) rfl ?_
    have L50 : ∀ (fu : Nat) (σ2 : JH) (k : Int) (v3 : Int), (L : Int) - k < (fu : Int) → (Gw_ (fun _ _ => False) 1 6 σ1 σ2) → (sh_ σ2 A = some (.inr (0, L))) → (0 ≤ k) → (k ≤ L) → (∀ j, 0 ≤ j → j < k → iv_ σ2 A j = w j - 97) → (((v3 = 1 ∧ (2 ≤ n ∧ n ≤ 6) ∧ ∀ j, 0 ≤ j → j < k → 0 ≤ w j - 97 ∧ w j - 97 ≤ nt - 1) ∨ (v3 = 0 ∧ ¬ ((2 ≤ n ∧ n ≤ 6) ∧ ∀ j, 0 ≤ j → j < k → 0 ≤ w j - 97 ∧ w j - 97 ≤ nt - 1)))) → GoM_ G 12 yX3_song cX3_song 5 (some (.array .int)) σ (fun v σ' => ∃ x : Option Nat, v = some (A_ x) ∧ Q x σ') 50 [some (A_ (some ρ)), some (A_ (some wd)), some (A_ (some A)), some (I_ v3), some (I_ k)] [] σ2 := by
      intro fu
      induction fu with
      | zero => intro σ2 k v3 hn hw2 hA2 k0 k1 hv2 hv3; exact absurd hn (by omega)
      | succ fu ih =>
        intro σ2 k v3 hn hw2 hA2 k0 k1 hv2 hv3
        have hR2 := (hR1.gw hw2 hlt1).wk (c' := c - 1) (d' := d - 6) (by omega) (by omega)
        have hg2 : GX_ ρ σ σ2 := hg1.tr (hw2.gx (fun _ _ _ q => q.elim))
        have hS2 := hS1.gw hw2 hlt1 (fun _ _ q => q) (fun _ q => q)
        obtain ⟨f, hP, hPf0⟩ := hR2.2.2.2.2.1
        have hP1 : rv_ σ2 ρ 1 = some (xP_ T) := by rw [hR2.1.2.2.2.2.2.2]; exact hR2.1.2.2.2.2.1
        have hnt2 : f 0 = nt := hP.1.n0.symm.trans (by rw [hR2.1.2.2.2.2.2.2]; exact ((hw2.2.1 _ 0 hPl (fun q => q)).2.trans hnt0.symm))
        have hPf : iv_ γ1 m 13 = 0 → f = iv_ γ1 (m + 4) := hPf0
        refine g_il4 dX3_song_50 ?_
        refine g_al2 dX3_song_52 ?_
        refine g_alen (by decide) hA2 dX3_song_53 ?_
        refine g_icmp_ge (tgt := 106) dX3_song_54 (by decide) (by omega) (fun h54 => ?_) (fun h54 => ?_)
        · have ek : k = (L : Int) := by omega
          have hntf : nt = f 0 := hnt2.symm
          have h01 : v3 = 0 ∨ v3 = 1 := by rcases hv3 with z | z <;> omega
          have hv2 : ∀ j, 0 ≤ j → j < (L : Int) → iv_ σ2 A j = w j - 97 := fun j j0 j1 => hv2 j j0 (by omega)
          rw [ek] at hv3
          have h6s : ∀ h0 : iv_ γ m 13 = 0, so = 2 ↔ iv_ γ m 6 = 2 := fun h0 => by have := hR.sort h0 (hTM0 h0); exact this.2.1
          have hsg : iv_ γ m 13 = 0 → iv_ γ m 6 = 2 → (v3 = 1 ↔ sgi_ m γ = true) := fun h0 h2 => by
            have h2' := (h6s h0).mpr h2
            have hT : (n : Int) = iv_ γ m 8 ∧ ∀ k, 0 ≤ k → k < (n : Int) → w k = iv_ γ (m + 2) k := by rcases (hTM0 h0).2 with z | z | z | z | z <;> first | omega | exact z.2.2
            have hw := hR.I.2.2.2.2.2.2.2 h2
            have e1 : γ1 = γ := by rcases hγ with z | z; (exact z.1); (exact absurd h2' (z.2 h0))
            have hnt : nt = iv_ γ (m + 4) 0 := by rw [hntf, hPf (by rw [e1]; exact h0), e1]
            rw [sgi_iff hR.I.2.2.2.2.2.2.1.1]
            constructor
            · intro q
              rcases hv3 with z | z
              · refine ⟨by omega, fun k k0 k1 => ?_⟩
                have := z.2.2 k k0 (by omega)
                rw [hT.2 k k0 (by omega), hnt] at this
                omega
              · omega
            · rintro ⟨q1, q2⟩
              rcases hv3 with z | z
              · exact z.1
              · exfalso
                refine z.2 ⟨by omega, fun k k0 k1 => ?_⟩
                have a1 := q2 k k0 (by omega)
                have a2 := hw.2 k k0 (by omega)
                rw [hT.2 k k0 (by omega), hnt]
                omega
          refine g_al0 dX3_song_106 ?_
          refine g_callV0I (d' := 2) lk_X3_36 hR2.h3 rfl (rm_lt (by decide) (by decide)) (Nat.le_of_ble_eq_true rfl) dX3_song_107 ?_
          refine xr_isOver hR2 (fun x107 hx107 => ?_)
          refine g_if_ne (tgt := 135) dX3_song_110 (by decide) (by omega) (fun h110 => ?_) (fun h110 => ?_)
          · exact J135 σ2 γ1 hR2 hg2 hA2 hv2 (by
              rcases hγ with ⟨e, q⟩ | ⟨e, q⟩
              · exact Or.inl ⟨e, fun h0 => by rw [e] at hx107; omega⟩
              · exact Or.inr (Or.inr ⟨e, fun h0 w => q h0 ((h6s h0).mpr w)⟩)) _ _ h01 hsg
          refine g_al1 dX3_song_113 ?_
          refine g_callV0I (d' := 3) lk_X3_165 hS2.1 rfl (rm_lt (by decide) (by decide)) (Nat.le_of_ble_eq_true rfl) dX3_song_114 ?_
          refine js_length hS2 ?_
          refine g_al2 dX3_song_117 ?_
          refine g_alen (by decide) hA2 dX3_song_118 ?_
          refine g_icmp_ne (tgt := 135) dX3_song_119 (by decide) (by omega) (fun h119 => ?_) (fun h119 => ?_)
          · exact J135 σ2 γ1 hR2 hg2 hA2 hv2 (by
              rcases hγ with ⟨e, q⟩ | ⟨e, q⟩
              · refine Or.inl ⟨e, fun h0 => ⟨(h6s h0).mp (q h0), fun w => ?_⟩⟩
                obtain ⟨j, j0, j1, j2, -⟩ := (tld_iff (hi0 h0) hR.I.2.2.2.2.2.2.1.1).mp w
                have := hX h0 j j0 (by rw [← hi h0]; exact j1)
                have hT : (n : Int) = iv_ γ m 8 := by rcases (hTM0 h0).2 with z | z | z | z | z <;> have := q h0 <;> first | omega | exact z.2.2.1
                omega
              · exact Or.inr (Or.inr ⟨e, fun h0 w => q h0 ((h6s h0).mpr w)⟩)) _ _ h01 hsg
          refine g_al0 dX3_song_122 ?_
          refine g_al2 dX3_song_123 ?_
          refine g_callV1I (d' := 7) lk_X3_177 hR2.h3 rfl (rm_lt (by decide) (by decide)) (Nat.le_of_ble_eq_true rfl) dX3_song_124 ?_
          have h0 : iv_ γ1 m 13 = 0 := by omega
          have e1 : γ1 = γ ∧ so = 2 := by
            rcases hγ with ⟨e, q⟩ | ⟨e, q⟩
            · exact ⟨e, q (by rw [← e]; exact h0)⟩
            · rw [e, wr_13 h13] at h0; omega
          have h0' : iv_ γ m 13 = 0 := by rw [← e1.1]; exact h0
          have hfe : f = iv_ γ (m + 4) := by rw [hPf h0, e1.1]
          refine xr_isTold hR2.h3 hR2.ge hP1 hP (by rw [hfe]; exact hRX h0') hA2 (by omega) (fun k k0 k1 => ⟨hv2 k k0 k1, by have := (hwb k k0 (by omega)); omega, by have := (hwb k k0 (by omega)); omega⟩) (fun zt hzt => ?_)
          refine g_if_eq (tgt := 135) dX3_song_127 (by decide) (by omega) (fun h127 => ?_) (fun h127 => ?_)
          · have hT : (n : Int) = iv_ γ m 8 ∧ ∀ k, 0 ≤ k → k < (n : Int) → w k = iv_ γ (m + 2) k := by rcases (hTM0 h0').2 with z | z | z | z | z <;> first | omega | exact z.2.2
            have ht := tld_iff (m := m) (γ := γ) (i := i) (hi0 h0') hR.I.2.2.2.2.2.2.1.1
            exact J135 σ2 γ1 hR2 hg2 hA2 hv2 (Or.inl ⟨e1.1, fun h0 => ⟨(h6s h0).mp e1.2, fun w => by
              obtain ⟨j, j0, j1, j2, j3⟩ := ht.mp w
              rcases hzt with z | z
              · omega
              · refine z.2 j j0 (by rw [hfe, ← hi h0]; exact j1) ⟨by rw [hfe, j2]; omega, fun k k0 k1 => by rw [hfe, j3 k k0 (by omega), hT.2 k k0 (by omega)]⟩⟩⟩) _ _ h01 hsg
          refine g_al0 dX3_song_130 ?_
          refine g_iconst dX3_song_131 ?_
          refine g_callV1V (d' := 3) lk_X3_56 hR2.h3 rfl (rm_lt (by decide) (by decide)) (Nat.le_of_ble_eq_true rfl) dX3_song_132 ?_
          refine xr_wrongF hR2 (by omega) (fun σ3 hR3 hg3 hf3 => ?_)
          have hT : (n : Int) = iv_ γ m 8 ∧ ∀ k, 0 ≤ k → k < (n : Int) → w k = iv_ γ (m + 2) k := by rcases (hTM0 h0').2 with z | z | z | z | z <;> first | omega | exact z.2.2
          have ht := tld_iff (m := m) (γ := γ) (i := i) (hi0 h0') hR.I.2.2.2.2.2.2.1.1
          exact J135 σ3 _ hR3 (hg2.tr hg3) ((hf3.1 _).trans hA2) (fun k k0 k1 => (hf3.2.2.2.2 _ _ (fun q => by rw [q, hR2.h3] at hA2; cases hA2)).trans (hv2 k k0 k1)) (Or.inr (Or.inl ⟨by rw [e1.1], h0', (h6s h0').mp e1.2, ht.mpr (by
            rcases hzt with z | z
            · obtain ⟨j, j0, j1, j2, j3⟩ := z.2
              exact ⟨j, j0, by rw [hi h0', ← hfe]; exact j1, by rw [← hfe, j2]; omega, fun k k0 k1 => by rw [← hfe, j3 k k0 (by omega), hT.2 k k0 (by omega)]⟩
            · omega)⟩)) _ _ h01 hsg
        refine g_al2 dX3_song_57 ?_
        refine g_il4 dX3_song_58 ?_
        refine g_al1 dX3_song_60 ?_
        refine g_il4 dX3_song_61 ?_
        refine g_callV1I (d' := 6) lk_X3_173 hS2.1 rfl (rm_lt (by decide) (by decide)) (Nat.le_of_ble_eq_true rfl) dX3_song_63 ?_
        have hwk := hwb k k0 (by omega)
        refine js_charAt hS2 (by omega) ?_
        refine g_bipush dX3_song_66 (by decide) (by decide) ?_
        refine g_isub dX3_song_68 ?_
        refine g_iast hA2 hAg (by omega) dX3_song_69 ?_
        refine g_il3 dX3_song_70 ?_
        refine g_if_eq (tgt := 98) dX3_song_71 (by decide) (by omega) (fun h71 => ?_) (fun h71 => ?_)
        · refine g_iconst dX3_song_98 ?_
          refine g_is3 dX3_song_99 (by decide) rfl ?_
          refine g_inc4 dX3_song_100 (by decide) rfl ?_
          refine g_goto (tgt := 50) dX3_song_103 (by decide) ?_
          exact ih _ (k + 1) 0 (by omega) (hw2.pi (fun q => by omega)) hA2 (by omega) (by omega) (fun j j0 j1 => by rw [iv_pi]; by_cases q : j = k; (rw [if_pos ⟨rfl, q⟩, q]); (rw [if_neg (fun z => q z.2)]; exact hv2 j j0 (by omega))) (Or.inr ⟨rfl, fun q => by rcases hv3 with z | z; (omega); (exact z.2 ⟨q.1, fun j j0 j1 => q.2 j j0 (by omega)⟩)⟩)
        refine g_al2 dX3_song_74 ?_
        refine g_il4 dX3_song_75 ?_
        refine g_ialv hA2 (by omega) (show iv_ (pi_ σ2 A k (w k - 97)) A k = w k - 97 by rw [iv_pi, if_pos ⟨rfl, rfl⟩]) dX3_song_77 ?_
        refine g_iconst dX3_song_78 ?_
        refine g_al0 dX3_song_79 ?_
        refine f_getA 1 fk_X3_12 rfl hR2.h3 (fun _ _ => rfl) hP1 dX3_song_80 ?_
        refine f_getv 0 fk_X3_101 rfl hP.1.sh (fun _ _ => rfl) (show iv_ (pi_ σ2 A k (w k - 97)) (xP_ T) 0 = nt by rw [iv_pi, if_neg (by omega), hP.1.n0]; exact hnt2) dX3_song_83 ?_
        refine g_iconst dX3_song_86 ?_
        refine g_isub dX3_song_87 ?_
        refine g_callSN3I (d' := 2) lk_X3_63 (rm_lt (by decide) (by decide)) (Nat.le_of_ble_eq_true rfl) dX3_song_88 ?_
        refine xo_in (by omega) (by omega) (by omega) (fun x88 hx88 => ?_)
        refine g_if_eq (tgt := 98) dX3_song_91 (by decide) (by omega) (fun h91 => ?_) (fun h91 => ?_)
        · refine g_iconst dX3_song_98 ?_
          refine g_is3 dX3_song_99 (by decide) rfl ?_
          refine g_inc4 dX3_song_100 (by decide) rfl ?_
          refine g_goto (tgt := 50) dX3_song_103 (by decide) ?_
          exact ih _ (k + 1) 0 (by omega) (hw2.pi (fun q => by omega)) hA2 (by omega) (by omega) (fun j j0 j1 => by rw [iv_pi]; by_cases q : j = k; (rw [if_pos ⟨rfl, q⟩, q]); (rw [if_neg (fun z => q z.2)]; exact hv2 j j0 (by omega))) (Or.inr ⟨rfl, fun q => by have := q.2 k k0 (by omega); omega⟩)
        refine g_iconst dX3_song_94 ?_
        refine g_goto (tgt := 99) dX3_song_95 (by decide) ?_
        refine g_is3 dX3_song_99 (by decide) rfl ?_
        refine g_inc4 dX3_song_100 (by decide) rfl ?_
        refine g_goto (tgt := 50) dX3_song_103 (by decide) ?_
        exact ih _ (k + 1) 1 (by omega) (hw2.pi (fun q => by omega)) hA2 (by omega) (by omega) (fun j j0 j1 => by rw [iv_pi]; by_cases q : j = k; (rw [if_pos ⟨rfl, q⟩, q]); (rw [if_neg (fun z => q z.2)]; exact hv2 j j0 (by omega))) (Or.inl ⟨rfl, by rcases hv3 with z | z; (exact z.2.1); (omega), fun j j0 j1 => by rcases hv3 with z | z; (by_cases q : j = k; (rw [q]; omega); (exact z.2.2 j j0 (by omega))); (omega)⟩)
    exact L50 (L + 1) _ 0 x43 (by omega) hwN hAN (by omega) (by omega) (fun j j0 j1 => by omega) (by rcases hx43 with z | z; (exact Or.inl ⟨z.1, by omega, fun j j0 j1 => by omega⟩); (exact Or.inr ⟨z.1, fun q => by omega⟩))
  refine g_al0 dX3_song_0 ?_
  refine g_lt (fun hlt hgz => ?_)
  refine f_getA 2 fk_X3_28 rfl hR.h3 (fun _ _ => rfl) hR.1.2.2.2.2.2.1 dX3_song_1 ?_
  refine f_getv 0 fk_X3_46 rfl hK.1 (fun _ _ => rfl) hK.2.2.1 dX3_song_4 ?_
  refine g_iconst dX3_song_7 ?_
  refine g_icmp_eq (tgt := 16) dX3_song_8 (by decide) (by omega) (fun h8 => ?_) (fun h8 => ?_)
  · exact J16 σ γ hR GX_.rf hK (Or.inl ⟨rfl, fun _ => by omega⟩)
  refine g_al0 dX3_song_11 ?_
  refine g_iconst dX3_song_12 ?_
  refine g_callV1V (d' := 3) lk_X3_56 hR.h3 rfl (rm_lt (by decide) (by decide)) (Nat.le_of_ble_eq_true rfl) dX3_song_13 ?_
  refine xr_wrongF hR (by omega) (fun σ1 hR1 hg1 hf1 => ?_)
  exact J16 σ1 _ hR1 hg1 (hK.fw hf1 hR.h3) (Or.inr ⟨rfl, fun _ => by omega⟩)
end
