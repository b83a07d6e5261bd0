/-! THE REFERENCE: new songs; strange. Written by mod/m36.py -/
set_option maxRecDepth 100000
section
variable {G : JG} {m : Nat} {σ : JH} {r s : Int → Int}
theorem pw_nat (n : Int) (L : Nat) : pw_ n (L + 1 : Int) = pw_ n L * n := pw_s n (by omega)
/-- numbers of L digits that differ are unlike in a digit at least -/
theorem da_pos {n : Int} (hn : 2 ≤ n) : ∀ (L : Nat) (x z : Int), 0 ≤ x → x < pw_ n L → 0 ≤ z → z < pw_ n L → x ≠ z → 1 ≤ da_ n L x z := by
  intro L
  induction L with
  | zero =>
    intro x z h0 h1 h2 h3 h4
    have : pw_ n ((0 : Nat) : Int) = 1 := rfl
    omega
  | succ L ih =>
    intro x z h0 h1 h2 h3 h4
    have hd := da_in n L (x / n) (z / n)
    simp only [da_]
    by_cases hm : x % n = z % n
    · rw [if_pos hm]
      have e : ((L + 1 : Nat) : Int) = (L : Int) + 1 := by omega
      rw [e, pw_nat] at h1 h3
      have q1 : x / n < pw_ n L := Int.ediv_lt_of_lt_mul (by omega) h1
      have q2 : z / n < pw_ n L := Int.ediv_lt_of_lt_mul (by omega) h3
      have := ih (x / n) (z / n) (Int.ediv_nonneg h0 (by omega)) q1 (Int.ediv_nonneg h2 (by omega)) q2 (fun q => h4 (by
        have a1 := Int.mul_ediv_add_emod x n
        have a2 := Int.mul_ediv_add_emod z n
        rw [q, hm] at a1
        omega))
      omega
    · rw [if_neg hm]
      omega
/-- the songs that are taken already, in the reference's row: the islands' (the first ni of them) and g -/
def NS_ (r s : Int → Int) (L a : Int) (m : Nat) (σ : JH) (ni t bd : Int) (g : List Int) : Prop :=
  iv_ σ m 23 = t ∧ (0 ≤ t ∧ t ≤ bd) ∧ (∀ j, 0 ≤ j → j < t → 0 ≤ iv_ σ (m + 8) j ∧ iv_ σ (m + 8) j < 100000) ∧
  ∀ P : Int → Prop, (∀ j, 0 ≤ j → j < t → P (iv_ σ (m + 8) j)) ↔ ((∀ i, 0 ≤ i → i < ni → r (10 + 7 * i) = L → P (cd_ r i (s 0) L)) ∧ (1 < a → ∀ u ∈ g, P u))
theorem ns_all {σ : JH} {t w : Int} (ht : 0 ≤ t) (P : Int → Prop) : (∀ j, 0 ≤ j → j < t + 1 → P (iv_ (pi_ (pi_ σ (m + 8) t w) m 23 (t + 1)) (m + 8) j)) ↔ ((∀ j, 0 ≤ j → j < t → P (iv_ σ (m + 8) j)) ∧ P w) := by
  have e : ∀ j, iv_ (pi_ (pi_ σ (m + 8) t w) m 23 (t + 1)) (m + 8) j = if j = t then w else iv_ σ (m + 8) j := by
    intro j
    rw [iv_pi, if_neg (by omega), iv_pi]
    by_cases hj : j = t
    · rw [if_pos ⟨rfl, hj⟩, if_pos hj]
    · rw [if_neg (fun q => hj q.2), if_neg hj]
  constructor
  · intro h
    refine ⟨fun j h0 h1 => ?_, ?_⟩
    · have := h j h0 (by omega)
      rw [e, if_neg (by omega)] at this
      exact this
    · have := h t ht (by omega)
      rw [e, if_pos rfl] at this
      exact this
  · rintro ⟨h, hw⟩ j h0 h1
    rw [e]
    by_cases hj : j = t
    · rw [if_pos hj]; exact hw
    · rw [if_neg hj]; exact h j h0 (by omega)
theorem NS_.isl {L a ni t : Int} {σ : JH} (hN : NS_ r s L a m σ ni t ni []) (hni : 0 ≤ ni) (hl : r (10 + 7 * ni) = L) (hc : 0 ≤ cd_ r ni (s 0) L ∧ cd_ r ni (s 0) L < 100000) : NS_ r s L a m (pi_ (pi_ σ (m + 8) t (cd_ r ni (s 0) L)) m 23 (t + 1)) (ni + 1) (t + 1) (ni + 1) [] := by
  obtain ⟨h1, h2, h3, h4⟩ := hN
  refine ⟨by simp [iv_pi], by omega, (ns_all h2.1 (fun x => 0 ≤ x ∧ x < 100000)).mpr ⟨h3, hc⟩, fun P => ?_⟩
  rw [ns_all h2.1 P, h4 P]
  constructor
  · rintro ⟨⟨x1, x2⟩, x3⟩
    refine ⟨fun i g0 g1 g2 => ?_, x2⟩
    by_cases hi : i = ni
    · rw [hi]; exact x3
    · exact x1 i g0 (by omega) g2
  · rintro ⟨x1, x2⟩
    exact ⟨⟨fun i g0 g1 g2 => x1 i g0 (by omega) g2, x2⟩, x1 ni hni (by omega) hl⟩
theorem NS_.skip {L a ni t : Int} {σ : JH} (hN : NS_ r s L a m σ ni t ni []) (hl : r (10 + 7 * ni) ≠ L) : NS_ r s L a m σ (ni + 1) t (ni + 1) [] := by
  obtain ⟨h1, h2, h3, h4⟩ := hN
  refine ⟨h1, by omega, h3, fun P => ?_⟩
  rw [h4 P]
  constructor
  · rintro ⟨x1, x2⟩
    refine ⟨fun i g0 g1 g2 => ?_, x2⟩
    by_cases hi : i = ni
    · rw [hi] at g2; exact absurd g2 hl
    · exact x1 i g0 (by omega) g2
  · rintro ⟨x1, x2⟩
    exact ⟨fun i g0 g1 g2 => x1 i g0 (by omega) g2, x2⟩
theorem NS_.song {L a ni t bd w : Int} {σ : JH} {g : List Int} (hN : NS_ r s L a m σ ni t bd g) (hw : 0 ≤ w ∧ w < 100000) : NS_ r s L a m (pi_ (pi_ σ (m + 8) t w) m 23 (t + 1)) ni (t + 1) (bd + 1) (g ++ [w]) ∨ ¬ 1 < a := by
  by_cases ha : 1 < a
  · left
    obtain ⟨h1, h2, h3, h4⟩ := hN
    refine ⟨by simp [iv_pi], by omega, (ns_all h2.1 (fun x => 0 ≤ x ∧ x < 100000)).mpr ⟨h3, hw⟩, fun P => ?_⟩
    rw [ns_all h2.1 P, h4 P]
    constructor
    · rintro ⟨⟨x1, x2⟩, x3⟩
      refine ⟨x1, fun _ u hu => ?_⟩
      rcases List.mem_append.mp hu with hu | hu
      · exact x2 ha u hu
      · rw [List.mem_singleton.mp hu]; exact x3
    · rintro ⟨x1, x2⟩
      exact ⟨⟨x1, fun _ u hu => x2 ha u (List.mem_append_left _ hu)⟩, x2 ha w (List.mem_append_right _ (List.mem_singleton.mpr rfl))⟩
  · exact Or.inr ha
theorem NS_.wide {L a ni t bd bd' : Int} {σ : JH} {g g' : List Int} (hN : NS_ r s L a m σ ni t bd g) (hb : bd ≤ bd') (hg : ¬ 1 < a ∨ g' = g) : NS_ r s L a m σ ni t bd' g' := by
  obtain ⟨h1, h2, h3, h4⟩ := hN
  refine ⟨h1, by omega, h3, fun P => ?_⟩
  rw [h4 P]
  rcases hg with ha | hg
  · exact ⟨fun q => ⟨q.1, fun z => absurd z ha⟩, fun q => ⟨q.1, fun z => absurd z ha⟩⟩
  · rw [hg]
/-- the test: all that are taken are 'a' apart -/
theorem NS_.test {L a t bd v : Int} {σ : JH} (hW : RW_ r) (hN : NS_ r s L a m σ (r 4) t bd (gt_ (nw1_ r (s 0) L a) (da_ (r 0) L.toNat) a v.toNat)) (hL : 0 ≤ L) (ha : 1 ≤ a) (hv : 0 ≤ v) (hv2 : v < pw_ (r 0) L) :
    (∀ j, 0 ≤ j → j < t → a ≤ da_ (r 0) L.toNat v (iv_ σ (m + 8) j)) ↔ (nw1_ r (s 0) L a v && (gt_ (nw1_ r (s 0) L a) (da_ (r 0) L.toNat) a v.toNat).all (fun u => decide (a ≤ da_ (r 0) L.toNat u v))) = true := by
  have hn := hW.n
  rw [hN.2.2.2 (fun x => a ≤ da_ (r 0) L.toNat v x), Bool.and_eq_true, List.all_eq_true]
  unfold nw1_
  rw [al_iff (by omega)]
  constructor
  · rintro ⟨x1, x2⟩
    refine ⟨fun i g0 g1 => decide_eq_true (x1 i g0 g1), fun u hu => decide_eq_true ?_⟩
    rw [da_sym]
    by_cases h1 : 1 < a
    · exact x2 h1 u hu
    · have hu2 := gt_lt _ _ hu
      have := da_pos (n := r 0) (by omega) L.toNat v u hv (by rw [show ((L.toNat : Nat) : Int) = L by omega]; omega) (by omega) (by rw [show ((L.toNat : Nat) : Int) = L by omega]; omega) (by omega)
      omega
  · rintro ⟨x1, x2⟩
    refine ⟨fun i g0 g1 => of_decide_eq_true (x1 i g0 g1), fun _ u hu => ?_⟩
    rw [da_sym]
    exact of_decide_eq_true (x2 u hu)
theorem gt_s {P : Int → Bool} {d : Int → Int → Int} {a v : Int} (hv : 0 ≤ v) : gt_ P d a (v + 1).toNat = if P v && (gt_ P d a v.toNat).all (fun u => decide (a ≤ d u v)) then gt_ P d a v.toNat ++ [v] else gt_ P d a v.toNat := by
  rw [show (v + 1).toNat = v.toNat + 1 by omega]
  simp only [gt_]
  rw [show ((v.toNat : Nat) : Int) = v by omega]
theorem mo_newSongs {L a mn : Int} {Q : Int → JH → Prop} (hM : MD_ G m σ r s) (hW : RW_ r) (hD : DW_ r s) (hL : 2 ≤ L ∧ L ≤ 5) (ha : 1 ≤ a ∧ a ≤ 5) (hmn : mn = 0 ∨ mn = 1)
    (hQ : ∀ x σ', MD_ G m σ' r s → Fr_ (ms_ m) σ σ' → x = (if mn = 0 then (if fI_ (nw1_ r (s 0) L a) (pw_ (r 0) L) < 0 then -2 else fI_ (nw1_ r (s 0) L a) (pw_ (r 0) L)) else ((gt_ (nw1_ r (s 0) L a) (da_ (r 0) L.toNat) a (pw_ (r 0) L).toNat).length : Int)) → Q x σ') : CallI_ G 3 yX2_newSongs cX2_newSongs 8 (some .int) [A_ (some m), I_ L, I_ a, I_ mn] σ Q := by
  refine call_go [some (A_ (some m)), some (I_ L), some (I_ a), some (I_ mn), none, none, none, none] (by decide) (Nat.le_of_ble_eq_true rfl) rfl ?_
  have hn := hW.n
  have hd := hD.n
  have hp5 := pw_in (n := r 0) (k := L) (by omega) (by omega)
  have J103 : ∀ (σ' : JH) (t : Int) (v4 v5 v6 v7 : Option AV), MD_ G m σ' r s → Fr_ (ms_ m) σ σ' → NS_ r s L a m σ' (r 4) t 7 [] → GoM_ G 3 yX2_newSongs cX2_newSongs 8 (some .int) σ (fun v σ' => ∃ x : Int, v = some (I_ x) ∧ Q x σ') 103 [some (A_ (some m)), some (I_ L), some (I_ a), some (I_ mn), v4, v5, v6, v7] [] σ' := by
    intro σ' t v4 v5 v6 v7 hM hF hN
    have L109 : ∀ (n : Nat) (σ' : JH) (c : Int) (v : Int) (t : Int) (v6 : Option AV) (v7 : Option AV), pw_ (r 0) L - v < (n : Int) → (MD_ G m σ' r s) → (Fr_ (ms_ m) σ σ') → (0 ≤ v) → (v ≤ pw_ (r 0) L) → (NS_ r s L a m σ' (r 4) t (7 + v) (gt_ (nw1_ r (s 0) L a) (da_ (r 0) L.toNat) a v.toNat)) → (c = ((gt_ (nw1_ r (s 0) L a) (da_ (r 0) L.toNat) a v.toNat).length : Int)) → (mn = 0 → (∀ j, 0 ≤ j → j < v → nw1_ r (s 0) L a j = false) ∧ gt_ (nw1_ r (s 0) L a) (da_ (r 0) L.toNat) a v.toNat = []) → GoM_ G 3 yX2_newSongs cX2_newSongs 8 (some .int) σ (fun v σ' => ∃ x : Int, v = some (I_ x) ∧ Q x σ') 109 [some (A_ (some m)), some (I_ L), some (I_ a), some (I_ mn), some (I_ c), some (I_ v), v6, v7] [] σ' := by
      intro n
      induction n with
      | zero => intro σ' c v t v6 v7 hn hM hF h0 h1 hN hcl hz; exact absurd hn (by omega)
      | succ n ih =>
        intro σ' c v t v6 v7 hn hM hF h0 h1 hN hcl hz
        have ht := hN.2.1
        refine g_il5 dX2_newSongs_109 ?_
        refine g_al0 dX2_newSongs_111 ?_
        refine g_il1 dX2_newSongs_112 ?_
        refine g_callV1I (d' := 2) lk_X2_318 hM.sh rfl (rm_lt (by decide) (by decide)) (Nat.le_of_ble_eq_true rfl) dX2_newSongs_113 ?_
        refine mo_power hM (by omega) ?_
        refine g_icmp_ge (tgt := 220) dX2_newSongs_116 (by decide) (by omega) (fun h116 => ?_) (fun h116 => ?_)
        · refine g_il3 dX2_newSongs_220 ?_
          refine g_if_eq (tgt := 229) dX2_newSongs_221 (by decide) (by omega) (fun h221 => ?_) (fun h221 => ?_)
          · refine g_bipush dX2_newSongs_229 (by decide) (by decide) ?_
            exact g_iret rfl dX2_newSongs_231 ⟨_, rfl, hQ _ _ hM hF (by rw [if_pos (by omega)]; have e : fI_ (nw1_ r (s 0) L a) (pw_ (r 0) L) = -1 := fI_none (fun j g2 g3 => (hz (by omega)).1 j g2 (by omega)); rw [e, if_pos (by omega)])⟩
          refine g_il4 dX2_newSongs_224 ?_
          refine g_goto (tgt := 231) dX2_newSongs_226 (by decide) ?_
          exact g_iret rfl dX2_newSongs_231 ⟨_, rfl, hQ _ _ hM hF (by rw [if_neg (by omega), hcl, show v = pw_ (r 0) L by omega])⟩
        have J170 : ∀ (is1 k : Int), (is1 = 1 ∧ ∀ j, 0 ≤ j → j < t → a ≤ da_ (r 0) L.toNat v (iv_ σ' (m + 8) j)) ∨ (is1 = 0 ∧ ∃ j, 0 ≤ j ∧ j < t ∧ ¬ a ≤ da_ (r 0) L.toNat v (iv_ σ' (m + 8) j)) → GoM_ G 3 yX2_newSongs cX2_newSongs 8 (some .int) σ (fun v σ' => ∃ x : Int, v = some (I_ x) ∧ Q x σ') 170 [some (A_ (some m)), some (I_ L), some (I_ a), some (I_ mn), some (I_ c), some (I_ v), some (I_ is1), some (I_ k)] [] σ' := by
          intro is1 k hi
          have hT := hN.test hW (by omega) (by omega) h0 (by omega)
          have hG := gt_s (P := nw1_ r (s 0) L a) (d := da_ (r 0) L.toNat) (a := a) h0
          refine g_il6 dX2_newSongs_170 ?_
          refine g_if_ne (tgt := 178) dX2_newSongs_172 (by decide) (by omega) (fun h172 => ?_) (fun h172 => ?_)
          · refine g_il3 dX2_newSongs_178 ?_
            refine g_if_ne (tgt := 185) dX2_newSongs_179 (by decide) (by omega) (fun h179 => ?_) (fun h179 => ?_)
            · refine g_inc4 dX2_newSongs_185 (by decide) rfl ?_
              refine g_il2 dX2_newSongs_188 ?_
              refine g_iconst dX2_newSongs_189 ?_
              refine g_icmp_le (tgt := 214) dX2_newSongs_190 (by decide) (by omega) (fun h190 => ?_) (fun h190 => ?_)
              · refine g_inc5 dX2_newSongs_214 (by decide) rfl ?_
                refine g_goto (tgt := 109) dX2_newSongs_217 (by decide) ?_
                have hA := hT.mp (hi.elim (fun q => q.2) (fun q => by omega))
                rw [if_pos hA] at hG
                refine ih _ _ _ _ _ _ (by omega) hM hF (by omega) (by omega) (by rw [hG]; exact hN.wide (by omega) (Or.inl (by omega))) (by rw [hG, List.length_append]; simp; omega) (fun z => by omega)
              refine g_al0 dX2_newSongs_193 ?_
              refine f_getA 22 fk_X2_35 rfl hM.sh (fun _ _ => rfl) hM.f22 dX2_newSongs_194 ?_
              refine g_al0 dX2_newSongs_197 ?_
              refine f_getv 23 fk_X2_315 rfl hM.sh (fun _ _ => rfl) hN.1 dX2_newSongs_198 ?_
              refine g_il5 dX2_newSongs_201 ?_
              
              refine g_iast hM.a22 hM.g22 (by omega) dX2_newSongs_203 ?_
              refine g_al0 dX2_newSongs_204 ?_
              refine g_dup dX2_newSongs_205 rfl ?_
              refine f_getv 23 fk_X2_315 rfl hM.sh (fun _ _ => rfl) (show iv_ (pi_ _ _ _ _) m 23 = t by rw [iv_pi, if_neg (by omega)]; exact hN.1) dX2_newSongs_206 ?_
              refine g_iconst dX2_newSongs_209 ?_
              refine g_iadd dX2_newSongs_210 ?_
              refine f_putI 23 fk_X2_315 rfl (nf_ rfl rfl) hM.sh hM.ge rfl dX2_newSongs_211 ?_
              refine g_inc5 dX2_newSongs_214 (by decide) rfl ?_
              refine g_goto (tgt := 109) dX2_newSongs_217 (by decide) ?_
              have hA := hT.mp (hi.elim (fun q => q.2) (fun q => by omega))
              rw [if_pos hA] at hG
              refine ih _ _ _ _ _ _ (by omega) ((hM.pi ⟨by omega, by omega⟩).pi ⟨by omega, by omega⟩) ((hF.pi (Or.inl ⟨by omega, by omega⟩)).pi (Or.inr ⟨rfl, Or.inl rfl⟩)) (by omega) (by omega) (by rw [hG]; exact ((hN.song (w := v) (by omega)).elim (fun q => q) (fun q => by omega)).wide (by omega) (Or.inr rfl)) (by rw [hG, List.length_append]; simp; omega) (fun z => by omega)
            refine g_il5 dX2_newSongs_182 ?_
            exact g_iret rfl dX2_newSongs_184 ⟨_, rfl, hQ _ _ hM hF (by rw [if_pos (by omega)]; have hA := hT.mp (hi.elim (fun q => q.2) (fun q => by omega)); rw [Bool.and_eq_true] at hA; have e := fI_hit h0 (show v < pw_ (r 0) L by omega) hA.1 (hz (by omega)).1; rw [e, if_neg (by omega)])⟩
          refine g_goto (tgt := 214) dX2_newSongs_175 (by decide) ?_
          refine g_inc5 dX2_newSongs_214 (by decide) rfl ?_
          refine g_goto (tgt := 109) dX2_newSongs_217 (by decide) ?_
          have hA : ¬ (nw1_ r (s 0) L a v && (gt_ (nw1_ r (s 0) L a) (da_ (r 0) L.toNat) a v.toNat).all (fun u => decide (a ≤ da_ (r 0) L.toNat u v))) = true := fun z => (hi.elim (fun q => by omega) (fun q => by obtain ⟨j, x1, x2, x3⟩ := q.2; exact x3 (hT.mpr z j x1 x2)))
          rw [if_neg hA] at hG
          refine ih _ _ _ _ _ _ (by omega) hM hF (by omega) (by omega) (by rw [hG]; exact hN.wide (by omega) (Or.inr rfl)) (by rw [hG]; omega) (fun z => ⟨fun j g2 g3 => ?_, by rw [hG]; exact (hz z).2⟩)
          by_cases hj : j = v
          · rw [hj]
            rw [(hz z).2] at hA
            simpa using hA
          · exact (hz z).1 j g2 (by omega)
        have L125 : ∀ (n : Nat) (is1 : Int) (k : Int), t - k < (n : Int) → (0 ≤ k) → (k ≤ t) → ((is1 = 1 ∧ ∀ j, 0 ≤ j → j < k → a ≤ da_ (r 0) L.toNat v (iv_ σ' (m + 8) j)) ∨ (is1 = 0 ∧ ∃ j, 0 ≤ j ∧ j < t ∧ ¬ a ≤ da_ (r 0) L.toNat v (iv_ σ' (m + 8) j))) → GoM_ G 3 yX2_newSongs cX2_newSongs 8 (some .int) σ (fun v σ' => ∃ x : Int, v = some (I_ x) ∧ Q x σ') 125 [some (A_ (some m)), some (I_ L), some (I_ a), some (I_ mn), some (I_ c), some (I_ v), some (I_ is1), some (I_ k)] [] σ' := by
          intro n2
          induction n2 with
          | zero => intro is1 k hn g0 g1 gi; exact absurd hn (by omega)
          | succ n2 ih2 =>
            intro is1 k hn g0 g1 gi
            refine g_il7 dX2_newSongs_125 ?_
            refine g_al0 dX2_newSongs_127 ?_
            refine f_getv 23 fk_X2_315 rfl hM.sh (fun _ _ => rfl) hN.1 dX2_newSongs_128 ?_
            refine g_icmp_ge (tgt := 170) dX2_newSongs_131 (by decide) (by omega) (fun h131 => ?_) (fun h131 => ?_)
            · refine J170 _ _ (gi.elim (fun q => Or.inl ⟨q.1, fun j g2 g3 => q.2 j g2 (by omega)⟩) Or.inr)
            refine g_il6 dX2_newSongs_134 ?_
            refine g_if_eq (tgt := 170) dX2_newSongs_136 (by decide) (by omega) (fun h136 => ?_) (fun h136 => ?_)
            · refine J170 _ _ (gi.elim (fun q => by omega) Or.inr)
            refine g_al0 dX2_newSongs_139 ?_
            refine g_il5 dX2_newSongs_140 ?_
            refine g_al0 dX2_newSongs_142 ?_
            refine f_getA 22 fk_X2_35 rfl hM.sh (fun _ _ => rfl) hM.f22 dX2_newSongs_143 ?_
            refine g_il7 dX2_newSongs_146 ?_
            refine g_iald hM.a22 (by omega) dX2_newSongs_148 ?_
            refine g_il1 dX2_newSongs_149 ?_
            refine g_callV3I (d' := 2) lk_X2_321 hM.sh rfl (rm_lt (by decide) (by decide)) (Nat.le_of_ble_eq_true rfl) dX2_newSongs_150 ?_
            have hk3 := hN.2.2.1 k (by omega) (by omega)
            refine mo_digitsApart hM (by omega) (by omega) (by omega) (by omega) ?_
            have hda := da_in (r 0) L.toNat v (iv_ σ' (m + 8) k)
            refine g_il2 dX2_newSongs_153 ?_
            refine g_icmp_lt (tgt := 161) dX2_newSongs_154 (by decide) (by omega) (fun h154 => ?_) (fun h154 => ?_)
            · refine g_iconst dX2_newSongs_161 ?_
              refine g_is6 dX2_newSongs_162 (by decide) rfl ?_
              refine g_inc7 dX2_newSongs_164 (by decide) rfl ?_
              refine g_goto (tgt := 125) dX2_newSongs_167 (by decide) ?_
              refine ih2 _ _ (by omega) (by omega) (by omega) ?_
              refine Or.inr ⟨rfl, k, by omega, by omega, by omega⟩
            refine g_iconst dX2_newSongs_157 ?_
            refine g_goto (tgt := 162) dX2_newSongs_158 (by decide) ?_
            refine g_is6 dX2_newSongs_162 (by decide) rfl ?_
            refine g_inc7 dX2_newSongs_164 (by decide) rfl ?_
            refine g_goto (tgt := 125) dX2_newSongs_167 (by decide) ?_
            refine ih2 _ _ (by omega) (by omega) (by omega) ?_
            refine Or.inl ⟨rfl, fun j g2 g3 => ?_⟩
            by_cases hj : j = k
            · rw [hj]; omega
            · rcases gi with q | q
              · exact q.2 j g2 (by omega)
              · omega
        refine g_iconst dX2_newSongs_119 ?_
        refine g_is6 dX2_newSongs_120 (by decide) rfl ?_
        refine g_iconst dX2_newSongs_122 ?_
        refine g_is7 dX2_newSongs_123 (by decide) rfl ?_
        exact L125 (t.toNat + 1) _ _ (by omega) (by omega) (by omega) (Or.inl ⟨rfl, fun j g2 g3 => by omega⟩)
    refine g_iconst dX2_newSongs_103 ?_
    refine g_is4 dX2_newSongs_104 (by decide) rfl ?_
    refine g_iconst dX2_newSongs_106 ?_
    refine g_is5 dX2_newSongs_107 (by decide) rfl ?_
    exact L109 ((pw_ (r 0) L).toNat + 1) _ _ _ _ _ _ (by omega) hM hF (by omega) (by omega) hN rfl (fun _ => ⟨fun j g2 g3 => by omega, rfl⟩)
  have L8 : ∀ (n : Nat) (σ' : JH) (i : Int) (t : Int) (v5 : Option AV) (v6 : Option AV) (v7 : Option AV), r 4 - i < (n : Int) → (MD_ G m σ' r s) → (Fr_ (ms_ m) σ σ') → (0 ≤ i) → (i ≤ r 4) → (NS_ r s L a m σ' i t i []) → GoM_ G 3 yX2_newSongs cX2_newSongs 8 (some .int) σ (fun v σ' => ∃ x : Int, v = some (I_ x) ∧ Q x σ') 8 [some (A_ (some m)), some (I_ L), some (I_ a), some (I_ mn), some (I_ i), v5, v6, v7] [] σ' := by
    intro n
    induction n with
    | zero => intro σ' i t v5 v6 v7 hn hM hF h0 h1 hN; exact absurd hn (by omega)
    | succ n ih =>
      intro σ' i t v5 v6 v7 hn hM hF h0 h1 hN
      have ht := hN.2.1
      refine g_il4 dX2_newSongs_8 ?_
      refine g_al0 dX2_newSongs_10 ?_
      refine f_getA 15 fk_X2_20 rfl hM.sh (fun _ _ => rfl) hM.f15 dX2_newSongs_11 ?_
      refine g_iconst dX2_newSongs_14 ?_
      refine g_ialv hM.a15 (by omega) (hM.rr _) dX2_newSongs_15 ?_
      refine g_icmp_ge (tgt := 103) dX2_newSongs_16 (by decide) (by omega) (fun h16 => ?_) (fun h16 => ?_)
      · exact J103 _ _ _ _ _ _ hM hF (by rw [show i = r 4 by omega] at hN; exact hN.wide (by omega) (Or.inr rfl))
      refine g_al0 dX2_newSongs_19 ?_
      refine g_il4 dX2_newSongs_20 ?_
      refine g_callV1I (d' := 2) lk_X2_265 hM.sh rfl (rm_lt (by decide) (by decide)) (Nat.le_of_ble_eq_true rfl) dX2_newSongs_22 ?_
      refine mo_songLong hM (by omega) ?_
      have hl := hW.len (i := i) (by omega) (by omega)
      refine g_il1 dX2_newSongs_25 ?_
      refine g_icmp_eq (tgt := 32) dX2_newSongs_26 (by decide) (by omega) (fun h26 => ?_) (fun h26 => ?_)
      · have L38 : ∀ (n : Nat) (v : Int) (k : Int), L - k < (n : Int) → (0 ≤ k) → (k ≤ L) → (0 ≤ v ∧ v < pw_ (r 0) k) → (v = cd_ r i (s 0) k) → GoM_ G 3 yX2_newSongs cX2_newSongs 8 (some .int) σ (fun v σ' => ∃ x : Int, v = some (I_ x) ∧ Q x σ') 38 [some (A_ (some m)), some (I_ L), some (I_ a), some (I_ mn), some (I_ i), some (I_ v), some (I_ k), v7] [] σ' := by
          intro n2
          induction n2 with
          | zero => intro v k hn g0 g1 gv gc; exact absurd hn (by omega)
          | succ n2 ih2 =>
            intro v k hn g0 g1 gv gc
            refine g_il6 dX2_newSongs_38 ?_
            refine g_il1 dX2_newSongs_40 ?_
            refine g_icmp_ge (tgt := 76) dX2_newSongs_41 (by decide) (by omega) (fun h41 => ?_) (fun h41 => ?_)
            · refine g_al0 dX2_newSongs_76 ?_
              refine f_getA 22 fk_X2_35 rfl hM.sh (fun _ _ => rfl) hM.f22 dX2_newSongs_77 ?_
              refine g_al0 dX2_newSongs_80 ?_
              refine f_getv 23 fk_X2_315 rfl hM.sh (fun _ _ => rfl) hN.1 dX2_newSongs_81 ?_
              refine g_il5 dX2_newSongs_84 ?_
              have hcd := cd_in hW i (s 0) (L := L) (by omega)
              have hpL := pw_in (n := r 0) (k := L) (by omega) (by omega)
              have eL : k = L := by omega
              subst eL
              subst gc
              refine g_iast hM.a22 hM.g22 (by omega) dX2_newSongs_86 ?_
              refine g_al0 dX2_newSongs_87 ?_
              refine g_dup dX2_newSongs_88 rfl ?_
              refine f_getv 23 fk_X2_315 rfl hM.sh (fun _ _ => rfl) (show iv_ (pi_ _ _ _ _) m 23 = t by rw [iv_pi, if_neg (by omega)]; exact hN.1) dX2_newSongs_89 ?_
              refine g_iconst dX2_newSongs_92 ?_
              refine g_iadd dX2_newSongs_93 ?_
              refine f_putI 23 fk_X2_315 rfl (nf_ rfl rfl) hM.sh hM.ge rfl dX2_newSongs_94 ?_
              refine g_inc4 dX2_newSongs_97 (by decide) rfl ?_
              refine g_goto (tgt := 8) dX2_newSongs_100 (by decide) ?_
              exact ih _ _ _ _ _ _ (by omega) ((hM.pi ⟨by omega, by omega⟩).pi ⟨by omega, by omega⟩) ((hF.pi (Or.inl ⟨by omega, by omega⟩)).pi (Or.inr ⟨rfl, Or.inl rfl⟩)) (by omega) (by omega) (hN.isl h0 (by omega) (by omega))
            refine g_il5 dX2_newSongs_44 ?_
            refine g_al0 dX2_newSongs_46 ?_
            refine f_getA 15 fk_X2_20 rfl hM.sh (fun _ _ => rfl) hM.f15 dX2_newSongs_47 ?_
            refine g_iconst dX2_newSongs_50 ?_
            refine g_ialv hM.a15 (by omega) (hM.rr _) dX2_newSongs_51 ?_
            refine g_imul dX2_newSongs_52 ?_
            refine g_al0 dX2_newSongs_53 ?_
            refine g_il4 dX2_newSongs_54 ?_
            refine g_il6 dX2_newSongs_56 ?_
            refine g_al0 dX2_newSongs_58 ?_
            refine f_getA 17 fk_X2_26 rfl hM.sh (fun _ _ => rfl) hM.f17 dX2_newSongs_59 ?_
            refine g_iconst dX2_newSongs_62 ?_
            refine g_ialv hM.a17 (by omega) (hM.ss _) dX2_newSongs_63 ?_
            refine g_callV3I (d' := 2) lk_X2_280 hM.sh rfl (rm_lt (by decide) (by decide)) (Nat.le_of_ble_eq_true rfl) dX2_newSongs_64 ?_
            refine mo_noteIn hM hW (by omega) (by omega) (by omega) ?_
            have hnt := nt_in hW i k (s 0)
            have hpk := pw_in (n := r 0) (k := k) (by omega) (by omega)
            have hst := cd_step gv.1 gv.2 hnt.1 hnt.2
            refine g_iadd dX2_newSongs_67 ?_
            refine g_is5 dX2_newSongs_68 (by decide) rfl ?_
            refine g_inc6 dX2_newSongs_70 (by decide) rfl ?_
            refine g_goto (tgt := 38) dX2_newSongs_73 (by decide) ?_
            refine ih2 _ _ (by omega) (by omega) (by omega) ?_ ?_
            · rw [pw_s _ g0]; exact hst
            · rw [gc]; unfold cd_; rw [iI_s _ _ g0]
        refine g_iconst dX2_newSongs_32 ?_
        refine g_is5 dX2_newSongs_33 (by decide) rfl ?_
        refine g_iconst dX2_newSongs_35 ?_
        refine g_is6 dX2_newSongs_36 (by decide) rfl ?_
        exact L38 (L.toNat + 1) _ _ (by omega) (by omega) (by omega) (by show (0 : Int) ≤ 0 ∧ (0 : Int) < 1; omega) rfl
      refine g_goto (tgt := 97) dX2_newSongs_29 (by decide) ?_
      refine g_inc4 dX2_newSongs_97 (by decide) rfl ?_
      refine g_goto (tgt := 8) dX2_newSongs_100 (by decide) ?_
      exact ih _ _ _ _ _ _ (by omega) hM hF (by omega) (by omega) (hN.skip (by omega))
  refine g_al0 dX2_newSongs_0 ?_
  refine g_iconst dX2_newSongs_1 ?_
  refine f_putI 23 fk_X2_315 rfl (nf_ rfl rfl) hM.sh hM.ge rfl dX2_newSongs_2 ?_
  refine g_iconst dX2_newSongs_5 ?_
  refine g_is4 dX2_newSongs_6 (by decide) rfl ?_
  exact L8 ((r 4).toNat + 1) _ _ 0 _ _ _ (by omega) (hM.pi ⟨by omega, by omega⟩) (Fr_.rf.pi (Or.inr ⟨rfl, Or.inl rfl⟩)) (by omega) (by omega) ⟨by simp [iv_pi], by omega, fun j g2 g3 => by omega, fun P => ⟨fun _ => ⟨fun i g2 g3 => by omega, fun _ u hu => by simp at hu⟩, fun _ j g2 g3 => by omega⟩⟩
theorem mo_fresh {p : Int} {l a : Int} {Q : Int → JH → Prop} (hM : MD_ G m σ r s) (hp : iv_ σ m 14 = p) (hP : MP_ p r s) (hl : -2147483648 ≤ l ∧ l < 2147483648) (ha : -2147483648 ≤ a ∧ a < 2147483648)
    (hQ : ∀ (x t : Int) (σ' : JH), qFresh_ p r s l a = (x, t) → MD_ G m σ' r s → ME_ m σ σ' t → Q x σ') : CallI_ G 4 yX2_fresh cX2_fresh 4 (some .int) [A_ (some m), I_ l, I_ a] σ Q := by
  refine call_go [some (A_ (some m)), some (I_ l), some (I_ a), none] (by decide) (Nat.le_of_ble_eq_true rfl) rfl ?_
  have hp01 := hP.b
  refine g_al0 dX2_fresh_0 ?_
  refine g_callV0V (d' := 2) lk_X2_167 hM.sh rfl (rm_lt (by decide) (by decide)) (Nat.le_of_ble_eq_true rfl) dX2_fresh_1 ?_
  refine mo_good hM (fun σ1 hM hE => ?_)
  have hp := hE.p14.trans hp
  refine g_al0 dX2_fresh_4 ?_
  refine g_il1 dX2_fresh_5 ?_
  refine g_il2 dX2_fresh_6 ?_
  refine g_callV2I (d' := 3) lk_X2_324 hM.sh rfl (rm_lt (by decide) (by decide)) (Nat.le_of_ble_eq_true rfl) dX2_fresh_7 ?_
  refine mo_songWhy hM hp hp01 (by omega) (by omega) (fun wy hwy => ?_)
  refine g_is3 dX2_fresh_10 (by decide) rfl ?_
  refine g_il3 dX2_fresh_11 ?_
  refine g_if_eq (tgt := 23) dX2_fresh_12 (by decide) (by omega) (fun h12 => ?_) (fun h12 => ?_)
  · refine g_al0 dX2_fresh_23 ?_
    refine g_il1 dX2_fresh_24 ?_
    refine g_il2 dX2_fresh_25 ?_
    refine g_iconst dX2_fresh_26 ?_
    refine g_callV3I (d' := 3) lk_X2_327 hM.sh rfl (rm_lt (by decide) (by decide)) (Nat.le_of_ble_eq_true rfl) dX2_fresh_27 ?_
    obtain ⟨hW, hD⟩ := hP.get (by omega)
    refine mo_newSongs hM hW hD (by omega) (by omega) (by omega) (fun x σ2 hM hF hx => ?_)
    rw [if_pos rfl] at hx
    have hE := hE.fr hF
    exact g_iret rfl dX2_fresh_30 ⟨_, rfl, hQ _ _ _ (by unfold qFresh_; rw [if_pos (by omega), if_pos (by omega), ← hx]) hM hE⟩
  refine g_al0 dX2_fresh_15 ?_
  refine g_il3 dX2_fresh_16 ?_
  refine g_callV1I (d' := 2) lk_X2_170 hM.sh rfl (rm_lt (by decide) (by decide)) (Nat.le_of_ble_eq_true rfl) dX2_fresh_17 ?_
  refine mo_no hM hE (fun σ2 hM hE => ?_)
  refine g_goto (tgt := 30) dX2_fresh_20 (by decide) ?_
  exact g_iret rfl dX2_fresh_30 ⟨_, rfl, hQ _ _ _ (by unfold qFresh_; by_cases c1 : p = 1; (rw [if_pos c1, if_neg (by omega), show wy = 2 by omega]); (rw [if_neg c1, show wy = 1 by omega])) hM hE⟩
theorem mo_byTurns {p : Int} {l a : Int} {Q : Int → JH → Prop} (hM : MD_ G m σ r s) (hp : iv_ σ m 14 = p) (hP : MP_ p r s) (hl : -2147483648 ≤ l ∧ l < 2147483648) (ha : -2147483648 ≤ a ∧ a < 2147483648)
    (hQ : ∀ (x t : Int) (σ' : JH), qByTurns_ p r s l a = (x, t) → MD_ G m σ' r s → ME_ m σ σ' t → Q x σ') : CallI_ G 4 yX2_byTurns cX2_byTurns 4 (some .int) [A_ (some m), I_ l, I_ a] σ Q := by
  refine call_go [some (A_ (some m)), some (I_ l), some (I_ a), none] (by decide) (Nat.le_of_ble_eq_true rfl) rfl ?_
  have hp01 := hP.b
  refine g_al0 dX2_byTurns_0 ?_
  refine g_callV0V (d' := 2) lk_X2_167 hM.sh rfl (rm_lt (by decide) (by decide)) (Nat.le_of_ble_eq_true rfl) dX2_byTurns_1 ?_
  refine mo_good hM (fun σ1 hM hE => ?_)
  have hp := hE.p14.trans hp
  refine g_al0 dX2_byTurns_4 ?_
  refine g_il1 dX2_byTurns_5 ?_
  refine g_il2 dX2_byTurns_6 ?_
  refine g_callV2I (d' := 3) lk_X2_324 hM.sh rfl (rm_lt (by decide) (by decide)) (Nat.le_of_ble_eq_true rfl) dX2_byTurns_7 ?_
  refine mo_songWhy hM hp hp01 (by omega) (by omega) (fun wy hwy => ?_)
  refine g_is3 dX2_byTurns_10 (by decide) rfl ?_
  refine g_il3 dX2_byTurns_11 ?_
  refine g_if_eq (tgt := 23) dX2_byTurns_12 (by decide) (by omega) (fun h12 => ?_) (fun h12 => ?_)
  · refine g_al0 dX2_byTurns_23 ?_
    refine g_il1 dX2_byTurns_24 ?_
    refine g_il2 dX2_byTurns_25 ?_
    refine g_iconst dX2_byTurns_26 ?_
    refine g_callV3I (d' := 3) lk_X2_327 hM.sh rfl (rm_lt (by decide) (by decide)) (Nat.le_of_ble_eq_true rfl) dX2_byTurns_27 ?_
    obtain ⟨hW, hD⟩ := hP.get (by omega)
    refine mo_newSongs hM hW hD (by omega) (by omega) (by omega) (fun x σ2 hM hF hx => ?_)
    rw [if_neg (by omega)] at hx
    have hE := hE.fr hF
    exact g_iret rfl dX2_byTurns_30 ⟨_, rfl, hQ _ _ _ (by unfold qByTurns_; rw [if_pos (by omega), if_pos (by omega), ← hx]) hM hE⟩
  refine g_al0 dX2_byTurns_15 ?_
  refine g_il3 dX2_byTurns_16 ?_
  refine g_callV1I (d' := 2) lk_X2_170 hM.sh rfl (rm_lt (by decide) (by decide)) (Nat.le_of_ble_eq_true rfl) dX2_byTurns_17 ?_
  refine mo_no hM hE (fun σ2 hM hE => ?_)
  refine g_goto (tgt := 30) dX2_byTurns_20 (by decide) ?_
  exact g_iret rfl dX2_byTurns_30 ⟨_, rfl, hQ _ _ _ (by unfold qByTurns_; by_cases c1 : p = 1; (rw [if_pos c1, if_neg (by omega), show wy = 2 by omega]); (rw [if_neg c1, show wy = 1 by omega])) hM hE⟩
theorem mo_hearsItself {i y : Int} {Q : Int → JH → Prop} (hM : MD_ G m σ r s) (hW : RW_ r) (hi : 0 ≤ i ∧ i < r 4) (hy : 0 ≤ y ∧ y < 100000)
    (hQ : ∀ x : Int, (x = 1 ∧ hi_ r i y = true) ∨ (x = 0 ∧ hi_ r i y = false) → Q x σ) : CallI_ G 3 yX2_hearsItself cX2_hearsItself 8 (some .boolean) [A_ (some m), I_ i, I_ y] σ Q := by
  refine call_go [some (A_ (some m)), some (I_ i), some (I_ y), none, none, none, none, none] (by decide) (Nat.le_of_ble_eq_true rfl) rfl ?_
  have hn := hW.n
  have hl := hW.len hi.1 hi.2
  have J57 : ∀ (c : Int) (v4 v5 v6 v7 : Option AV), 0 ≤ c → c ≤ 6 → c = so_ r i i y → GoM_ G 3 yX2_hearsItself cX2_hearsItself 8 (some .boolean) σ (fun v σ' => ∃ x : Int, v = some (I_ x) ∧ Q x σ') 57 [some (A_ (some m)), some (I_ i), some (I_ y), some (I_ c), v4, v5, v6, v7] [] σ := by
    intro c v4 v5 v6 v7 hc0 hc1 hc
    have hfin : ∀ (is1 j : Int), j = r 4 → ((is1 = 1 ∧ c ≤ r 1 ∧ ∀ j', 0 ≤ j' → j' < j → j' = i ∨ r (10 + 7 * j') ≠ r (10 + 7 * i) ∨ c < so_ r i j' y) ∨ (is1 = 0 ∧ (¬ c ≤ r 1 ∨ ∃ j', 0 ≤ j' ∧ j' < r 4 ∧ ¬ (j' = i ∨ r (10 + 7 * j') ≠ r (10 + 7 * i) ∨ c < so_ r i j' y)))) → (is1 = 1 ∧ hi_ r i y = true) ∨ (is1 = 0 ∧ hi_ r i y = false) := by
      intro is1 j hj hI
      unfold hi_
      rw [← hc]
      rcases hI with ⟨y1, y2, y3⟩ | ⟨y1, y2⟩
      · refine Or.inl ⟨y1, ?_⟩
        rw [Bool.and_eq_true, al_iff (by omega)]
        exact ⟨decide_eq_true y2, fun k g0 g1 => decide_eq_true (y3 k g0 (by omega))⟩
      · refine Or.inr ⟨y1, Bool.eq_false_iff.mpr fun z => ?_⟩
        rw [Bool.and_eq_true, al_iff (by omega)] at z
        rcases y2 with y2 | ⟨j', g0, g1, g2⟩
        · exact y2 (of_decide_eq_true z.1)
        · exact g2 (of_decide_eq_true (z.2 j' g0 g1))
    have L77 : ∀ (n : Nat) (is1 : Int) (j : Int) (v6 : Option AV) (v7 : Option AV), r 4 - j < (n : Int) → (0 ≤ j) → (j ≤ r 4) → ((is1 = 1 ∧ c ≤ r 1 ∧ ∀ j', 0 ≤ j' → j' < j → j' = i ∨ r (10 + 7 * j') ≠ r (10 + 7 * i) ∨ c < so_ r i j' y) ∨ (is1 = 0 ∧ (¬ c ≤ r 1 ∨ ∃ j', 0 ≤ j' ∧ j' < r 4 ∧ ¬ (j' = i ∨ r (10 + 7 * j') ≠ r (10 + 7 * i) ∨ c < so_ r i j' y)))) → GoM_ G 3 yX2_hearsItself cX2_hearsItself 8 (some .boolean) σ (fun v σ' => ∃ x : Int, v = some (I_ x) ∧ Q x σ') 77 [some (A_ (some m)), some (I_ i), some (I_ y), some (I_ c), some (I_ is1), some (I_ j), v6, v7] [] σ := by
      intro n
      induction n with
      | zero => intro is1 j v6 v7 hn h0 h1 hI; exact absurd hn (by omega)
      | succ n ih =>
        intro is1 j v6 v7 hn h0 h1 hI
        refine g_il5 dX2_hearsItself_77 ?_
        refine g_al0 dX2_hearsItself_79 ?_
        refine f_getA 15 fk_X2_20 rfl hM.sh (fun _ _ => rfl) hM.f15 dX2_hearsItself_80 ?_
        refine g_iconst dX2_hearsItself_83 ?_
        refine g_ialv hM.a15 (by omega) (hM.rr _) dX2_hearsItself_84 ?_
        refine g_icmp_ge (tgt := 196) dX2_hearsItself_85 (by decide) (by omega) (fun h85 => ?_) (fun h85 => ?_)
        · refine g_il4 dX2_hearsItself_196 ?_
          exact g_zret rfl (by omega) dX2_hearsItself_198 ⟨_, rfl, hQ _ (hfin _ _ (by omega) hI)⟩
        have hstep : ∀ x : Int, ((x = 1 ∧ is1 = 1 ∧ (j = i ∨ r (10 + 7 * j) ≠ r (10 + 7 * i) ∨ c < so_ r i j y)) ∨ (x = 0 ∧ (is1 = 0 ∨ ¬ (j = i ∨ r (10 + 7 * j) ≠ r (10 + 7 * i) ∨ c < so_ r i j y)))) → (x = 1 ∧ c ≤ r 1 ∧ ∀ j', 0 ≤ j' → j' < j + 1 → j' = i ∨ r (10 + 7 * j') ≠ r (10 + 7 * i) ∨ c < so_ r i j' y) ∨ (x = 0 ∧ (¬ c ≤ r 1 ∨ ∃ j', 0 ≤ j' ∧ j' < r 4 ∧ ¬ (j' = i ∨ r (10 + 7 * j') ≠ r (10 + 7 * i) ∨ c < so_ r i j' y))) := by
          intro x hx
          rcases hx with ⟨x1, x2, x3⟩ | ⟨x1, x2⟩
          · rcases hI with ⟨y1, y2, y3⟩ | ⟨y1, y2⟩
            · refine Or.inl ⟨x1, y2, fun j' g0 g1 => ?_⟩
              by_cases hj : j' = j
              · rw [hj]; exact x3
              · exact y3 j' g0 (by omega)
            · omega
          · rcases x2 with x2 | x2
            · rcases hI with ⟨y1, y2, y3⟩ | ⟨y1, y2⟩
              · omega
              · exact Or.inr ⟨x1, y2⟩
            · exact Or.inr ⟨x1, Or.inr ⟨j, by omega, by omega, x2⟩⟩
        refine g_il5 dX2_hearsItself_88 ?_
        refine g_il1 dX2_hearsItself_90 ?_
        refine g_icmp_eq (tgt := 190) dX2_hearsItself_91 (by decide) (by omega) (fun h91 => ?_) (fun h91 => ?_)
        · refine g_inc5 dX2_hearsItself_190 (by decide) rfl ?_
          refine g_goto (tgt := 77) dX2_hearsItself_193 (by decide) ?_
          exact ih _ _ _ _ (by omega) (by omega) (by omega) (hstep _ (by omega))
        refine g_al0 dX2_hearsItself_94 ?_
        refine g_il5 dX2_hearsItself_95 ?_
        refine g_callV1I (d' := 2) lk_X2_265 hM.sh rfl (rm_lt (by decide) (by decide)) (Nat.le_of_ble_eq_true rfl) dX2_hearsItself_97 ?_
        refine mo_songLong hM (by omega) ?_
        have hlj := hW.len (i := j) (by omega) (by omega)
        refine g_al0 dX2_hearsItself_100 ?_
        refine g_il1 dX2_hearsItself_101 ?_
        refine g_callV1I (d' := 2) lk_X2_265 hM.sh rfl (rm_lt (by decide) (by decide)) (Nat.le_of_ble_eq_true rfl) dX2_hearsItself_102 ?_
        refine mo_songLong hM (by omega) ?_
        refine g_icmp_eq (tgt := 111) dX2_hearsItself_105 (by decide) (by omega) (fun h105 => ?_) (fun h105 => ?_)
        · have L117 : ∀ (n : Nat) (c2 : Int) (k : Int), r (10 + 7 * i) - k < (n : Int) → (0 ≤ k) → (k ≤ r (10 + 7 * i)) → (0 ≤ c2 ∧ c2 ≤ k) → (c2 = sI_ (fun k => if nt_ r j k y = r (11 + 7 * i + k) then 0 else 1) k) → GoM_ G 3 yX2_hearsItself cX2_hearsItself 8 (some .boolean) σ (fun v σ' => ∃ x : Int, v = some (I_ x) ∧ Q x σ') 117 [some (A_ (some m)), some (I_ i), some (I_ y), some (I_ c), some (I_ is1), some (I_ j), some (I_ c2), some (I_ k)] [] σ := by
            intro n2
            induction n2 with
            | zero => intro c2 k hn g0 g1 gcc gc; exact absurd hn (by omega)
            | succ n2 ih2 =>
              intro c2 k hn g0 g1 gcc gc
              refine g_il7 dX2_hearsItself_117 ?_
              refine g_al0 dX2_hearsItself_119 ?_
              refine g_il1 dX2_hearsItself_120 ?_
              refine g_callV1I (d' := 2) lk_X2_265 hM.sh rfl (rm_lt (by decide) (by decide)) (Nat.le_of_ble_eq_true rfl) dX2_hearsItself_121 ?_
              refine mo_songLong hM (by omega) ?_
              refine g_icmp_ge (tgt := 172) dX2_hearsItself_124 (by decide) (by omega) (fun h124 => ?_) (fun h124 => ?_)
              · refine g_il4 dX2_hearsItself_172 ?_
                refine g_if_eq (tgt := 187) dX2_hearsItself_174 (by decide) (by omega) (fun h174 => ?_) (fun h174 => ?_)
                · refine g_iconst dX2_hearsItself_187 ?_
                  refine g_is4 dX2_hearsItself_188 (by decide) rfl ?_
                  refine g_inc5 dX2_hearsItself_190 (by decide) rfl ?_
                  refine g_goto (tgt := 77) dX2_hearsItself_193 (by decide) ?_
                  have e : so_ r i j y = c2 := by unfold so_ ul_; rw [show r (10 + 7 * i) = k by omega]; exact gc.symm
                  exact ih _ _ _ _ (by omega) (by omega) (by omega) (hstep _ (by omega))
                refine g_il3 dX2_hearsItself_177 ?_
                refine g_il6 dX2_hearsItself_178 ?_
                refine g_icmp_ge (tgt := 187) dX2_hearsItself_180 (by decide) (by omega) (fun h180 => ?_) (fun h180 => ?_)
                · refine g_iconst dX2_hearsItself_187 ?_
                  refine g_is4 dX2_hearsItself_188 (by decide) rfl ?_
                  refine g_inc5 dX2_hearsItself_190 (by decide) rfl ?_
                  refine g_goto (tgt := 77) dX2_hearsItself_193 (by decide) ?_
                  have e : so_ r i j y = c2 := by unfold so_ ul_; rw [show r (10 + 7 * i) = k by omega]; exact gc.symm
                  exact ih _ _ _ _ (by omega) (by omega) (by omega) (hstep _ (by omega))
                refine g_iconst dX2_hearsItself_183 ?_
                refine g_goto (tgt := 188) dX2_hearsItself_184 (by decide) ?_
                refine g_is4 dX2_hearsItself_188 (by decide) rfl ?_
                refine g_inc5 dX2_hearsItself_190 (by decide) rfl ?_
                refine g_goto (tgt := 77) dX2_hearsItself_193 (by decide) ?_
                have e : so_ r i j y = c2 := by unfold so_ ul_; rw [show r (10 + 7 * i) = k by omega]; exact gc.symm
                exact ih _ _ _ _ (by omega) (by omega) (by omega) (hstep _ (by omega))
              refine g_il6 dX2_hearsItself_127 ?_
              refine g_al0 dX2_hearsItself_129 ?_
              refine g_il5 dX2_hearsItself_130 ?_
              refine g_il7 dX2_hearsItself_132 ?_
              refine g_il2 dX2_hearsItself_134 ?_
              refine g_callV3I (d' := 2) lk_X2_280 hM.sh rfl (rm_lt (by decide) (by decide)) (Nat.le_of_ble_eq_true rfl) dX2_hearsItself_135 ?_
              refine mo_noteIn hM hW (by omega) (by omega) hy ?_
              have hnt := nt_in hW j k y
              have hsg := hW.song (i := i) (k := k) (by omega) (by omega) (by omega) (by omega)
              refine g_al0 dX2_hearsItself_138 ?_
              refine f_getA 15 fk_X2_20 rfl hM.sh (fun _ _ => rfl) hM.f15 dX2_hearsItself_139 ?_
              refine g_bipush dX2_hearsItself_142 (by decide) (by decide) ?_
              refine g_bipush dX2_hearsItself_144 (by decide) (by decide) ?_
              refine g_il1 dX2_hearsItself_146 ?_
              refine g_imul dX2_hearsItself_147 ?_
              refine g_iadd dX2_hearsItself_148 ?_
              refine g_iconst dX2_hearsItself_149 ?_
              refine g_iadd dX2_hearsItself_150 ?_
              refine g_il7 dX2_hearsItself_151 ?_
              refine g_iadd dX2_hearsItself_153 ?_
              refine g_ialv hM.a15 (by omega) (hM.rrx (j := 11 + 7 * i + k) (by omega)) dX2_hearsItself_154 ?_
              refine g_icmp_ne (tgt := 162) dX2_hearsItself_155 (by decide) (by omega) (fun h155 => ?_) (fun h155 => ?_)
              · refine g_iconst dX2_hearsItself_162 ?_
                refine g_iadd dX2_hearsItself_163 ?_
                refine g_is6 dX2_hearsItself_164 (by decide) rfl ?_
                refine g_inc7 dX2_hearsItself_166 (by decide) rfl ?_
                refine g_goto (tgt := 117) dX2_hearsItself_169 (by decide) ?_
                refine ih2 _ _ (by omega) (by omega) (by omega) (by omega) ?_
                rw [sI_s _ g0, gc]
                (repeat' split) <;> first | rfl | (exfalso; omega) | omega
              refine g_iconst dX2_hearsItself_158 ?_
              refine g_goto (tgt := 163) dX2_hearsItself_159 (by decide) ?_
              refine g_iadd dX2_hearsItself_163 ?_
              refine g_is6 dX2_hearsItself_164 (by decide) rfl ?_
              refine g_inc7 dX2_hearsItself_166 (by decide) rfl ?_
              refine g_goto (tgt := 117) dX2_hearsItself_169 (by decide) ?_
              refine ih2 _ _ (by omega) (by omega) (by omega) (by omega) ?_
              rw [sI_s _ g0, gc]
              (repeat' split) <;> first | rfl | (exfalso; omega) | omega
          refine g_iconst dX2_hearsItself_111 ?_
          refine g_is6 dX2_hearsItself_112 (by decide) rfl ?_
          refine g_iconst dX2_hearsItself_114 ?_
          refine g_is7 dX2_hearsItself_115 (by decide) rfl ?_
          exact L117 ((r (10 + 7 * i)).toNat + 1) _ _ (by omega) (by omega) (by omega) (by omega) rfl
        refine g_goto (tgt := 190) dX2_hearsItself_108 (by decide) ?_
        refine g_inc5 dX2_hearsItself_190 (by decide) rfl ?_
        refine g_goto (tgt := 77) dX2_hearsItself_193 (by decide) ?_
        exact ih _ _ _ _ (by omega) (by omega) (by omega) (hstep _ (by omega))
    refine g_il3 dX2_hearsItself_57 ?_
    refine g_al0 dX2_hearsItself_58 ?_
    refine f_getA 15 fk_X2_20 rfl hM.sh (fun _ _ => rfl) hM.f15 dX2_hearsItself_59 ?_
    refine g_iconst dX2_hearsItself_62 ?_
    refine g_ialv hM.a15 (by omega) (hM.rr _) dX2_hearsItself_63 ?_
    refine g_icmp_gt (tgt := 71) dX2_hearsItself_64 (by decide) (by omega) (fun h64 => ?_) (fun h64 => ?_)
    · refine g_iconst dX2_hearsItself_71 ?_
      refine g_is4 dX2_hearsItself_72 (by decide) rfl ?_
      refine g_iconst dX2_hearsItself_74 ?_
      refine g_is5 dX2_hearsItself_75 (by decide) rfl ?_
      exact L77 ((r 4).toNat + 1) _ _ _ _ (by omega) (by omega) (by omega) (Or.inr ⟨rfl, Or.inl (by omega)⟩)
    refine g_iconst dX2_hearsItself_67 ?_
    refine g_goto (tgt := 72) dX2_hearsItself_68 (by decide) ?_
    refine g_is4 dX2_hearsItself_72 (by decide) rfl ?_
    refine g_iconst dX2_hearsItself_74 ?_
    refine g_is5 dX2_hearsItself_75 (by decide) rfl ?_
    exact L77 ((r 4).toNat + 1) _ _ _ _ (by omega) (by omega) (by omega) (Or.inl ⟨rfl, by omega, fun j' g0 g1 => by omega⟩)
  have L5 : ∀ (n : Nat) (c : Int) (k : Int), r (10 + 7 * i) - k < (n : Int) → (0 ≤ k) → (k ≤ r (10 + 7 * i)) → (0 ≤ c ∧ c ≤ k) → (c = sI_ (fun k => if nt_ r i k y = r (11 + 7 * i + k) then 0 else 1) k) → GoM_ G 3 yX2_hearsItself cX2_hearsItself 8 (some .boolean) σ (fun v σ' => ∃ x : Int, v = some (I_ x) ∧ Q x σ') 5 [some (A_ (some m)), some (I_ i), some (I_ y), some (I_ c), some (I_ k), none, none, none] [] σ := by
    intro n
    induction n with
    | zero => intro c k hn h0 h1 hcc hc; exact absurd hn (by omega)
    | succ n ih =>
      intro c k hn h0 h1 hcc hc
      refine g_il4 dX2_hearsItself_5 ?_
      refine g_al0 dX2_hearsItself_7 ?_
      refine g_il1 dX2_hearsItself_8 ?_
      refine g_callV1I (d' := 2) lk_X2_265 hM.sh rfl (rm_lt (by decide) (by decide)) (Nat.le_of_ble_eq_true rfl) dX2_hearsItself_9 ?_
      refine mo_songLong hM (by omega) ?_
      refine g_icmp_ge (tgt := 57) dX2_hearsItself_12 (by decide) (by omega) (fun h12 => ?_) (fun h12 => ?_)
      · exact J57 _ _ _ _ _ hcc.1 (by omega) (by unfold so_ ul_; rw [show r (10 + 7 * i) = k by omega]; exact hc)
      refine g_il3 dX2_hearsItself_15 ?_
      refine g_al0 dX2_hearsItself_16 ?_
      refine g_il1 dX2_hearsItself_17 ?_
      refine g_il4 dX2_hearsItself_18 ?_
      refine g_il2 dX2_hearsItself_20 ?_
      refine g_callV3I (d' := 2) lk_X2_280 hM.sh rfl (rm_lt (by decide) (by decide)) (Nat.le_of_ble_eq_true rfl) dX2_hearsItself_21 ?_
      refine mo_noteIn hM hW hi (by omega) hy ?_
      have hnt := nt_in hW i k y
      have hsg := hW.song (i := i) (k := k) (by omega) (by omega) (by omega) (by omega)
      refine g_al0 dX2_hearsItself_24 ?_
      refine f_getA 15 fk_X2_20 rfl hM.sh (fun _ _ => rfl) hM.f15 dX2_hearsItself_25 ?_
      refine g_bipush dX2_hearsItself_28 (by decide) (by decide) ?_
      refine g_bipush dX2_hearsItself_30 (by decide) (by decide) ?_
      refine g_il1 dX2_hearsItself_32 ?_
      refine g_imul dX2_hearsItself_33 ?_
      refine g_iadd dX2_hearsItself_34 ?_
      refine g_iconst dX2_hearsItself_35 ?_
      refine g_iadd dX2_hearsItself_36 ?_
      refine g_il4 dX2_hearsItself_37 ?_
      refine g_iadd dX2_hearsItself_39 ?_
      refine g_ialv hM.a15 (by omega) (hM.rrx (j := 11 + 7 * i + k) (by omega)) dX2_hearsItself_40 ?_
      refine g_icmp_ne (tgt := 48) dX2_hearsItself_41 (by decide) (by omega) (fun h41 => ?_) (fun h41 => ?_)
      · refine g_iconst dX2_hearsItself_48 ?_
        refine g_iadd dX2_hearsItself_49 ?_
        refine g_is3 dX2_hearsItself_50 (by decide) rfl ?_
        refine g_inc4 dX2_hearsItself_51 (by decide) rfl ?_
        refine g_goto (tgt := 5) dX2_hearsItself_54 (by decide) ?_
        refine ih _ _ (by omega) (by omega) (by omega) (by omega) ?_
        rw [sI_s _ h0, hc]
        (repeat' split) <;> first | rfl | (exfalso; omega) | omega
      refine g_iconst dX2_hearsItself_44 ?_
      refine g_goto (tgt := 49) dX2_hearsItself_45 (by decide) ?_
      refine g_iadd dX2_hearsItself_49 ?_
      refine g_is3 dX2_hearsItself_50 (by decide) rfl ?_
      refine g_inc4 dX2_hearsItself_51 (by decide) rfl ?_
      refine g_goto (tgt := 5) dX2_hearsItself_54 (by decide) ?_
      refine ih _ _ (by omega) (by omega) (by omega) (by omega) ?_
      rw [sI_s _ h0, hc]
      (repeat' split) <;> first | rfl | (exfalso; omega) | omega
  refine g_iconst dX2_hearsItself_0 ?_
  refine g_is3 dX2_hearsItself_1 (by decide) rfl ?_
  refine g_iconst dX2_hearsItself_2 ?_
  refine g_is4 dX2_hearsItself_3 (by decide) rfl ?_
  exact L5 ((r (10 + 7 * i)).toNat + 1) _ _ (by omega) (by omega) (by omega) (by omega) rfl
theorem mo_strange {p : Int} {i : Int} {Q : Int → JH → Prop} (hM : MD_ G m σ r s) (hp : iv_ σ m 14 = p) (hP : MP_ p r s) (hi : -2147483648 ≤ i ∧ i < 2147483648)
    (hQ : ∀ (x t : Int) (σ' : JH), qStrange_ p r s i = (x, t) → MD_ G m σ' r s → ME_ m σ σ' t → Q x σ') : CallI_ G 4 yX2_strange cX2_strange 3 (some .int) [A_ (some m), I_ i] σ Q := by
  refine call_go [some (A_ (some m)), some (I_ i), none] (by decide) (Nat.le_of_ble_eq_true rfl) rfl ?_
  have hp01 := hP.b
  refine g_al0 dX2_strange_0 ?_
  refine g_callV0V (d' := 2) lk_X2_167 hM.sh rfl (rm_lt (by decide) (by decide)) (Nat.le_of_ble_eq_true rfl) dX2_strange_1 ?_
  refine mo_good hM (fun σ1 hM hE => ?_)
  have hp := hE.p14.trans hp
  refine g_al0 dX2_strange_4 ?_
  refine g_il1 dX2_strange_5 ?_
  refine g_callV1I (d' := 3) lk_X2_277 hM.sh rfl (rm_lt (by decide) (by decide)) (Nat.le_of_ble_eq_true rfl) dX2_strange_6 ?_
  refine mo_isIsland hM hp hP.rw (by omega) (fun x6 hx6 => ?_)
  unfold isI_ at hx6
  refine g_if_ne (tgt := 18) dX2_strange_9 (by decide) (by omega) (fun h9 => ?_) (fun h9 => ?_)
  · obtain ⟨hW, hD⟩ := hP.get (by omega)
    have hn := hW.n
    have hd := hD.n
    have L20 : ∀ (n : Nat) (k : Int), 100 - k < (n : Int) → (0 ≤ k) → (k ≤ 100) → (∀ j, 0 ≤ j → j < k → (!hi_ r i (s 0 + j)) = false) → GoM_ G 4 yX2_strange cX2_strange 3 (some .int) σ (fun v σ' => ∃ x : Int, v = some (I_ x) ∧ Q x σ') 20 [some (A_ (some m)), some (I_ i), some (I_ k)] [] σ1 := by
      intro n
      induction n with
      | zero => intro k hn h0 h1 hf; exact absurd hn (by omega)
      | succ n ih =>
        intro k hn h0 h1 hf
        refine g_il2 dX2_strange_20 ?_
        refine g_bipush dX2_strange_21 (by decide) (by decide) ?_
        refine g_icmp_ge (tgt := 50) dX2_strange_23 (by decide) (by omega) (fun h23 => ?_) (fun h23 => ?_)
        · refine g_bipush dX2_strange_50 (by decide) (by decide) ?_
          exact g_iret rfl dX2_strange_52 ⟨_, rfl, hQ _ _ _ (by have e := fI_none (P := fun n => !hi_ r i (s 0 + n)) (n := 100) (fun j g0 g1 => hf j g0 (by omega)); unfold qStrange_; rw [if_pos (by omega), e, if_pos (by omega)]) hM hE⟩
        refine g_al0 dX2_strange_26 ?_
        refine g_il1 dX2_strange_27 ?_
        refine g_al0 dX2_strange_28 ?_
        refine f_getA 17 fk_X2_26 rfl hM.sh (fun _ _ => rfl) hM.f17 dX2_strange_29 ?_
        refine g_iconst dX2_strange_32 ?_
        refine g_ialv hM.a17 (by omega) (hM.ss _) dX2_strange_33 ?_
        refine g_il2 dX2_strange_34 ?_
        refine g_iadd dX2_strange_35 ?_
        refine g_callV2I (d' := 3) lk_X2_331 hM.sh rfl (rm_lt (by decide) (by decide)) (Nat.le_of_ble_eq_true rfl) dX2_strange_36 ?_
        refine mo_hearsItself hM hW (by omega) (by omega) (fun x hx => ?_)
        refine g_if_ne (tgt := 44) dX2_strange_39 (by decide) (by omega) (fun h39 => ?_) (fun h39 => ?_)
        · refine g_inc2 dX2_strange_44 (by decide) rfl ?_
          refine g_goto (tgt := 20) dX2_strange_47 (by decide) ?_
          refine ih _ (by omega) (by omega) (by omega) (fun j g0 g1 => ?_)
          by_cases hj : j = k
          · subst hj; rcases hx with q | q
            · simp [q.2]
            · omega
          · exact hf j g0 (by omega)
        refine g_il2 dX2_strange_42 ?_
        exact g_iret rfl dX2_strange_43 ⟨_, rfl, hQ _ _ _ (by have e := fI_hit (P := fun n => !hi_ r i (s 0 + n)) (n := 100) h0 (by omega) (by rcases hx with q | q; (omega); (simp [q.2])) hf; unfold qStrange_; rw [if_pos (by omega), e, if_neg (by omega)]) hM hE⟩
    refine g_iconst dX2_strange_18 ?_
    refine g_is2 dX2_strange_19 (by decide) rfl ?_
    exact L20 101 _ (by omega) (by omega) (by omega) (fun j g0 g1 => by omega)
  refine g_al0 dX2_strange_12 ?_
  refine g_iconst dX2_strange_13 ?_
  refine g_callV1I (d' := 2) lk_X2_170 hM.sh rfl (rm_lt (by decide) (by decide)) (Nat.le_of_ble_eq_true rfl) dX2_strange_14 ?_
  refine mo_no hM hE (fun σ2 hM hE => ?_)
  exact g_iret rfl dX2_strange_17 ⟨_, rfl, hQ _ _ _ (by unfold qStrange_; rw [if_neg (by omega)]) hM hE⟩
end
