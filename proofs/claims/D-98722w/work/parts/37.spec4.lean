/-! WHAT BOTH SIDES ANSWER, part 4: whales on their ways -/
set_option maxRecDepth 100000
/-- the first day from d on on which a way is open (three seasons on at most) -/
def st_ (op : Int) : Nat → Int → Int
  | 0, d => d
  | n + 1, d => if hb_ op (d / 90 % 4) then d else st_ op n (90 * (d / 90 + 1))
def sd_ (op d : Int) : Int := st_ op 3 d
theorem op_bit {op : Int} (h : 1 ≤ op ∧ op ≤ 15) : hb_ op 0 ∨ hb_ op 1 ∨ hb_ op 2 ∨ hb_ op 3 := by
  rcases (show op = 1 ∨ op = 2 ∨ op = 3 ∨ op = 4 ∨ op = 5 ∨ op = 6 ∨ op = 7 ∨ op = 8 ∨ op = 9 ∨ op = 10 ∨ op = 11 ∨ op = 12 ∨ op = 13 ∨ op = 14 ∨ op = 15 by omega) with rfl | rfl | rfl | rfl | rfl | rfl | rfl | rfl | rfl | rfl | rfl | rfl | rfl | rfl | rfl <;> decide
theorem st_spec (op : Int) : ∀ (n : Nat) (d : Int), 0 ≤ d → (∃ j : Int, 0 ≤ j ∧ j ≤ n ∧ hb_ op ((d / 90 + j) % 4)) → d ≤ st_ op n d ∧ st_ op n d ≤ d + 90 * n ∧ hb_ op (st_ op n d / 90 % 4) ∧ ∀ x, d ≤ x → x < st_ op n d → ¬ hb_ op (x / 90 % 4) := by
  intro n
  induction n with
  | zero =>
    intro d hd hj
    obtain ⟨j, h0, h1, h2⟩ := hj
    have : j = 0 := by omega
    subst this
    rw [Int.add_zero] at h2
    refine ⟨by simp [st_], by simp [st_], by simpa [st_] using h2, fun x a b => ?_⟩
    simp only [st_] at b
    omega
  | succ n ih =>
    intro d hd hj
    simp only [st_]
    by_cases hb : hb_ op (d / 90 % 4)
    · rw [if_pos hb]
      exact ⟨by omega, by omega, hb, fun x a b => by omega⟩
    · rw [if_neg hb]
      obtain ⟨j, h0, h1, h2⟩ := hj
      have hj0 : j ≠ 0 := fun z => hb (by rw [z, Int.add_zero] at h2; exact h2)
      have e : 90 * (d / 90 + 1) / 90 = d / 90 + 1 := by omega
      obtain ⟨a1, a2, a3, a4⟩ := ih (90 * (d / 90 + 1)) (by omega) ⟨j - 1, by omega, by omega, by rw [e, show d / 90 + 1 + (j - 1) = d / 90 + j by omega]; exact h2⟩
      refine ⟨by omega, by omega, a3, fun x b1 b2 => ?_⟩
      by_cases hx : x < 90 * (d / 90 + 1)
      · have : x / 90 = d / 90 := by omega
        rw [this]; exact hb
      · exact a4 x (by omega) b2
theorem sd_spec {op d : Int} (h : 1 ≤ op ∧ op ≤ 15) (hd : 0 ≤ d) : d ≤ sd_ op d ∧ sd_ op d ≤ d + 270 ∧ hb_ op (sd_ op d / 90 % 4) ∧ ∀ x, d ≤ x → x < sd_ op d → ¬ hb_ op (x / 90 % 4) := by
  have key : ∃ j : Int, 0 ≤ j ∧ j ≤ (3 : Nat) ∧ hb_ op ((d / 90 + j) % 4) := by
    have fit : ∀ t : Int, 0 ≤ t → t < 4 → hb_ op t → ∃ j : Int, 0 ≤ j ∧ j ≤ (3 : Nat) ∧ hb_ op ((d / 90 + j) % 4) := by
      intro t t0 t1 ht
      refine ⟨(t - d / 90) % 4, by omega, by omega, ?_⟩
      rw [show (d / 90 + (t - d / 90) % 4) % 4 = t by omega]
      exact ht
    rcases op_bit h with q | q | q | q
    · exact fit 0 (by omega) (by omega) q
    · exact fit 1 (by omega) (by omega) q
    · exact fit 2 (by omega) (by omega) q
    · exact fit 3 (by omega) (by omega) q
  have := st_spec op 3 d hd key
  exact ⟨this.1, by have := this.2.1; simp at this; exact this, this.2.2⟩
theorem sd_one {op d : Int} (h : hb_ op (d / 90 % 4)) : sd_ op d = d := by unfold sd_; simp only [st_]; rw [if_pos h]
theorem sd_next {op d : Int} (ho : 1 ≤ op ∧ op ≤ 15) (hd : 0 ≤ d) (h : ¬ hb_ op (d / 90 % 4)) : sd_ op d = sd_ op (90 * (d / 90 + 1)) := by
  obtain ⟨a1, a2, a3, a4⟩ := sd_spec ho hd
  obtain ⟨b1, b2, b3, b4⟩ := sd_spec ho (d := 90 * (d / 90 + 1)) (by omega)
  have h1 : 90 * (d / 90 + 1) ≤ sd_ op d := by
    by_cases hq : sd_ op d < 90 * (d / 90 + 1)
    · rw [show sd_ op d / 90 = d / 90 by omega] at a3
      exact absurd a3 h
    · omega
  by_cases h2 : sd_ op d < sd_ op (90 * (d / 90 + 1))
  · exact absurd a3 (b4 _ h1 h2)
  · by_cases h3 : sd_ op (90 * (d / 90 + 1)) < sd_ op d
    · exact absurd b3 (a4 _ (by omega) h3)
    · omega
theorem sd_mono {op d d' : Int} (ho : 1 ≤ op ∧ op ≤ 15) (hd : 0 ≤ d) (h : d ≤ d') : sd_ op d ≤ sd_ op d' := by
  obtain ⟨a1, a2, a3, a4⟩ := sd_spec ho hd
  obtain ⟨b1, b2, b3, b4⟩ := sd_spec ho (d := d') (by omega)
  by_cases h2 : sd_ op d' < sd_ op d
  · exact absurd b3 (a4 _ (by omega) h2)
  · omega
/-- the day on which one of a kind sets out by a way -/
def ot_ (r : Int → Int) (kd k d : Int) : Int := if kd = 3 then d else sd_ (r (62 + 4 * k)) d
/-- the day on which it comes by a way -/
def db_ (r : Int → Int) (kd k d : Int) : Int := ot_ r kd k d + (if kd = 2 then 2 else 1) * r (61 + 4 * k)
theorem ot_in {r : Int → Int} (h : RW_ r) (kd : Int) {k d : Int} (h0 : 0 ≤ k) (h1 : k < r 5) (hd : 0 ≤ d) : d ≤ ot_ r kd k d ∧ ot_ r kd k d ≤ d + 270 := by
  have hw := h.way h0 h1
  have := sd_spec (op := r (62 + 4 * k)) (d := d) (by omega) hd
  unfold ot_
  split <;> omega
theorem db_in {r : Int → Int} (h : RW_ r) (kd : Int) {k d : Int} (h0 : 0 ≤ k) (h1 : k < r 5) (hd : 0 ≤ d) : d + 1 ≤ db_ r kd k d ∧ db_ r kd k d ≤ d + 468 := by
  have hw := h.way h0 h1
  have := ot_in h kd h0 h1 hd
  unfold db_
  split <;> omega
theorem db_mono {r : Int → Int} (h : RW_ r) (kd : Int) {k d d' : Int} (h0 : 0 ≤ k) (h1 : k < r 5) (hd : 0 ≤ d) (hdd : d ≤ d') : db_ r kd k d ≤ db_ r kd k d' := by
  have hw := h.way h0 h1
  have := sd_mono (op := r (62 + 4 * k)) (by omega) hd hdd
  unfold db_ ot_
  split <;> omega
/-- a way that isn't closed, between two islands -/
abbrev eg_ (r s : Int → Int) (k i j : Int) : Prop := (0 ≤ k ∧ k < r 5) ∧ ¬ hb_ (s 1) k ∧ jn_ r k i j
/-- one way's relaxing, seen from the island i -/
def es_ (r s : Int → Int) (kd : Int) (X : Int → Int) (i : Int) : Int → Int → Int := fun k t =>
  if hb_ (s 1) k then t else
    if r (60 + 4 * k) = i ∧ X (r (59 + 4 * k)) < 1000000 ∧ db_ r kd k (X (r (59 + 4 * k))) < t then db_ r kd k (X (r (59 + 4 * k))) else
    if r (59 + 4 * k) = i ∧ X (r (60 + 4 * k)) < 1000000 ∧ db_ r kd k (X (r (60 + 4 * k))) < t then db_ r kd k (X (r (60 + 4 * k))) else t
/-- the first days by n ways at most, from an island on a day on; 1000000 never -/
def ea_ (r s : Int → Int) (kd fr dy : Int) : Nat → Int → Int
  | 0, i => if i = fr then dy else 1000000
  | n + 1, i => iI_ (es_ r s kd (ea_ r s kd fr dy n) i) (ea_ r s kd fr dy n i) (r 5)
theorem es_le (r s : Int → Int) (kd : Int) (X : Int → Int) (i k t : Int) : es_ r s kd X i k t ≤ t := by
  unfold es_
  split
  · omega
  · split
    · omega
    · split <;> omega
theorem es_all {r s : Int → Int} (hW : RW_ r) {kd : Int} {X : Int → Int} {i a : Int} : iI_ (es_ r s kd X i) a (r 5) ≤ a ∧ (∀ k j, eg_ r s k j i → X j < 1000000 → iI_ (es_ r s kd X i) a (r 5) ≤ db_ r kd k (X j)) ∧ (iI_ (es_ r s kd X i) a (r 5) = a ∨ ∃ k j, eg_ r s k j i ∧ X j < 1000000 ∧ iI_ (es_ r s kd X i) a (r 5) = db_ r kd k (X j)) := by
  have := iI_inv (f := es_ r s kd X i) (a := a) (n := r 5) (P := fun m t => t ≤ a ∧ (∀ k j, eg_ r s k j i → k < m → r (59 + 4 * k) ≠ r (60 + 4 * k) → X j < 1000000 → t ≤ db_ r kd k (X j)) ∧ (t = a ∨ ∃ k j, eg_ r s k j i ∧ X j < 1000000 ∧ t = db_ r kd k (X j)))
    ⟨by omega, fun k j h1 h2 => by omega, Or.inl rfl⟩ (fun m t h0 h1 ht => by
      have hle := es_le r s kd X i m t
      obtain ⟨t1, t2, t3⟩ := ht
      refine ⟨by omega, fun k j e1 e2 e3 e4 => ?_, ?_⟩
      · by_cases hk : k = m
        · subst hk
          obtain ⟨-, c1, c2⟩ := e1
          unfold es_
          rw [if_neg c1]
          rcases c2 with ⟨p1, p2⟩ | ⟨p1, p2⟩
          · rw [p1, p2]
            split
            · omega
            · split
              · omega
              · omega
          · rw [p1, p2]
            split
            · omega
            · split
              · omega
              · omega
        · have := t2 k j e1 (by omega) e3 e4
          omega
      · unfold es_
        split
        · exact t3
        · rename_i c1
          split
          · rename_i c2
            exact Or.inr ⟨m, _, ⟨⟨h0, h1⟩, c1, Or.inl ⟨rfl, c2.1⟩⟩, c2.2.1, rfl⟩
          · split
            · rename_i c3
              exact Or.inr ⟨m, _, ⟨⟨h0, h1⟩, c1, Or.inr ⟨c3.1, rfl⟩⟩, c3.2.1, rfl⟩
            · exact t3) (by have := hW.n; omega)
  refine ⟨this.1, fun k j e1 e2 => ?_, this.2.2⟩
  exact this.2.1 k j e1 e1.1.2 (hW.way e1.1.1 e1.1.2).2.2.1 e2
theorem ea_in {r s : Int → Int} (hW : RW_ r) (kd fr : Int) {dy : Int} (hd : 0 ≤ dy ∧ dy ≤ 200000) : ∀ (n : Nat) (i : Int), dy ≤ ea_ r s kd fr dy n i ∧ (ea_ r s kd fr dy n i = 1000000 ∨ ea_ r s kd fr dy n i ≤ dy + 468 * n) := by
  intro n
  induction n with
  | zero =>
    intro i
    simp only [ea_]
    split <;> omega
  | succ n ih =>
    intro i
    have h0 := ih i
    have h := (es_all (s := s) hW (kd := kd) (X := ea_ r s kd fr dy n) (i := i) (a := ea_ r s kd fr dy n i)).2.2
    show dy ≤ iI_ (es_ r s kd (ea_ r s kd fr dy n) i) (ea_ r s kd fr dy n i) (r 5) ∧ (iI_ (es_ r s kd (ea_ r s kd fr dy n) i) (ea_ r s kd fr dy n i) (r 5) = 1000000 ∨ iI_ (es_ r s kd (ea_ r s kd fr dy n) i) (ea_ r s kd fr dy n i) (r 5) ≤ dy + 468 * ((n + 1 : Nat) : Int))
    rcases h with h | ⟨k, j, e1, e2, e3⟩
    · rw [h]; omega
    · have hj := ih j
      have := db_in hW kd e1.1.1 e1.1.2 (d := ea_ r s kd fr dy n j) (by omega)
      rw [e3]
      omega
theorem ea_dec {r s : Int → Int} (hW : RW_ r) (kd fr dy : Int) (n : Nat) (i : Int) : ea_ r s kd fr dy (n + 1) i ≤ ea_ r s kd fr dy n i := (es_all hW).1
theorem ea_fr {r s : Int → Int} (hW : RW_ r) (kd fr : Int) {dy : Int} (hd : 0 ≤ dy ∧ dy ≤ 200000) : ∀ n : Nat, ea_ r s kd fr dy n fr = dy := by
  intro n
  induction n with
  | zero => simp [ea_]
  | succ n ih =>
    have h1 := ea_dec (s := s) hW kd fr dy n fr
    have h2 := (ea_in (s := s) hW kd fr hd (n + 1) fr).1
    omega
/-- days that are the first ones: each comes by a way from an earlier one, and no way betters one -/
def FX_ (r s : Int → Int) (kd fr dy : Int) (X : Int → Int) : Prop :=
  X fr = dy ∧ (∀ i, 0 ≤ i → i < r 4 → dy ≤ X i ∧ X i ≤ 1000000) ∧ (∀ k i j, eg_ r s k i j → X i < 1000000 → X j ≤ db_ r kd k (X i)) ∧
  ∀ i, 0 ≤ i → i < r 4 → i ≠ fr → X i < 1000000 → ∃ k j, eg_ r s k j i ∧ X j < X i ∧ X i = db_ r kd k (X j)
theorem sI_lt {f g : Int → Int} {i0 : Int} : ∀ n : Nat, (∀ i, 0 ≤ i → i < (n : Int) → f i ≤ g i) → sI_ f n ≤ sI_ g n ∧ (0 ≤ i0 → i0 < (n : Int) → f i0 < g i0 → sI_ f n + 1 ≤ sI_ g n) := by
  intro n
  induction n with
  | zero => intro _; exact ⟨by show (0 : Int) ≤ 0; omega, fun a b => by omega⟩
  | succ n ih =>
    intro h
    obtain ⟨h1, h2⟩ := ih (fun i a b => h i a (by omega))
    have hn := h n (by omega) (by omega)
    have e : ((n + 1 : Nat) : Int) = (n : Int) + 1 := by omega
    rw [e, sI_s f (by omega), sI_s g (by omega)]
    refine ⟨by omega, fun a b c => ?_⟩
    by_cases hi : i0 = n
    · rw [hi] at c; omega
    · have := h2 a (by omega) c; omega
theorem eg_in {r s : Int → Int} (hW : RW_ r) {k i j : Int} (h : eg_ r s k i j) : (0 ≤ i ∧ i < r 4) ∧ (0 ≤ j ∧ j < r 4) := by
  have := hW.way h.1.1 h.1.2
  rcases h.2.2 with ⟨a, b⟩ | ⟨a, b⟩ <;> omega
theorem FX_.ge {r s : Int → Int} (hW : RW_ r) {kd fr dy : Int} {X : Int → Int} (h : FX_ r s kd fr dy X) (hd : 0 ≤ dy ∧ dy ≤ 200000) : ∀ (n : Nat) (i : Int), 0 ≤ i → i < r 4 → X i ≤ ea_ r s kd fr dy n i := by
  intro n
  induction n with
  | zero =>
    intro i h0 h1
    have := h.2.1 i h0 h1
    simp only [ea_]
    split
    · rename_i hi; rw [hi, h.1]; omega
    · omega
  | succ n ih =>
    intro i h0 h1
    have hi := ih i h0 h1
    show X i ≤ iI_ (es_ r s kd (ea_ r s kd fr dy n) i) (ea_ r s kd fr dy n i) (r 5)
    rcases (es_all (s := s) hW (kd := kd) (X := ea_ r s kd fr dy n) (i := i) (a := ea_ r s kd fr dy n i)).2.2 with q | ⟨k, j, e1, e2, e3⟩
    · rw [q]; exact hi
    · rw [e3]
      have hj := eg_in hW e1
      have g1 := ih j hj.1.1 hj.1.2
      have g2 := h.2.1 j hj.1.1 hj.1.2
      have g3 := h.2.2.1 k j i e1 (by omega)
      have g4 := db_mono hW kd e1.1.1 e1.1.2 (d := X j) (d' := ea_ r s kd fr dy n j) (by omega) g1
      omega
/-- such days are those of seven rounds -/
theorem FX_.eq {r s : Int → Int} (hW : RW_ r) {kd fr dy : Int} {X : Int → Int} (h : FX_ r s kd fr dy X) (hd : 0 ≤ dy ∧ dy ≤ 200000) (hf : 0 ≤ fr ∧ fr < r 4) : ∀ i, 0 ≤ i → i < r 4 → X i = ea_ r s kd fr dy 7 i := by
  have hn := hW.n
  have hge := h.ge hW hd
  have e4 : ((r 4).toNat : Int) = r 4 := by omega
  have key : ∀ n : Nat, (∀ i, 0 ≤ i → i < r 4 → ea_ r s kd fr dy n i = X i) ∨ (n : Int) + 1 ≤ sI_ (fun i => if ea_ r s kd fr dy n i = X i then 1 else 0) (r 4) := by
    intro n
    induction n with
    | zero =>
      right
      have h0 := (sI_lt (f := fun _ => 0) (g := fun i => if ea_ r s kd fr dy 0 i = X i then (1 : Int) else 0) (i0 := fr) (r 4).toNat (fun i _ _ => by split <;> omega)).2 hf.1 (by omega) (by
        rw [if_pos (by rw [h.1]; simp [ea_])]; omega)
      have hz : sI_ (fun _ => (0 : Int)) ((r 4).toNat : Int) = 0 := by
        have := sI_bd (f := fun _ => (0 : Int)) (n := ((r 4).toNat : Int)) (lo := 0) (hi := 0) (fun _ _ _ => by omega) (by omega)
        omega
      rw [hz, e4] at h0
      exact h0
    | succ n ih =>
      rcases ih with q | q
      · left
        intro i h0 h1
        have a1 := hge (n + 1) i h0 h1
        have a2 := ea_dec (s := s) hW kd fr dy n i
        have a3 := q i h0 h1
        omega
      · by_cases hall : ∀ i, 0 ≤ i → i < r 4 → ea_ r s kd fr dy n i = X i
        · left
          intro i h0 h1
          have a1 := hge (n + 1) i h0 h1
          have a2 := ea_dec (s := s) hW kd fr dy n i
          have a3 := hall i h0 h1
          omega
        · right
          have hex : ∃ v : Nat, ∃ i, 0 ≤ i ∧ i < r 4 ∧ ea_ r s kd fr dy n i ≠ X i ∧ (X i).toNat = v := Classical.byContradiction fun hno => hall fun i h0 h1 => Classical.byContradiction fun hne => hno ⟨(X i).toNat, i, h0, h1, hne, rfl⟩
          obtain ⟨v, ⟨i, h0, h1, hne, hv⟩, hmin⟩ := pk_least _ hex
          have hXi := h.2.1 i h0 h1
          have hgi := hge n i h0 h1
          have hlt : X i < 1000000 := by
            have hb := (ea_in (s := s) hW kd fr hd n i)
            have hb2 : ea_ r s kd fr dy n i ≤ 1000000 := by
              have : ∀ n : Nat, ea_ r s kd fr dy n i ≤ 1000000 := by
                intro n
                induction n with
                | zero => simp only [ea_]; split <;> omega
                | succ n ih => have := ea_dec (s := s) hW kd fr dy n i; omega
              exact this n
            omega
          have hif : i ≠ fr := fun z => hne (by rw [z, ea_fr hW kd fr hd n, h.1])
          obtain ⟨k, j, e1, e2, e3⟩ := h.2.2.2 i h0 h1 hif hlt
          have hj := eg_in hW e1
          have hjk : ea_ r s kd fr dy n j = X j := Classical.byContradiction fun hno => by
            have hXj := h.2.1 j hj.1.1 hj.1.2
            exact hmin (X j).toNat (by omega) ⟨j, hj.1.1, hj.1.2, hno, rfl⟩
          have hedge := (es_all (s := s) hW (kd := kd) (X := ea_ r s kd fr dy n) (i := i) (a := ea_ r s kd fr dy n i)).2.1 k j e1 (by rw [hjk]; omega)
          have hi1 : ea_ r s kd fr dy (n + 1) i = X i := by
            have a1 := hge (n + 1) i h0 h1
            have a2 : ea_ r s kd fr dy (n + 1) i ≤ db_ r kd k (ea_ r s kd fr dy n j) := hedge
            rw [hjk] at a2
            omega
          have hs := (sI_lt (f := fun i => if ea_ r s kd fr dy n i = X i then (1 : Int) else 0) (g := fun i => if ea_ r s kd fr dy (n + 1) i = X i then (1 : Int) else 0) (i0 := i) (r 4).toNat (fun i' g0 g1 => by
            by_cases hq : ea_ r s kd fr dy n i' = X i'
            · have a1 := hge (n + 1) i' g0 (by omega)
              have a2 := ea_dec (s := s) hW kd fr dy n i'
              rw [if_pos hq, if_pos (by omega)]; omega
            · rw [if_neg hq]; split <;> omega)).2 h0 (by omega) (by rw [if_neg hne, if_pos hi1]; omega)
          rw [e4] at hs
          omega
  intro i h0 h1
  rcases key 7 with q | q
  · exact (q i h0 h1).symm
  · have := sI_bd (f := fun i => if ea_ r s kd fr dy 7 i = X i then (1 : Int) else 0) (n := r 4) (lo := 0) (hi := 1) (fun _ _ _ => by split <;> omega) (by omega)
    omega
/-- the first days of one of a kind: a calf goes by one way at most -/
def er_ (r s : Int → Int) (kd fr dy i : Int) : Int := if kd = 0 then ea_ r s kd fr dy 1 i else ea_ r s kd fr dy 7 i
theorem er_in {r s : Int → Int} (hW : RW_ r) (kd fr : Int) {dy : Int} (hd : 0 ≤ dy ∧ dy ≤ 200000) (i : Int) : dy ≤ er_ r s kd fr dy i ∧ (er_ r s kd fr dy i = 1000000 ∨ er_ r s kd fr dy i ≤ dy + 3276) := by
  unfold er_
  split
  · have := ea_in (s := s) hW kd fr hd 1 i; omega
  · have := ea_in (s := s) hW kd fr hd 7 i; omega
/-- the first day at an island; -2 never -/
def av1_ (r s : Int → Int) (kd fr to dy : Int) : Int := if er_ r s kd fr dy to = 1000000 then -2 else er_ r s kd fr dy to
theorem av1_in {r s : Int → Int} (hW : RW_ r) (kd fr to : Int) {dy : Int} (hd : 0 ≤ dy ∧ dy ≤ 200000) : av1_ r s kd fr to dy = -2 ∨ (dy ≤ av1_ r s kd fr to dy ∧ av1_ r s kd fr to dy ≤ dy + 3276) := by
  have := er_in (s := s) hW kd fr hd to
  unfold av1_
  split <;> omega
def qSeason_ (p : Int) (day : Int) : Int × Int := if p = 1 then (if 0 ≤ day ∧ day ≤ 99999 then (day / 90 % 4, 0) else (-1, 2)) else (-1, 1)
def qSets_ (p : Int) (r s : Int → Int) (w k d : Int) : Int × Int :=
  if p = 1 ∧ (0 ≤ w ∧ w < r 6) ∧ (0 ≤ k ∧ k < r 5) then (if 0 ≤ d ∧ d ≤ 9999 then (if hb_ (s 1) k then -2 else ot_ r (r (107 + 4 * w)) k d, 0) else (-1, 2)) else (-1, 1)
def qArrival_ (p : Int) (r s : Int → Int) (w fr to d : Int) : Int × Int :=
  if p = 1 ∧ (0 ≤ w ∧ w < r 6) ∧ (0 ≤ fr ∧ fr < r 4) ∧ (0 ≤ to ∧ to < r 4) then (if 0 ≤ d ∧ d ≤ 9999 then (av1_ r s (r (107 + 4 * w)) fr to d, 0) else (-1, 2)) else (-1, 1)
