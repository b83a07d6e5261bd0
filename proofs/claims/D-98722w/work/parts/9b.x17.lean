/-! THE COMPONENT: objects that are built; desks. Written by mod/m9b.py -/
set_option maxRecDepth 100000
/-- at D, since σ0, these fields were given new arrays or lists (field, shape), u slots in all; its ints are V -/
def BO_ (G : JG) (D : Nat) (σ0 σ : JH) (L : List (Nat × JS)) (u : Nat) (V : Int → Int) : Prop :=
  Gw_ (fun b _ => b = D) L.length u σ0 σ ∧ (sz_ σ = sz_ σ0 + L.length ∧ us_ σ = us_ σ0 + u) ∧
  (∀ (i k : Nat) (s : JS), L[i]? = some (k, s) → rv_ σ D (k : Int) = some (sz_ σ0 + i) ∧ sh_ σ (sz_ σ0 + i) = some s ∧ (∀ t n, s = .inr (t, n) → ∀ j, iv_ σ (sz_ σ0 + i) j = 0) ∧ (s = .inl 2 → rv_ σ (sz_ σ0 + i) 1 = some (gK_ G 100) ∧ iv_ σ (sz_ σ0 + i) 2 = 0)) ∧
  (∀ k : Int, (∀ q ∈ L, ((q.1 : Nat) : Int) ≠ k) → rv_ σ D k = rv_ σ0 D k) ∧ (∀ k, iv_ σ D k = V k) ∧ D < sz_ σ0
section
variable {G : JG} {D : Nat} {σ0 σ : JH} {L : List (Nat × JS)} {u : Nat} {V : Int → Int}
theorem BO_.mk0 (h : D < sz_ σ0) : BO_ G D σ0 σ0 [] 0 (fun k => iv_ σ0 D k) := ⟨Gw_.rf, ⟨rfl, rfl⟩, fun i k s q => (by simp at q), fun _ _ => rfl, fun _ => rfl, h⟩
theorem BO_.sz (h : BO_ G D σ0 σ L u V) : sz_ σ = sz_ σ0 + L.length ∧ us_ σ = us_ σ0 + u := h.2.1
theorem BO_.lt (h : BO_ G D σ0 σ L u V) : D < sz_ σ := by have := h.2.1.1; have := h.2.2.2.2.2; omega
theorem BO_.sh (h : BO_ G D σ0 σ L u V) : sh_ σ D = sh_ σ0 D := h.1.1 D h.2.2.2.2.2
theorem BO_.sn {ci n : Nat} {s : JS} (h : BO_ G D σ0 σ L u V) (hs : sh_ σ0 D = some (.inl ci)) : sh_ (nw_ σ s n) D = some (.inl ci) := by
  rw [sh_nw, if_neg (by have := h.lt; omega), h.sh]; exact hs
theorem BO_.at (h : BO_ G D σ0 σ L u V) (i : Nat) {k : Nat} {s : JS} (q : L[i]? = some (k, s)) : rv_ σ D (k : Int) = some (sz_ σ0 + i) ∧ sh_ σ (sz_ σ0 + i) = some s ∧ (∀ t n, s = .inr (t, n) → ∀ j, iv_ σ (sz_ σ0 + i) j = 0) ∧ (s = .inl 2 → rv_ σ (sz_ σ0 + i) 1 = some (gK_ G 100) ∧ iv_ σ (sz_ σ0 + i) 2 = 0) := h.2.2.1 i k s q
theorem BO_.gen {σ1 : JH} {k n : Nat} {s : JS} (h : BO_ G D σ0 σ L u V) (hk : ∀ q ∈ L, q.1 ≠ k) (e1 : ∀ b, sh_ σ1 b = if b = sz_ σ then some s else sh_ σ b) (e2 : ∀ b j, b < sz_ σ → iv_ σ1 b j = iv_ σ b j ∧ rv_ σ1 b j = if b = D ∧ j = (k : Int) then some (sz_ σ) else rv_ σ b j)
    (e3 : (∀ t m, s = .inr (t, m) → ∀ j, iv_ σ1 (sz_ σ) j = 0) ∧ (s = .inl 2 → rv_ σ1 (sz_ σ) 1 = some (gK_ G 100) ∧ iv_ σ1 (sz_ σ) 2 = 0)) (e4 : sz_ σ1 = sz_ σ + 1 ∧ us_ σ1 = us_ σ + n) : BO_ G D σ0 σ1 (L ++ [(k, s)]) (u + n) V := by
  obtain ⟨⟨g1, g2, g3, g4⟩, ⟨z1, z2⟩, a, r, v, lt⟩ := h
  have hl : (L ++ [(k, s)]).length = L.length + 1 := by simp
  refine ⟨⟨fun b hb => ?_, fun b j hb hn => ?_, by omega, by omega⟩, by rw [hl]; omega, fun i k' s' q => ?_, fun j hj => ?_, fun j => ?_, lt⟩
  · rw [e1, if_neg (by omega)]; exact g1 b hb
  · have e := e2 b j (by omega)
    rw [e.1, e.2, if_neg (fun w => hn w.1)]
    exact g2 b j hb hn
  · by_cases hi : i < L.length
    · rw [List.getElem?_append_left hi] at q
      have w := a i k' s' q
      have hne : k' ≠ k := hk _ (List.mem_of_getElem? q)
      have eD := e2 D (k' : Int) (by omega)
      have eA := fun j => e2 (sz_ σ0 + i) j (by omega)
      have hnD : ¬ (sz_ σ0 + i = D) := by omega
      rw [if_neg (by omega)] at eD
      refine ⟨eD.2.trans w.1, by rw [e1, if_neg (by omega)]; exact w.2.1, fun t n hs j => (eA j).1.trans (w.2.2.1 t n hs j), fun hs => ⟨?_, (eA 2).1.trans (w.2.2.2 hs).2⟩⟩
      have := (eA 1).2
      rw [if_neg (fun x => hnD x.1)] at this
      exact this.trans (w.2.2.2 hs).1
    · have hi2 : i = L.length := by
        have := (List.getElem?_eq_some_iff.mp q).1
        rw [hl] at this
        omega
      subst hi2
      rw [List.getElem?_append_right (Nat.le_refl _), Nat.sub_self] at q
      have q : some (k, s) = some (k', s') := q
      cases q
      have eD := e2 D (k : Int) (by omega)
      rw [if_pos ⟨rfl, rfl⟩, z1] at eD
      rw [z1] at e3
      refine ⟨eD.2, by rw [e1, if_pos z1.symm], e3.1, e3.2⟩
  · have eD := e2 D j (by omega)
    have hjk : j ≠ (k : Int) := fun w => hj (k, s) (by simp) w.symm
    rw [if_neg (fun w => hjk w.2)] at eD
    exact eD.2.trans (r j (fun q hq => hj q (List.mem_append_left _ hq)))
  · exact (e2 D j (by omega)).1.trans (v j)
theorem BO_.arr {k t n : Nat} (h : BO_ G D σ0 σ L u V) (hk : ∀ q ∈ L, q.1 ≠ k) : BO_ G D σ0 (pr_ (nw_ σ (.inr (t, n)) n) D (k : Int) (some (sz_ σ))) (L ++ [(k, .inr (t, n))]) (u + n) V := by
  have hl := h.lt
  refine h.gen hk (fun b => rfl) (fun b j hb => ⟨by rw [iv_pr, iv_nw, if_neg (by omega)], by rw [rv_pr, rv_nw, if_neg (show ¬ b = sz_ σ by omega)]⟩) ⟨fun t m _ j => by rw [iv_pr, iv_nw, if_pos rfl], fun q => by cases q⟩ ⟨rfl, rfl⟩
theorem BO_.lst {k : Nat} (h : BO_ G D σ0 σ L u V) (hk : ∀ q ∈ L, q.1 ≠ k) : BO_ G D σ0 (pr_ (pr_ (pi_ (nw_ σ (.inl 2) 3) (sz_ σ) 0 0) (sz_ σ) 1 (some (gK_ G 100))) D (k : Int) (some (sz_ σ))) (L ++ [(k, .inl 2)]) (u + 3) V := by
  have hl := h.lt
  refine h.gen hk (fun b => rfl) (fun b j hb => ⟨by rw [iv_pr, iv_pr, iv_pi, if_neg (by omega), iv_nw, if_neg (by omega)], by rw [rv_pr, rv_pr, if_neg (show ¬ (b = sz_ σ ∧ j = 1) by omega), rv_pi, rv_nw, if_neg (show ¬ b = sz_ σ by omega)]⟩) ⟨fun t m q => (by cases q), fun _ => ⟨by rw [rv_pr, if_neg (by omega), rv_pr, if_pos ⟨rfl, rfl⟩], by rw [iv_pr, iv_pr, iv_pi, if_neg (by omega), iv_nw, if_pos rfl]⟩⟩ ⟨rfl, rfl⟩
theorem BO_.pi {k x : Int} (h : BO_ G D σ0 σ L u V) : BO_ G D σ0 (pi_ σ D k x) L u (fun j => if j = k then x else V j) := by
  obtain ⟨g, z, a, r, v, lt⟩ := h
  refine ⟨g.pi (fun _ => rfl), z, fun i k' s q => ?_, r, fun j => ?_, lt⟩
  · obtain ⟨w1, w2, w3, w4⟩ := a i k' s q
    have hne : ∀ j, ¬ (sz_ σ0 + i = D ∧ j = k) := fun j x => by omega
    exact ⟨w1, w2, fun t n hs j => by rw [iv_pi, if_neg (hne j)]; exact w3 t n hs j, fun hs => ⟨(w4 hs).1, by rw [iv_pi, if_neg (hne 2)]; exact (w4 hs).2⟩⟩
  · show (if D = D ∧ j = k then x else iv_ σ D j) = (if j = k then x else V j)
    by_cases q : j = k
    · rw [if_pos ⟨rfl, q⟩, if_pos q]
    · rw [if_neg (fun w => q w.2), if_neg q]; exact v j
end
section
variable {G : JG} {R : Room} {y : MethodName} {cc : ByteArray} {nL : Nat} {ret : Option FieldType} {σs σ0 σ : JH} {Z : List Frame → Array Value → State → State → Prop} {pc D : Nat} {ev : List (Option AV)} {st : List AV} {L : List (Nat × JS)} {u : Nat} {V : Int → Int}
theorem g_bdA {κ : Int} {t n : Nat} (k : Nat) (hκ : (k : Int) = κ) (h : BO_ G D σ0 σ L u V) (hk : ∀ q ∈ L, q.1 ≠ k) (kk : ∀ σ', BO_ G D σ0 σ' (L ++ [(k, .inr (t, n))]) (u + n) V → Go_ G R y cc nL ret σs Z pc ev st σ') : Go_ G R y cc nL ret σs Z pc ev st (pr_ (nw_ σ (.inr (t, n)) n) D κ (some (sz_ σ))) := by
  subst hκ; exact kk _ (h.arr hk)
theorem g_bdL {κ : Int} (k : Nat) (hκ : (k : Int) = κ) (h : BO_ G D σ0 σ L u V) (hk : ∀ q ∈ L, q.1 ≠ k) (kk : ∀ σ', BO_ G D σ0 σ' (L ++ [(k, .inl 2)]) (u + 3) V → Go_ G R y cc nL ret σs Z pc ev st σ') : Go_ G R y cc nL ret σs Z pc ev st (pr_ (pr_ (pi_ (nw_ σ (.inl 2) 3) (sz_ σ) 0 0) (sz_ σ) 1 (some (gK_ G 100))) D κ (some (sz_ σ))) := by
  subst hκ; exact kk _ (h.lst hk)
end
/-- a desk's shapes -/
def DA_ (σ : JH) (D : Nat) : Prop := sh_ σ D = some (.inl 17) ∧ (rv_ σ D 0 = some (D + 1) ∧ sh_ σ (D + 1) = some (.inr (0, 5))) ∧ (rv_ σ D 1 = some (D + 2) ∧ sh_ σ (D + 2) = some (.inr (0, 5))) ∧ (rv_ σ D 2 = some (D + 3) ∧ sh_ σ (D + 3) = some (.inr (0, 8))) ∧ (rv_ σ D 3 = some (D + 4) ∧ sh_ σ (D + 4) = some (.inr (0, 8))) ∧ (rv_ σ D 4 = some (D + 5) ∧ sh_ σ (D + 5) = some (.inr (0, 48)))
section
variable {G : JG} {σ σ' : JH} {lo lo' D : Nat} {r s : Int → Int} {T : XT}
theorem DQ_.da (h : DQ_ G σ lo D r s) : DA_ σ D := ⟨h.sh, ⟨h.f0, h.a0⟩, ⟨h.f1, h.a1⟩, ⟨h.f2, h.a2⟩, ⟨h.f3, h.a3⟩, ⟨h.f4, h.a4⟩⟩
theorem DQ_.low (h : DQ_ G σ lo D r s) (hl : lo' ≤ D) : DQ_ G σ lo' D r s := ⟨⟨h.1.1, hl, h.1.2.2⟩, h.2⟩
theorem DQ_.mk (a : DA_ σ D) (hl : lo ≤ D) (h5 : iv_ σ D 5 = s 0) (h6 : iv_ σ D 6 = s 1) (hw : ∀ w, 0 ≤ w → w < 5 → iv_ σ (D + 1) w = s (2 + w) ∧ iv_ σ (D + 2) w = s (7 + w)) (hb : ∀ b, 0 ≤ b → b < 8 → iv_ σ (D + 3) b = un_ (s (12 + b)) ∧ iv_ σ (D + 4) b = un_ (s (20 + b))) (hg : ∀ b k, 0 ≤ b → b < r 7 → 0 ≤ k → k < bl_ r b → iv_ σ (D + 5) (6 * b + k) = s (28 + 6 * b + k)) : DQ_ G σ lo D r s :=
  ⟨⟨a.1, hl, h5, h6⟩, a.2.1, a.2.2.1, a.2.2.2.1, a.2.2.2.2.1, a.2.2.2.2.2, hw, hb, hg⟩
theorem DA_.to (h : DA_ σ D) (e1 : ∀ b, D ≤ b → b ≤ D + 5 → sh_ σ' b = sh_ σ b) (e2 : ∀ k, rv_ σ' D k = rv_ σ D k) : DA_ σ' D := by
  unfold DA_ at *
  rw [e1 D (by omega) (by omega), e1 (D + 1) (by omega) (by omega), e1 (D + 2) (by omega) (by omega), e1 (D + 3) (by omega) (by omega), e1 (D + 4) (by omega) (by omega), e1 (D + 5) (by omega) (by omega), e2, e2, e2, e2, e2]
  exact h
/-- a desk that isn't touched -/
theorem DQ_.pres (h : DQ_ G σ lo D r s) (e : ∀ b, D ≤ b → b ≤ D + 5 → sh_ σ' b = sh_ σ b ∧ ∀ k, rv_ σ' b k = rv_ σ b k ∧ iv_ σ' b k = iv_ σ b k) : DQ_ G σ' lo D r s := by
  have e0 := (e D (by omega) (by omega)).2
  have e1 := (e (D + 1) (by omega) (by omega)).2
  have e2 := (e (D + 2) (by omega) (by omega)).2
  have e3 := (e (D + 3) (by omega) (by omega)).2
  have e4 := (e (D + 4) (by omega) (by omega)).2
  have e5 := (e (D + 5) (by omega) (by omega)).2
  exact DQ_.mk (h.da.to (fun b h0 h1 => (e b h0 h1).1) (fun k => (e0 k).1)) h.1.2.1 ((e0 5).2.trans h.y) ((e0 6).2.trans h.c) (fun w w0 w1 => ⟨(e1 w).2.trans (h.wh w0 w1).1, (e2 w).2.trans (h.wh w0 w1).2⟩) (fun b b0 b1 => ⟨(e3 b).2.trans (h.bx b0 b1).1, (e4 b).2.trans (h.bx b0 b1).2⟩) (fun b k b0 b1 k0 k1 => (e5 _).2.trans (h.sg b0 b1 k0 k1))
theorem DA_.lt (h : DA_ σ D) (hlt : ∀ a s, sh_ σ a = some s → a < sz_ σ) : D + 5 < sz_ σ := hlt _ _ h.2.2.2.2.2.2
theorem DQ_.gwn {S : Nat → Int → Prop} {dc du : Nat} (h : DQ_ G σ lo D r s) (f : Gw_ S dc du σ σ') (hlt : ∀ a s, sh_ σ a = some s → a < sz_ σ) (hS : ∀ b k, D ≤ b → b ≤ D + 5 → ¬ S b k) : DQ_ G σ' lo D r s := by
  have hl := h.da.lt hlt
  exact h.pres fun b h0 h1 => ⟨f.1 b (by omega), fun k => f.2.1 b k (by omega) (hS b k h0 h1)⟩
/-- two desks are one, or lie apart -/
theorem DA_.apart {D' : Nat} (h : DA_ σ D) (h' : DA_ σ D') (hn : D ≠ D') : D + 5 < D' ∨ D' + 5 < D := by
  obtain ⟨a0, ⟨-, a1⟩, ⟨-, a2⟩, ⟨-, a3⟩, ⟨-, a4⟩, -, a5⟩ := h
  obtain ⟨b0, ⟨-, b1⟩, ⟨-, b2⟩, ⟨-, b3⟩, ⟨-, b4⟩, -, b5⟩ := h'
  have n1 : ∀ b n, sh_ σ b = some (.inl 17) → sh_ σ b = some (.inr (0, n)) → False := fun b n p q => by rw [p] at q; cases q
  have c : ∀ i : Nat, 0 < i → i ≤ 5 → D' ≠ D + i := fun i i0 i1 q => by
    rcases (show i = 1 ∨ i = 2 ∨ i = 3 ∨ i = 4 ∨ i = 5 by omega) with w | w | w | w | w <;> subst w <;> subst q
    · exact n1 _ _ b0 a1
    · exact n1 _ _ b0 a2
    · exact n1 _ _ b0 a3
    · exact n1 _ _ b0 a4
    · exact n1 _ _ b0 a5
  have d : ∀ i : Nat, 0 < i → i ≤ 5 → D ≠ D' + i := fun i i0 i1 q => by
    rcases (show i = 1 ∨ i = 2 ∨ i = 3 ∨ i = 4 ∨ i = 5 by omega) with w | w | w | w | w <;> subst w <;> subst q
    · exact n1 _ _ a0 b1
    · exact n1 _ _ a0 b2
    · exact n1 _ _ a0 b3
    · exact n1 _ _ a0 b4
    · exact n1 _ _ a0 b5
  rcases Nat.lt_or_gt_of_ne hn with q | q
  · left
    have w := c (D' - D) (by omega)
    omega
  · right
    have w := d (D - D') (by omega)
    omega
/-- a post's addresses -/
def PA_ (T : XT) (r : Int → Int) (b : Nat) : Prop := b = xP_ T ∨ (∃ j : Nat, j < 5 ∧ (b = xA_ T j ∨ b = xE_ T j)) ∨ (∃ i : Int, (0 ≤ i ∧ i < r 4) ∧ (b = xg_ T 0 i ∨ b = xS_ T i)) ∨ (∃ k : Int, (0 ≤ k ∧ k < r 5) ∧ b = xg_ T 1 k) ∨ (∃ w : Int, (0 ≤ w ∧ w < r 6) ∧ b = xg_ T 2 w) ∨ (∃ c : Int, (0 ≤ c ∧ c < r 7) ∧ b = xg_ T 3 c) ∨ (∃ k : Int, (0 ≤ k ∧ k < r 8) ∧ b = xg_ T 4 k)
theorem Ls_.pres {a e cap : Nat} {n : Int} {g : Int → Nat} (h : Ls_ G σ a e cap n g) (ea : sh_ σ' a = sh_ σ a ∧ ∀ k, rv_ σ' a k = rv_ σ a k ∧ iv_ σ' a k = iv_ σ a k) (ee : sh_ σ' e = sh_ σ e ∧ ∀ k, rv_ σ' e k = rv_ σ e k ∧ iv_ σ' e k = iv_ σ e k) : Ls_ G σ' a e cap n g := by
  obtain ⟨h1, h2, h3, h4, h5, h6, h7, h8⟩ := h
  exact ⟨ea.1.trans h1, h2, (ea.2 1).1.trans h3, ee.1.trans h4, (ea.2 2).2.trans h5, h6, h7, fun i i0 i1 => (ee.2 i).1.trans (h8 i i0 i1)⟩
theorem PQ_.ls (h : PQ_ G σ lo T r) {j : Nat} (hj : j < 5) : ∃ n, Ls_ G σ (xA_ T j) (xE_ T j) (xC_ T j) n (xg_ T j) ∧ lo ≤ xA_ T j ∧ (lo ≤ xE_ T j ∨ xE_ T j = gK_ G 100) := by
  match j, hj with
  | 0, _ => exact ⟨_, h.2.1.2⟩
  | 1, _ => exact ⟨_, h.2.2.1.2⟩
  | 2, _ => exact ⟨_, h.2.2.2.1.2⟩
  | 3, _ => exact ⟨_, h.2.2.2.2.1.2⟩
  | 4, _ => exact ⟨_, h.2.2.2.2.2.1.2⟩
/-- a post that isn't touched -/
theorem PQ_.pres (h : PQ_ G σ lo T r) (e : ∀ b, PA_ T r b → sh_ σ' b = sh_ σ b ∧ ∀ k, rv_ σ' b k = rv_ σ b k ∧ iv_ σ' b k = iv_ σ b k) : PQ_ G σ' lo T r := by
  have eP := e _ (Or.inl rfl)
  have eA : ∀ j, j < 5 → _ := fun j hj => e (xA_ T j) (Or.inr (Or.inl ⟨j, hj, Or.inl rfl⟩))
  have eE : ∀ j, j < 5 → _ := fun j hj => e (xE_ T j) (Or.inr (Or.inl ⟨j, hj, Or.inr rfl⟩))
  obtain ⟨⟨q1, q2, q3, q4, q5, q6⟩, ⟨u0, v0, w0⟩, ⟨u1, v1, w1⟩, ⟨u2, v2, w2⟩, ⟨u3, v3, w3⟩, ⟨u4, v4, w4⟩, qi, qw, qh, qb, qs⟩ := h
  refine ⟨⟨eP.1.trans q1, q2, (eP.2 0).2.trans q3, (eP.2 1).2.trans q4, (eP.2 2).2.trans q5, (eP.2 3).2.trans q6⟩, ⟨(eP.2 4).1.trans u0, v0.pres (eA 0 (by decide)) (eE 0 (by decide)), w0⟩, ⟨(eP.2 5).1.trans u1, v1.pres (eA 1 (by decide)) (eE 1 (by decide)), w1⟩, ⟨(eP.2 6).1.trans u2, v2.pres (eA 2 (by decide)) (eE 2 (by decide)), w2⟩, ⟨(eP.2 7).1.trans u3, v3.pres (eA 3 (by decide)) (eE 3 (by decide)), w3⟩, ⟨(eP.2 8).1.trans u4, v4.pres (eA 4 (by decide)) (eE 4 (by decide)), w4⟩, fun i i0 i1 => ?_, fun k k0 k1 => ?_, fun w z0 z1 => ?_, fun b b0 b1 => ?_, fun k k0 k1 => ?_⟩
  · have x1 := e _ (Or.inr (Or.inr (Or.inl ⟨i, ⟨i0, i1⟩, Or.inl rfl⟩)))
    have x2 := e _ (Or.inr (Or.inr (Or.inl ⟨i, ⟨i0, i1⟩, Or.inr rfl⟩)))
    obtain ⟨a1, a2, a3, a4, a5, a6⟩ := qi i i0 i1
    exact ⟨x1.1.trans a1, a2, (x1.2 1).1.trans a3, x2.1.trans a4, a5, fun k k0 k1 => (x2.2 k).2.trans (a6 k k0 k1)⟩
  · have x1 := e _ (Or.inr (Or.inr (Or.inr (Or.inl ⟨k, ⟨k0, k1⟩, rfl⟩))))
    obtain ⟨a1, a2, a3, a4, a5, a6⟩ := qw k k0 k1
    exact ⟨x1.1.trans a1, a2, (x1.2 0).2.trans a3, (x1.2 1).2.trans a4, (x1.2 2).2.trans a5, (x1.2 3).2.trans a6⟩
  · have x1 := e _ (Or.inr (Or.inr (Or.inr (Or.inr (Or.inl ⟨w, ⟨z0, z1⟩, rfl⟩)))))
    obtain ⟨⟨κ, c1, c2, a1⟩, a2, a3, a4, a5⟩ := qh w z0 z1
    exact ⟨⟨κ, c1, c2, x1.1.trans a1⟩, a2, (x1.2 1).2.trans a3, (x1.2 2).2.trans a4, (x1.2 3).2.trans a5⟩
  · have x1 := e _ (Or.inr (Or.inr (Or.inr (Or.inr (Or.inr (Or.inl ⟨b, ⟨b0, b1⟩, rfl⟩))))))
    obtain ⟨a1, a2, a3, a4, a5, a6⟩ := qb b b0 b1
    exact ⟨x1.1.trans a1, a2, (x1.2 1).2.trans a3, (x1.2 2).2.trans a4, (x1.2 3).2.trans a5, (x1.2 4).2.trans a6⟩
  · have x1 := e _ (Or.inr (Or.inr (Or.inr (Or.inr (Or.inr (Or.inr ⟨k, ⟨k0, k1⟩, rfl⟩))))))
    obtain ⟨a1, a2, a3, a4, a5⟩ := qs k k0 k1
    exact ⟨x1.1.trans a1, a2, (x1.2 0).2.trans a3, (x1.2 1).2.trans a4, (x1.2 2).2.trans a5⟩
/-- what a post's cell is -/
theorem PQ_.shp (h : PQ_ G σ lo T r) {b : Nat} (hb : PA_ T r b) : ((∃ ci, sh_ σ b = some (.inl ci) ∧ (ci = 2 ∨ ci = 5 ∨ (9 ≤ ci ∧ ci ≤ 16))) ∨ (∃ cap, sh_ σ b = some (.inr (3, cap)) ∧ ∃ j, j < 5 ∧ b = xE_ T j) ∨ (∃ i n, (0 ≤ i ∧ i < r 4) ∧ b = xS_ T i ∧ sh_ σ b = some (.inr (0, n)))) ∧ (lo ≤ b ∨ b = gK_ G 100) := by
  rcases hb with q | ⟨j, hj, q⟩ | ⟨i, ⟨i0, i1⟩, q⟩ | ⟨i, ⟨i0, i1⟩, q⟩ | ⟨i, ⟨i0, i1⟩, q⟩ | ⟨i, ⟨i0, i1⟩, q⟩ | ⟨i, ⟨i0, i1⟩, q⟩
  · subst q; exact ⟨Or.inl ⟨5, h.sh, by omega⟩, Or.inl h.1.2.1⟩
  · obtain ⟨n, hL, l1, l2⟩ := h.ls hj
    rcases q with q | q
    · subst q; exact ⟨Or.inl ⟨2, hL.1, by omega⟩, Or.inl l1⟩
    · subst q; exact ⟨Or.inr (Or.inl ⟨_, hL.2.2.2.1, j, hj, rfl⟩), l2⟩
  · have w := h.isl i0 i1
    rcases q with q | q
    · subst q; exact ⟨Or.inl ⟨9, w.1, by omega⟩, Or.inl w.2.1⟩
    · subst q; exact ⟨Or.inr (Or.inr ⟨i, _, ⟨i0, i1⟩, rfl, w.2.2.2.1⟩), Or.inl w.2.2.2.2.1⟩
  · have w := h.way i0 i1
    subst q; exact ⟨Or.inl ⟨10, w.1, by omega⟩, Or.inl w.2.1⟩
  · obtain ⟨⟨κ, c1, c2, a1⟩, a2, -⟩ := h.whl i0 i1
    subst q; exact ⟨Or.inl ⟨11 + κ, a1, by omega⟩, Or.inl a2⟩
  · have w := h.box i0 i1
    subst q; exact ⟨Or.inl ⟨15, w.1, by omega⟩, Or.inl w.2.1⟩
  · have w := h.spt i0 i1
    subst q; exact ⟨Or.inl ⟨16, w.1, by omega⟩, Or.inl w.2.1⟩
/-- a desk lies apart from a post -/
theorem PQ_.dsk (h : PQ_ G σ lo T r) (hS : ∀ i, 0 ≤ i → i < r 4 → xS_ T i < D) (hD : DA_ σ D) {b : Nat} (h0 : D ≤ b) (h1 : b ≤ D + 5) : ¬ PA_ T r b := fun q => by
  obtain ⟨a0, ⟨-, a1⟩, ⟨-, a2⟩, ⟨-, a3⟩, ⟨-, a4⟩, -, a5⟩ := hD
  have w : sh_ σ b = some (.inl 17) ∨ ∃ n, sh_ σ b = some (.inr (0, n)) := by
    rcases (show b = D ∨ b = D + 1 ∨ b = D + 2 ∨ b = D + 3 ∨ b = D + 4 ∨ b = D + 5 by omega) with c | c | c | c | c | c <;> subst c
    · exact Or.inl a0
    · exact Or.inr ⟨_, a1⟩
    · exact Or.inr ⟨_, a2⟩
    · exact Or.inr ⟨_, a3⟩
    · exact Or.inr ⟨_, a4⟩
    · exact Or.inr ⟨_, a5⟩
  rcases (h.shp q).1 with ⟨ci, c1, c2⟩ | ⟨cap, c1, -⟩ | ⟨i, n, ⟨i0, i1⟩, c1, -⟩
  · rcases w with w | ⟨n, w⟩
    · rw [c1] at w; cases w; omega
    · rw [c1] at w; cases w
  · rcases w with w | ⟨n, w⟩ <;> (rw [c1] at w; cases w)
  · have := hS i i0 i1; omega
theorem xd_init  {Q : JH → Prop} (hlt : ∀ a s, sh_ σ a = some s → a < sz_ σ) (hs : sh_ σ D = some (.inl 17)) (ha : (gH_ G).size ≤ D) (hr : sz_ σ + 5 ≤ lc_ G ∧ us_ σ + 74 ≤ ls_ G)
    (hQ : ∀ σ', BO_ G D σ σ' [(0, .inr (0, 5)), (1, .inr (0, 5)), (2, .inr (0, 8)), (3, .inr (0, 8)), (4, .inr (0, 48))] 74 (fun k => iv_ σ D k) → Q σ') : CallV_ G 2 yX15_init cX15_init 1 none [A_ (some D)] σ Q := by
  refine call_go [some (A_ (some D))] (by decide) (Nat.le_of_ble_eq_true rfl) rfl ?_
  have hB := BO_.mk0 (G := G) (D := D) (σ0 := σ) (by have := hlt _ _ hs; omega)
  refine g_al0 dX15_init_0 ?_
  refine g_objInit q1078 q_oi1 q_oi2 (rm_1 (by decide)) (Nat.le_of_ble_eq_true rfl) dX15_init_1 ?_
  refine g_al0 dX15_init_4 ?_
  refine g_iconst dX15_init_5 ?_
  refine g_newa (t := 0) (n := 5) (atype := .int) rfl (by decide) q260 rfl (by decide) (by have := hB.sz; simp at this; omega) dX15_init_6 ?_
  refine f_putAF 0 fk_X15_9 rfl (fin_ rfl ⟨rfl, rfl⟩) rfl (hB.sn hs) ha (Or.inr ⟨_, rfl⟩) dX15_init_8 ?_
  refine g_bdA 0 rfl hB (by decide) (fun σ1 hB => ?_)
  replace hB : BO_ G D σ σ1 [(0, .inr (0, 5))] 5 (fun k => iv_ σ D k) := hB
  refine g_al0 dX15_init_11 ?_
  refine g_iconst dX15_init_12 ?_
  refine g_newa (t := 0) (n := 5) (atype := .int) rfl (by decide) q260 rfl (by decide) (by have := hB.sz; simp at this; omega) dX15_init_13 ?_
  refine f_putAF 1 fk_X15_15 rfl (fin_ rfl ⟨rfl, rfl⟩) rfl (hB.sn hs) ha (Or.inr ⟨_, rfl⟩) dX15_init_15 ?_
  refine g_bdA 1 rfl hB (by decide) (fun σ1 hB => ?_)
  replace hB : BO_ G D σ σ1 [(0, .inr (0, 5)), (1, .inr (0, 5))] 10 (fun k => iv_ σ D k) := hB
  refine g_al0 dX15_init_18 ?_
  refine g_bipush dX15_init_19 (by decide) (by decide) ?_
  refine g_newa (t := 0) (n := 8) (atype := .int) rfl (by decide) q260 rfl (by decide) (by have := hB.sz; simp at this; omega) dX15_init_21 ?_
  refine f_putAF 2 fk_X15_18 rfl (fin_ rfl ⟨rfl, rfl⟩) rfl (hB.sn hs) ha (Or.inr ⟨_, rfl⟩) dX15_init_23 ?_
  refine g_bdA 2 rfl hB (by decide) (fun σ1 hB => ?_)
  replace hB : BO_ G D σ σ1 [(0, .inr (0, 5)), (1, .inr (0, 5)), (2, .inr (0, 8))] 18 (fun k => iv_ σ D k) := hB
  refine g_al0 dX15_init_26 ?_
  refine g_bipush dX15_init_27 (by decide) (by decide) ?_
  refine g_newa (t := 0) (n := 8) (atype := .int) rfl (by decide) q260 rfl (by decide) (by have := hB.sz; simp at this; omega) dX15_init_29 ?_
  refine f_putAF 3 fk_X15_21 rfl (fin_ rfl ⟨rfl, rfl⟩) rfl (hB.sn hs) ha (Or.inr ⟨_, rfl⟩) dX15_init_31 ?_
  refine g_bdA 3 rfl hB (by decide) (fun σ1 hB => ?_)
  replace hB : BO_ G D σ σ1 [(0, .inr (0, 5)), (1, .inr (0, 5)), (2, .inr (0, 8)), (3, .inr (0, 8))] 26 (fun k => iv_ σ D k) := hB
  refine g_al0 dX15_init_34 ?_
  refine g_bipush dX15_init_35 (by decide) (by decide) ?_
  refine g_newa (t := 0) (n := 48) (atype := .int) rfl (by decide) q260 rfl (by decide) (by have := hB.sz; simp at this; omega) dX15_init_37 ?_
  refine f_putAF 4 fk_X15_24 rfl (fin_ rfl ⟨rfl, rfl⟩) rfl (hB.sn hs) ha (Or.inr ⟨_, rfl⟩) dX15_init_39 ?_
  refine g_bdA 4 rfl hB (by decide) (fun σ1 hB => ?_)
  replace hB : BO_ G D σ σ1 [(0, .inr (0, 5)), (1, .inr (0, 5)), (2, .inr (0, 8)), (3, .inr (0, 8)), (4, .inr (0, 48))] 74 (fun k => iv_ σ D k) := hB
  exact g_vret rfl dX15_init_42 ⟨rfl, hQ _ hB⟩
/-- a new desk: its cell at the first address that was free -/
theorem xd_new {σ1 : JH} (h : BO_ G (sz_ σ) (nw_ σ (.inl 17) 7) σ1 [(0, .inr (0, 5)), (1, .inr (0, 5)), (2, .inr (0, 8)), (3, .inr (0, 8)), (4, .inr (0, 48))] 74 (fun k => iv_ (nw_ σ (.inl 17) 7) (sz_ σ) k)) : DA_ σ1 (sz_ σ) ∧ Gw_ (fun _ _ => False) 6 81 σ σ1 ∧ (∀ b, sz_ σ ≤ b → b ≤ sz_ σ + 5 → ∀ k, iv_ σ1 b k = 0) ∧ (sz_ σ1 = sz_ σ + 6 ∧ us_ σ1 = us_ σ + 81) := by
  have a0 := h.at 0 rfl
  have a1 := h.at 1 rfl
  have a2 := h.at 2 rfl
  have a3 := h.at 3 rfl
  have a4 := h.at 4 rfl
  have e : sz_ (nw_ σ (.inl 17) 7) = sz_ σ + 1 := rfl
  have e2 : us_ (nw_ σ (.inl 17) 7) = us_ σ + 7 := rfl
  have hz := h.sz
  have hg := h.1
  have hv := h.2.2.2.2.1
  have hs := h.sh
  simp only [List.length_cons, List.length_nil] at hz hg
  rw [e] at a0 a1 a2 a3 a4
  rw [e, e2] at hz
  refine ⟨⟨by rw [hs, sh_nw, if_pos rfl], ⟨a0.1, a0.2.1⟩, ⟨a1.1, a1.2.1⟩, ⟨a2.1, a2.2.1⟩, ⟨a3.1, a3.2.1⟩, ⟨a4.1, a4.2.1⟩⟩, ⟨fun b hb => ?_, fun b k hb _ => ?_, by omega, by omega⟩, fun b b0 b1 k => ?_, by omega, by omega⟩
  · rw [hg.1 b (by rw [e]; omega), sh_nw, if_neg (by omega)]
  · have := hg.2.1 b k (by rw [e]; omega) (by omega)
    rw [this.1, this.2, rv_nw, iv_nw, if_neg (by omega), if_neg (by omega)]
    exact ⟨rfl, rfl⟩
  · rcases (show b = sz_ σ ∨ b = sz_ σ + 1 + 0 ∨ b = sz_ σ + 1 + 1 ∨ b = sz_ σ + 1 + 2 ∨ b = sz_ σ + 1 + 3 ∨ b = sz_ σ + 1 + 4 by omega) with c | c | c | c | c | c <;> subst c
    · refine (hv k).trans ?_
      show iv_ (nw_ σ (.inl 17) 7) (sz_ σ) k = 0
      rw [iv_nw, if_pos rfl]
    · exact a0.2.2.1 _ _ rfl k
    · exact a1.2.2.1 _ _ rfl k
    · exact a2.2.2.1 _ _ rfl k
    · exact a3.2.2.1 _ _ rfl k
    · exact a4.2.2.1 _ _ rfl k
theorem xd_copy  {Q : Option Nat → JH → Prop} (hlt : ∀ a s, sh_ σ a = some s → a < sz_ σ) (hgz : (gH_ G).size ≤ sz_ σ) (hK : DQ_ G σ lo D r s) (hW : RW_ r) (hlo : lo' ≤ sz_ σ) (hr : sz_ σ + 6 ≤ lc_ G ∧ us_ σ + 81 ≤ ls_ G)
    (hQ : ∀ σ', DQ_ G σ' lo' (sz_ σ) r s → Gw_ (fun _ _ => False) 6 81 σ σ' → Q (some (sz_ σ)) σ') : CallA_ G 3 yX15_copy cX15_copy 2 (some (.object "WhalePost$Desk")) [A_ (some D)] σ Q := by
  refine call_go [some (A_ (some D)), none] (by decide) (Nat.le_of_ble_eq_true rfl) rfl ?_
  refine g_new (ci := 17) nq_X15_10 ⟨_, rfl⟩ (by omega) dX15_copy_0 ?_
  refine g_dup dX15_copy_3 rfl ?_
  refine g_lt (fun hlt1 hgz1 => ?_)
  refine g_callI0 (d' := 2) lk_X15_68 (rm_lt (by decide) (by decide)) (Nat.le_of_ble_eq_true rfl) dX15_copy_4 ?_
  refine xd_init hlt1 (by rw [sh_nw, if_pos rfl]) hgz (by rw [sz_nw, us_nw]; omega) (fun σ1 hB => ?_)
  obtain ⟨hN, hG1, h0, hz1⟩ := xd_new hB
  have hDl := hK.da.lt hlt
  have hK1 := (hK.gwn hG1 hlt (fun _ _ _ _ q => q)).da
  have ei : ∀ b k, D ≤ b → b ≤ D + 5 → iv_ σ1 b k = iv_ σ b k := fun b k h1 h2 => (hG1.2.1 b k (by omega) (fun q => q)).2
  have hga0 := hgz
  generalize hD' : sz_ σ = D' at *
  clear hB
  refine g_as1 dX15_copy_7 (by decide) rfl ?_
  refine g_al0 dX15_copy_8 ?_
  refine f_getA 0 fk_X15_9 rfl hK1.1 (fun _ _ => rfl) hK1.2.1.1 dX15_copy_9 ?_
  refine g_iconst dX15_copy_12 ?_
  refine g_al1 dX15_copy_13 ?_
  refine f_getA 0 fk_X15_9 rfl hN.1 (fun _ _ => rfl) hN.2.1.1 dX15_copy_14 ?_
  refine g_iconst dX15_copy_17 ?_
  refine g_iconst dX15_copy_18 ?_
  refine g_acp (t := 0) (by decide) q1556 hK1.2.1.2 hN.2.1.2 (by omega) (by omega) (by omega) (fun j j0 j1 => rfl) (rm_64 (by decide)) (Nat.le_of_ble_eq_true rfl) dX15_copy_19 ?_
  
  refine g_al0 dX15_copy_22 ?_
  refine f_getA 1 fk_X15_15 rfl hK1.1 (fun _ _ => rfl) hK1.2.2.1.1 dX15_copy_23 ?_
  refine g_iconst dX15_copy_26 ?_
  refine g_al1 dX15_copy_27 ?_
  refine f_getA 1 fk_X15_15 rfl hN.1 (fun _ _ => rfl) hN.2.2.1.1 dX15_copy_28 ?_
  refine g_iconst dX15_copy_31 ?_
  refine g_iconst dX15_copy_32 ?_
  refine g_acp (t := 0) (by decide) q1556 hK1.2.2.1.2 hN.2.2.1.2 (by omega) (by omega) (by omega) (fun j j0 j1 => rfl) (rm_64 (by decide)) (Nat.le_of_ble_eq_true rfl) dX15_copy_33 ?_
  
  refine g_al0 dX15_copy_36 ?_
  refine f_getA 2 fk_X15_18 rfl hK1.1 (fun _ _ => rfl) hK1.2.2.2.1.1 dX15_copy_37 ?_
  refine g_iconst dX15_copy_40 ?_
  refine g_al1 dX15_copy_41 ?_
  refine f_getA 2 fk_X15_18 rfl hN.1 (fun _ _ => rfl) hN.2.2.2.1.1 dX15_copy_42 ?_
  refine g_iconst dX15_copy_45 ?_
  refine g_bipush dX15_copy_46 (by decide) (by decide) ?_
  refine g_acp (t := 0) (by decide) q1556 hK1.2.2.2.1.2 hN.2.2.2.1.2 (by omega) (by omega) (by omega) (fun j j0 j1 => rfl) (rm_64 (by decide)) (Nat.le_of_ble_eq_true rfl) dX15_copy_48 ?_
  
  refine g_al0 dX15_copy_51 ?_
  refine f_getA 3 fk_X15_21 rfl hK1.1 (fun _ _ => rfl) hK1.2.2.2.2.1.1 dX15_copy_52 ?_
  refine g_iconst dX15_copy_55 ?_
  refine g_al1 dX15_copy_56 ?_
  refine f_getA 3 fk_X15_21 rfl hN.1 (fun _ _ => rfl) hN.2.2.2.2.1.1 dX15_copy_57 ?_
  refine g_iconst dX15_copy_60 ?_
  refine g_bipush dX15_copy_61 (by decide) (by decide) ?_
  refine g_acp (t := 0) (by decide) q1556 hK1.2.2.2.2.1.2 hN.2.2.2.2.1.2 (by omega) (by omega) (by omega) (fun j j0 j1 => rfl) (rm_64 (by decide)) (Nat.le_of_ble_eq_true rfl) dX15_copy_63 ?_
  
  refine g_al0 dX15_copy_66 ?_
  refine f_getA 4 fk_X15_24 rfl hK1.1 (fun _ _ => rfl) hK1.2.2.2.2.2.1 dX15_copy_67 ?_
  refine g_iconst dX15_copy_70 ?_
  refine g_al1 dX15_copy_71 ?_
  refine f_getA 4 fk_X15_24 rfl hN.1 (fun _ _ => rfl) hN.2.2.2.2.2.1 dX15_copy_72 ?_
  refine g_iconst dX15_copy_75 ?_
  refine g_bipush dX15_copy_76 (by decide) (by decide) ?_
  refine g_acp (t := 0) (by decide) q1556 hK1.2.2.2.2.2.2 hN.2.2.2.2.2.2 (by omega) (by omega) (by omega) (fun j j0 j1 => rfl) (rm_64 (by decide)) (Nat.le_of_ble_eq_true rfl) dX15_copy_78 ?_
  
  refine g_al1 dX15_copy_81 ?_
  refine g_al0 dX15_copy_82 ?_
  refine f_getv 5 fk_X15_75 rfl hK1.1 (fun _ _ => rfl) (show iv_ _ D 5 = iv_ σ D 5 by simp only [iv_pi, iv_pb]; rw [if_neg (by omega), if_neg (by omega), if_neg (by omega), if_neg (by omega), if_neg (by omega)]; exact ei _ _ (by omega) (by omega)) dX15_copy_83 ?_
  refine f_putI 5 fk_X15_75 rfl (nf_ rfl rfl) hN.1 hga0 rfl dX15_copy_86 ?_
  refine g_al1 dX15_copy_89 ?_
  refine g_al0 dX15_copy_90 ?_
  refine f_getv 6 fk_X15_78 rfl hK1.1 (fun _ _ => rfl) (show iv_ _ D 6 = iv_ σ D 6 by simp only [iv_pi, iv_pb]; rw [if_neg (by omega), if_neg (by omega), if_neg (by omega), if_neg (by omega), if_neg (by omega), if_neg (by omega)]; exact ei _ _ (by omega) (by omega)) dX15_copy_91 ?_
  refine f_putI 6 fk_X15_78 rfl (nf_ rfl rfl) hN.1 hga0 rfl dX15_copy_94 ?_
  refine g_al1 dX15_copy_97 ?_
  exact g_aret rfl (Or.inl ⟨_, rfl⟩) dX15_copy_98 ⟨_, rfl, by
      refine hQ _ (DQ_.mk (hN.to (fun _ _ _ => rfl) (fun _ => rfl)) hlo ?_ ?_ (fun w w0 w1 => ?_) (fun b b0 b1 => ?_) (fun b k b0 b1 k0 k1 => ?_)) ?_
      · rw [iv_pi, if_neg (by omega), iv_pi, if_pos ⟨rfl, rfl⟩]; exact hK.y
      · rw [iv_pi, if_pos ⟨rfl, rfl⟩]; exact hK.c
      · simp only [iv_pi, iv_pb]
        refine ⟨?_, ?_⟩
        · rw [if_neg (by omega), if_neg (by omega), if_neg (by omega), if_neg (by omega), if_neg (by omega), if_neg (by omega), if_pos ⟨trivial, by omega, by omega⟩, ei _ _ (by omega) (by omega), show (0 : Int) + (w - 0) = w by omega]; exact (hK.wh w0 w1).1
        · rw [if_neg (by omega), if_neg (by omega), if_neg (by omega), if_neg (by omega), if_neg (by omega), if_pos ⟨trivial, by omega, by omega⟩, if_neg (by omega), ei _ _ (by omega) (by omega), show (0 : Int) + (w - 0) = w by omega]; exact (hK.wh w0 w1).2
      · simp only [iv_pi, iv_pb]
        refine ⟨?_, ?_⟩
        · rw [if_neg (by omega), if_neg (by omega), if_neg (by omega), if_neg (by omega), if_pos ⟨trivial, by omega, by omega⟩, if_neg (by omega), if_neg (by omega), ei _ _ (by omega) (by omega), show (0 : Int) + (b - 0) = b by omega]; exact (hK.bx b0 b1).1
        · rw [if_neg (by omega), if_neg (by omega), if_neg (by omega), if_pos ⟨trivial, by omega, by omega⟩, if_neg (by omega), if_neg (by omega), if_neg (by omega), ei _ _ (by omega) (by omega), show (0 : Int) + (b - 0) = b by omega]; exact (hK.bx b0 b1).2
      · have hbl := bl_in hW b0 b1
        have hr7 := hW.n
        simp only [iv_pi, iv_pb]
        rw [if_neg (by omega), if_neg (by omega), if_pos ⟨trivial, by omega, by omega⟩, if_neg (by omega), if_neg (by omega), if_neg (by omega), if_neg (by omega), ei _ _ (by omega) (by omega), show (0 : Int) + (6 * b + k - 0) = 6 * b + k by omega]; exact hK.sg b0 b1 k0 k1
      · refine ((((((((hG1.pb ?_).pb ?_).pb ?_).pb ?_).pb ?_).pi ?_).pi ?_)) <;> (intro q; omega)⟩
/-- a desk's arrays -/
def dF_ (D : Nat) (b : Nat) (_ : Int) : Prop := D + 1 ≤ b ∧ b ≤ D + 5
theorem DA_.dF (h : DA_ σ D) (f : Fr_ (dF_ D) σ σ') : DA_ σ' D := h.to (fun b _ _ => f.1 b) (fun k => f.2.1 D k)
theorem PQ_.dF (h : PQ_ G σ lo T r) (hS : ∀ i, 0 ≤ i → i < r 4 → xS_ T i < D) (hD : DA_ σ D) (f : Fr_ (dF_ D) σ σ') : PQ_ G σ' lo T r :=
  h.pres fun b hb => ⟨f.1 b, fun k => ⟨f.2.1 b k, f.2.2.2.2 b k (fun q => h.dsk hS hD (by unfold dF_ at q; omega) q.2 hb)⟩⟩
theorem xd_begins  {Q : JH → Prop} (hP0 : PQ_ G σ lo T r) (hW : RW_ r) (hA0 : DA_ σ D) (hge : (gH_ G).size ≤ D) (hS : ∀ i, 0 ≤ i → i < r 4 → xS_ T i < D) (hz : ∀ b k, D ≤ b → b ≤ D + 5 → iv_ σ b k = 0) (hlo : lo' ≤ D)
    (hQ : ∀ σ', DQ_ G σ' lo' D r (ds_ r) → Fr_ (dF_ D) σ σ' → Q σ') : CallV_ G 6 yX15_begins cX15_begins 4 none [A_ (some D), A_ (some (xP_ T))] σ Q := by
  refine call_go [some (A_ (some D)), some (A_ (some (xP_ T))), none, none] (by decide) (Nat.le_of_ble_eq_true rfl) rfl ?_
  have hn := hW.n
  have L2 : ∀ (fu : Nat) (σ' : JH) (w : Int) (v3 : Option AV), r 6 - w < (fu : Int) → (Fr_ (dF_ D) σ σ') → (0 ≤ w) → (w ≤ r 6) → (∀ j, 0 ≤ j → j < 5 → iv_ σ' (D + 1) j = if j < w then r (108 + 4 * j) else 0) → (∀ b k, D + 2 ≤ b → b ≤ D + 5 → iv_ σ' b k = 0) → GoM_ G 6 yX15_begins cX15_begins 4 none σ (fun v σ' => v = none ∧ Q σ') 2 [some (A_ (some D)), some (A_ (some (xP_ T))), some (I_ w), v3] [] σ' := by
    intro fu
    induction fu with
    | zero => intro σ' w v3 hn hF h0 h1 hv1 hv2; exact absurd hn (by omega)
    | succ fu ih =>
      intro σ' w v3 hn hF h0 h1 hv1 hv2
      have hP := hP0.dF hS hA0 hF
      have hA := hA0.dF hF
      refine g_il2 dX15_begins_2 ?_
      refine g_al1 dX15_begins_3 ?_
      refine f_getA 6 fk_X15_27 rfl hP.sh (fun _ _ => rfl) hP.f6 dX15_begins_4 ?_
      refine g_callV0I (d' := 2) lk_X15_33 hP.l2.1 rfl (rm_lt (by decide) (by decide)) (Nat.le_of_ble_eq_true rfl) dX15_begins_7 ?_
      refine js_size hP.l2 ?_
      refine g_icmp_ge (tgt := 39) dX15_begins_10 (by decide) (by omega) (fun h10 => ?_) (fun h10 => ?_)
      · have L41 : ∀ (fu2 : Nat) (σ' : JH) (b : Int) (v3 : Option AV), 8 - b < (fu2 : Int) → (Fr_ (dF_ D) σ σ') → (0 ≤ b) → (b ≤ 8) → (∀ j, 0 ≤ j → j < 5 → iv_ σ' (D + 1) j = if j < r 6 then r (108 + 4 * j) else 0) → (∀ k, iv_ σ' (D + 2) k = 0 ∧ iv_ σ' (D + 5) k = 0) → (∀ j, 0 ≤ j → j < b → iv_ σ' (D + 3) j = -2 ∧ iv_ σ' (D + 4) j = -2) → GoM_ G 6 yX15_begins cX15_begins 4 none σ (fun v σ' => v = none ∧ Q σ') 41 [some (A_ (some D)), some (A_ (some (xP_ T))), some (I_ b), v3] [] σ' := by
          intro fu2
          induction fu2 with
          | zero => intro σ' b v3 hn hF h0 h1 hv1 hv2 hv3; exact absurd hn (by omega)
          | succ fu2 ih2 =>
            intro σ' b v3 hn hF h0 h1 hv1 hv2 hv3
            have hP := hP0.dF hS hA0 hF
            have hA := hA0.dF hF
            refine g_il2 dX15_begins_41 ?_
            refine g_bipush dX15_begins_42 (by decide) (by decide) ?_
            refine g_icmp_ge (tgt := 69) dX15_begins_44 (by decide) (by omega) (fun h44 => ?_) (fun h44 => ?_)
            · have L71 : ∀ (fu3 : Nat) (σ3 : JH) (b : Int) (v3 : Option AV), r 7 - b < (fu3 : Int) → (Fr_ (fun b _ => b = D + 5) σ' σ3) → (0 ≤ b) → (b ≤ r 7) → (∀ c j, 0 ≤ c → c < b → 0 ≤ j → j < bl_ r c → iv_ σ3 (D + 5) (6 * c + j) = r (11 + 7 * r (128 + 4 * c) + j)) → GoM_ G 6 yX15_begins cX15_begins 4 none σ (fun v σ' => v = none ∧ Q σ') 71 [some (A_ (some D)), some (A_ (some (xP_ T))), some (I_ b), v3] [] σ3 := by
                intro fu3
                induction fu3 with
                | zero => intro σ3 b v3 hn hF3 h0 h1 hv5; exact absurd hn (by omega)
                | succ fu3 ih3 =>
                  intro σ3 b v3 hn hF3 h0 h1 hv5
                  have hG3 := hF.tr (hF3.mono fun b k q => by unfold dF_; omega)
                  have hP := hP0.dF hS hA0 hG3
                  have hA := hA0.dF hG3
                  refine g_il2 dX15_begins_71 ?_
                  refine g_al1 dX15_begins_72 ?_
                  refine f_getA 7 fk_X15_48 rfl hP.sh (fun _ _ => rfl) hP.f7 dX15_begins_73 ?_
                  refine g_callV0I (d' := 2) lk_X15_33 hP.l3.1 rfl (rm_lt (by decide) (by decide)) (Nat.le_of_ble_eq_true rfl) dX15_begins_76 ?_
                  refine js_size hP.l3 ?_
                  refine g_icmp_ge (tgt := 158) dX15_begins_79 (by decide) (by omega) (fun h79 => ?_) (fun h79 => ?_)
                  · exact g_vret rfl dX15_begins_158 ⟨rfl, by
                        have eo : ∀ c k, c ≠ D + 5 → iv_ σ3 c k = iv_ σ' c k := fun c k q => hF3.2.2.2.2 c k q
                        have e0 : ∀ k, iv_ σ3 D k = iv_ σ D k := fun k => hG3.2.2.2.2 D k (fun q => by unfold dF_ at q; omega)
                        refine hQ _ (DQ_.mk hA hlo ?_ ?_ (fun w w0 w1 => ?_) (fun c c0 c1 => ?_) (fun c k c0 c1 k0 k1 => ?_)) hG3
                        · rw [e0, hz _ _ (by omega) (by omega)]; unfold ds_; rw [if_neg (by omega), if_neg (by omega)]
                        · rw [e0, hz _ _ (by omega) (by omega)]; unfold ds_; rw [if_neg (by omega), if_neg (by omega)]
                        · rw [eo _ _ (by omega), eo _ _ (by omega), hv1 w w0 w1, (hv2 w).1]
                          unfold ds_
                          refine ⟨?_, by rw [if_neg (by omega), if_neg (by omega)]⟩
                          by_cases q : w < r 6
                          · rw [if_pos q, if_pos (by omega), show 108 + 4 * (2 + w - 2) = 108 + 4 * w by omega]
                          · rw [if_neg q, if_neg (by omega), if_neg (by omega)]
                        · rw [eo _ _ (by omega), eo _ _ (by omega), (hv3 c c0 (by omega)).1, (hv3 c c0 (by omega)).2]
                          unfold ds_
                          rw [if_neg (by omega), if_neg (by omega), if_neg (by omega), if_neg (by omega)]
                          exact ⟨rfl, rfl⟩
                        · have hbc := bl_in hW (b := c) c0 (by omega)
                          rw [hv5 c k c0 (by omega) k0 k1]
                          unfold ds_
                          rw [if_neg (by omega), if_pos (by omega), show (28 + 6 * c + k - 28) / 6 = c by omega, show (28 + 6 * c + k - 28) % 6 = k by omega]⟩
                  refine g_iconst dX15_begins_82 ?_
                  refine g_is3 dX15_begins_83 (by decide) rfl ?_
                  have L84 : ∀ (fu4 : Nat) (σ3 : JH) (k : Int), bl_ r b - k < (fu4 : Int) → (Fr_ (fun b _ => b = D + 5) σ' σ3) → (0 ≤ k) → (k ≤ bl_ r b) → (∀ c j, 0 ≤ c → c ≤ b → 0 ≤ j → j < bl_ r c → (c < b ∨ j < k) → iv_ σ3 (D + 5) (6 * c + j) = r (11 + 7 * r (128 + 4 * c) + j)) → GoM_ G 6 yX15_begins cX15_begins 4 none σ (fun v σ' => v = none ∧ Q σ') 84 [some (A_ (some D)), some (A_ (some (xP_ T))), some (I_ b), some (I_ k)] [] σ3 := by
                    intro fu4
                    induction fu4 with
                    | zero => intro σ3 k hn hF3 k0 k1 hv5; exact absurd hn (by omega)
                    | succ fu4 ih4 =>
                      intro σ3 k hn hF3 k0 k1 hv5
                      have hG3 := hF.tr (hF3.mono fun b k q => by unfold dF_; omega)
                      have hP := hP0.dF hS hA0 hG3
                      have hA := hA0.dF hG3
                      have hbx := hW.box (b := b) (by omega) (by omega)
                      have hbl := bl_in hW (b := b) (by omega) (by omega)
                      refine g_il3 dX15_begins_84 ?_
                      refine g_al1 dX15_begins_85 ?_
                      refine g_al1 dX15_begins_86 ?_
                      refine f_getA 7 fk_X15_48 rfl hP.sh (fun _ _ => rfl) hP.f7 dX15_begins_87 ?_
                      refine g_il2 dX15_begins_90 ?_
                      refine g_callV1A (d' := 4) lk_X15_39 hP.l3.1 rfl (rm_lt (by decide) (by decide)) (Nat.le_of_ble_eq_true rfl) dX15_begins_91 ?_
                      refine js_get hP.l3 (by omega) ?_
                      have hBx := hP.box (b := b) (by omega) (by omega)
                      refine g_cast q1115 hBx.1 (Or.inl rfl) dX15_begins_94 ?_
                      refine f_getv 2 fk_X15_53 rfl hBx.1 (fun _ _ => rfl) hBx.2.2.2.1 dX15_begins_97 ?_
                      refine g_callV1I (d' := 5) lk_X15_56 hP.sh rfl (rm_lt (by decide) (by decide)) (Nat.le_of_ble_eq_true rfl) dX15_begins_100 ?_
                      refine xp_length hP hW (by omega) ?_
                      refine g_top (show _ = bl_ r b from rfl) ?_
                      refine g_icmp_ge (tgt := 152) dX15_begins_103 (by decide) (by omega) (fun h103 => ?_) (fun h103 => ?_)
                      · refine g_inc2 dX15_begins_152 (by decide) rfl ?_
                        refine g_goto (tgt := 71) dX15_begins_155 (by decide) ?_
                        exact ih3 _ _ _ (by omega) hF3 (by omega) (by omega) (fun c j c0 c1 j0 j1 => hv5 c j c0 (by omega) j0 j1 (by by_cases q : c = b; (subst q; omega); (omega)))
                      refine g_al0 dX15_begins_106 ?_
                      refine f_getA 4 fk_X15_24 rfl hA.1 (fun _ _ => rfl) hA.2.2.2.2.2.1 dX15_begins_107 ?_
                      refine g_bipush dX15_begins_110 (by decide) (by decide) ?_
                      refine g_il2 dX15_begins_112 ?_
                      refine g_imul dX15_begins_113 ?_
                      refine g_il3 dX15_begins_114 ?_
                      refine g_iadd dX15_begins_115 ?_
                      refine g_al1 dX15_begins_116 ?_
                      refine f_getA 4 fk_X15_60 rfl hP.sh (fun _ _ => rfl) hP.f4 dX15_begins_117 ?_
                      refine g_al1 dX15_begins_120 ?_
                      refine f_getA 7 fk_X15_48 rfl hP.sh (fun _ _ => rfl) hP.f7 dX15_begins_121 ?_
                      refine g_il2 dX15_begins_124 ?_
                      refine g_callV1A (d' := 4) lk_X15_39 hP.l3.1 rfl (rm_lt (by decide) (by decide)) (Nat.le_of_ble_eq_true rfl) dX15_begins_125 ?_
                      refine js_get hP.l3 (by omega) ?_
                      have hBx := hP.box (b := b) (by omega) (by omega)
                      refine g_cast q1115 hBx.1 (Or.inl rfl) dX15_begins_128 ?_
                      refine f_getv 2 fk_X15_53 rfl hBx.1 (fun _ _ => rfl) hBx.2.2.2.1 dX15_begins_131 ?_
                      refine g_callV1A (d' := 4) lk_X15_39 hP.l0.1 rfl (rm_lt (by decide) (by decide)) (Nat.le_of_ble_eq_true rfl) dX15_begins_134 ?_
                      refine js_get hP.l0 (by omega) ?_
                      have hIs := hP.isl (i := r (128 + 4 * b)) (by omega) (by omega)
                      refine g_cast q1117 hIs.1 (Or.inl rfl) dX15_begins_137 ?_
                      refine f_getA 1 fk_X15_65 rfl hIs.1 (fun _ _ => rfl) hIs.2.2.1 dX15_begins_140 ?_
                      refine g_il3 dX15_begins_143 ?_
                      refine g_ialv hIs.2.2.2.1 (by unfold bl_ at *; omega) (hIs.2.2.2.2.2 k (by omega) (by unfold bl_ at *; omega)) dX15_begins_144 ?_
                      refine g_iast hA.2.2.2.2.2.2 (show (gH_ G).size ≤ D + 5 by omega) (by omega) dX15_begins_145 ?_
                      refine g_inc3 dX15_begins_146 (by decide) rfl ?_
                      refine g_goto (tgt := 84) dX15_begins_149 (by decide) ?_
                      refine ih4 _ _ (by omega) (hF3.pi (show D + 5 = D + 5 from rfl)) (by omega) (by omega) (fun c j c0 c1 j0 j1 hcj => ?_)
                      have hbc := bl_in hW (b := c) c0 (by omega)
                      rw [iv_pi]
                      by_cases q : c = b ∧ j = k
                      · rw [if_pos ⟨rfl, by omega⟩, q.1, q.2]
                      · rw [if_neg (fun z => by omega)]; exact hv5 c j c0 c1 j0 j1 (by omega)
                  exact L84 ((bl_ r b).toNat + 1) _ _ (by have := bl_in hW (b := b) (by omega) (by omega); omega) hF3 (by omega) (by have := bl_in hW (b := b) (by omega) (by omega); omega) (fun c j c0 c1 j0 j1 q => hv5 c j c0 (by omega) j0 j1)
              refine g_iconst dX15_begins_69 ?_
              refine g_is2 dX15_begins_70 (by decide) rfl ?_
              exact L71 ((r 7).toNat + 1) _ _ _ (by omega) Fr_.rf (by omega) (by omega) (fun c j c0 c1 => absurd c1 (by omega))
            refine g_al0 dX15_begins_47 ?_
            refine f_getA 2 fk_X15_18 rfl hA.1 (fun _ _ => rfl) hA.2.2.2.1.1 dX15_begins_48 ?_
            refine g_il2 dX15_begins_51 ?_
            refine g_bipush dX15_begins_52 (by decide) (by decide) ?_
            refine g_iast hA.2.2.2.1.2 (show (gH_ G).size ≤ D + 3 by omega) (by omega) dX15_begins_54 ?_
            refine g_al0 dX15_begins_55 ?_
            refine f_getA 3 fk_X15_21 rfl hA.1 (fun _ _ => rfl) hA.2.2.2.2.1.1 dX15_begins_56 ?_
            refine g_il2 dX15_begins_59 ?_
            refine g_bipush dX15_begins_60 (by decide) (by decide) ?_
            refine g_iast hA.2.2.2.2.1.2 (show (gH_ G).size ≤ D + 4 by omega) (by omega) dX15_begins_62 ?_
            refine g_inc2 dX15_begins_63 (by decide) rfl ?_
            refine g_goto (tgt := 41) dX15_begins_66 (by decide) ?_
            refine ih2 _ _ _ (by omega) ((hF.pi (show dF_ D (D + 3) b by unfold dF_; omega)).pi (show dF_ D (D + 4) b by unfold dF_; omega)) (by omega) (by omega) (fun j j0 j1 => ?_) (fun k => ?_) (fun j j0 j1 => ?_)
            · rw [iv_pi, if_neg (by omega), iv_pi, if_neg (by omega)]; exact hv1 j j0 j1
            · rw [iv_pi, if_neg (by omega), iv_pi, if_neg (by omega), iv_pi, if_neg (by omega), iv_pi, if_neg (by omega)]; exact hv2 k
            · by_cases q : j = b
              · subst q; rw [iv_pi, if_neg (by omega), iv_pi, if_pos ⟨rfl, rfl⟩, iv_pi, if_pos ⟨rfl, rfl⟩]; exact ⟨rfl, rfl⟩
              · rw [iv_pi, if_neg (by omega), iv_pi, if_neg (by omega), iv_pi, if_neg (by omega), iv_pi, if_neg (by omega)]; exact hv3 j j0 (by omega)
        refine g_iconst dX15_begins_39 ?_
        refine g_is2 dX15_begins_40 (by decide) rfl ?_
        exact L41 9 _ _ _ (by omega) hF (by omega) (by omega) (fun j j0 j1 => by rw [hv1 j j0 j1, show w = r 6 by omega]) (fun k => ⟨hv2 _ k (by omega) (by omega), hv2 _ k (by omega) (by omega)⟩) (fun j j0 j1 => absurd j1 (by omega))
      refine g_al0 dX15_begins_13 ?_
      refine f_getA 0 fk_X15_9 rfl hA.1 (fun _ _ => rfl) hA.2.1.1 dX15_begins_14 ?_
      refine g_il2 dX15_begins_17 ?_
      refine g_al1 dX15_begins_18 ?_
      refine f_getA 6 fk_X15_27 rfl hP.sh (fun _ _ => rfl) hP.f6 dX15_begins_19 ?_
      refine g_il2 dX15_begins_22 ?_
      refine g_callV1A (d' := 4) lk_X15_39 hP.l2.1 rfl (rm_lt (by decide) (by decide)) (Nat.le_of_ble_eq_true rfl) dX15_begins_23 ?_
      refine js_get hP.l2 (by omega) ?_
      obtain ⟨⟨κ, hκ, hkd, hsw⟩, hw2⟩ := hP.whl (w := w) (by omega) (by omega)
      refine g_cast q1114 hsw (wcast_ hκ) dX15_begins_26 ?_
      refine f_getv 1 (fk_X15_45 _ hκ) rfl hsw (wty_ hκ (by decide)) hw2.2.1 dX15_begins_29 ?_
      refine g_iast hA.2.1.2 (show (gH_ G).size ≤ D + 1 by omega) (by omega) dX15_begins_32 ?_
      refine g_inc2 dX15_begins_33 (by decide) rfl ?_
      refine g_goto (tgt := 2) dX15_begins_36 (by decide) ?_
      refine ih _ _ _ (by omega) (hF.pi (show dF_ D (D + 1) w by unfold dF_; omega)) (by omega) (by omega) (fun j j0 j1 => ?_) (fun b k b0 b1 => ?_)
      · rw [iv_pi]
        by_cases q : j = w
        · subst q; rw [if_pos ⟨rfl, rfl⟩, if_pos (by omega)]
        · rw [if_neg (fun z => q z.2), hv1 j j0 j1]
          by_cases c : j < w
          · rw [if_pos c, if_pos (by omega)]
          · rw [if_neg c, if_neg (by omega)]
      · rw [iv_pi, if_neg (by omega)]; exact hv2 b k b0 b1
  refine g_iconst dX15_begins_0 ?_
  refine g_is2 dX15_begins_1 (by decide) rfl ?_
  exact L2 ((r 6).toNat + 1) _ _ _ (by omega) Fr_.rf (by omega) (by omega) (fun j j0 j1 => by rw [if_neg (by omega)]; exact hz _ _ (by omega) (by omega)) (fun b k b0 b1 => hz b k (by omega) b1)
end
