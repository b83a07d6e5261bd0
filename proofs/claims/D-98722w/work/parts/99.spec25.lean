/-! WHAT BOTH SIDES ANSWER: the next island of a round -/
section
variable {r s : Int → Int}
theorem rf_first {D : Int → Int} {F : Int → Int × Int} {u n : Int} (hn : 0 ≤ n) (h : (iI_ (rf_ D F u) (1000000, -1) n).1 < 1000000) : (0 ≤ (iI_ (rf_ D F u) (1000000, -1) n).2 ∧ (iI_ (rf_ D F u) (1000000, -1) n).2 < n) ∧ ¬ hb_ u (iI_ (rf_ D F u) (1000000, -1) n).2 ∧ D (iI_ (rf_ D F u) (1000000, -1) n).2 + (F (iI_ (rf_ D F u) (1000000, -1) n).2).1 = (iI_ (rf_ D F u) (1000000, -1) n).1 ∧ ∀ t, 0 ≤ t → t < (iI_ (rf_ D F u) (1000000, -1) n).2 → hb_ u t ∨ (iI_ (rf_ D F u) (1000000, -1) n).1 < D t + (F t).1 := by
  have key := iI_inv (f := rf_ D F u) (a := ((1000000 : Int), (-1 : Int))) (n := n) (fun k (q : Int × Int) => (∀ t, 0 ≤ t → t < k → hb_ u t ∨ q.1 ≤ D t + (F t).1) ∧ (q.1 < 1000000 → (0 ≤ q.2 ∧ q.2 < k) ∧ ¬ hb_ u q.2 ∧ D q.2 + (F q.2).1 = q.1 ∧ ∀ t, 0 ≤ t → t < q.2 → hb_ u t ∨ q.1 < D t + (F t).1))
    ⟨fun t t0 t1 => by omega, fun w => absurd w (by decide)⟩ (fun k q h0 h1 ⟨ha, hb⟩ => by
      by_cases c : hb_ u k
      · rw [show rf_ D F u k q = q from if_pos c]
        refine ⟨fun t t0 t1 => ?_, fun w => ⟨⟨(hb w).1.1, by have := (hb w).1.2; omega⟩, (hb w).2⟩⟩
        by_cases e : t = k
        · rw [e]; exact Or.inl c
        · exact ha t t0 (by omega)
      · by_cases d : D k + (F k).1 < q.1
        · rw [show rf_ D F u k q = (D k + (F k).1, k) by unfold rf_; rw [if_neg c, if_pos d]]
          refine ⟨fun t t0 t1 => ?_, fun _ => ⟨⟨h0, by dsimp only; omega⟩, c, rfl, fun t t0 t1 => ?_⟩⟩
          · by_cases e : t = k
            · rw [e]; exact Or.inr (Int.le_refl _)
            · rcases ha t t0 (by omega) with z | z
              · exact Or.inl z
              · exact Or.inr (by dsimp only; omega)
          · rcases ha t t0 t1 with z | z
            · exact Or.inl z
            · exact Or.inr (by dsimp only; omega)
        · rw [show rf_ D F u k q = q by unfold rf_; rw [if_neg c, if_neg d]]
          refine ⟨fun t t0 t1 => ?_, fun w => ⟨⟨(hb w).1.1, by have := (hb w).1.2; omega⟩, (hb w).2⟩⟩
          by_cases e : t = k
          · rw [e]; exact Or.inr (by omega)
          · exact ha t t0 (by omega)) hn
  exact key.2 h
end
