theorem mi_hl {S : MS} (h : MInv S) {p : Int32} (hp : 0 ≤ p ∧ p < 8) : S.1 35 p.toNatClampNeg < 16 := by
  rcases mi_h h hp with e | e
  · rw [e]; decide
  · exact e.2
theorem m_askedFor_ok (S : MS) (x1 : Int32) (c : 0 ≤ (m_askedFor S x1).1) : (m_askedFor S x1).2 = S ∧ (0 ≤ x1 ∧ x1 < 4) ∧ ¬ S.1 26 x1.toNatClampNeg = 0 := by
  unfold m_askedFor at c ⊢
  split
  · rename_i h; rw [if_pos h] at c; exact absurd (show (0 : Int32) ≤ -1 from c) (by decide)
  · rename_i h
    rw [if_neg h] at c
    split
    · rename_i h2; rw [if_pos h2] at c; exact absurd (show (0 : Int32) ≤ -3 from c) (by decide)
    · rename_i h2; exact ⟨rfl, isNumber_ok h, h2⟩
theorem m_free_h (S : MS) (p : Int32) (q : Nat) : (m_free S p).1 35 q = -9 ∨ (m_free S p).1 35 q = S.1 35 q := by
  unfold m_free
  by_cases h : q = p.toNatClampNeg
  · left; subst h; rw [mu_k _ (by decide), mu_self]
  · right; rw [mu_k _ (by decide), mu_i _ _ h]; unfold m_free_j22_S; split
    · rfl
    · rw [mu_k _ (by decide)]
theorem m_free_lt (S : MS) (p : Int32) (q : Nat) (h : S.1 35 q < 16) : (m_free S p).1 35 q < 16 := by
  rcases m_free_h S p q with e | e
  · rw [e]; decide
  · rw [e]; exact h
theorem m_tower_hh (x1 : Int32) (c1 : ¬ (m_isNumber x1) = 0) : 0 ≤ 2 * x1 + 1 ∧ 2 * x1 + 1 < 8 := by
  have h := isNumber_ok c1
  simp only [i_le, i_lt, Int32.reduceToInt] at *
  have e0 := m32 (x := 2) (y := x1) (by simp only [Int32.reduceToInt]; omega)
  simp only [Int32.reduceToInt] at e0
  have e1 := a32 (x := 2 * x1) (y := 1) (by simp only [Int32.reduceToInt]; omega)
  simp only [Int32.reduceToInt] at e1
  omega
