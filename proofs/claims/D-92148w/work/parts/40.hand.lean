theorem m_askedTwo_ok (S : MS) (x1 x2 : Int32) (c : 0 ≤ (m_askedTwo S x1 x2).1) : (m_askedTwo S x1 x2).2 = S ∧ (0 ≤ x1 ∧ x1 < 4) ∧ (0 ≤ x2 ∧ x2 < 4) := by
  unfold m_askedTwo at c ⊢
  split
  · rename_i h; rw [if_pos h] at c; exact absurd (show (0 : Int32) ≤ -1 from c) (by decide)
  · rename_i h
    rw [if_neg h] at c
    split
    · rename_i h2; rw [if_pos h2] at c; exact absurd (show (0 : Int32) ≤ -1 from c) (by decide)
    · rename_i h2
      rw [if_neg h2] at c
      have a := isNumber_ok h
      have b := isNumber_ok h2
      split
      · rename_i h3; rw [if_pos h3] at c; exact absurd (show (0 : Int32) ≤ -3 from c) (by decide)
      · rename_i h3
        rw [if_neg h3] at c
        split
        · rename_i h4; rw [if_pos h4] at c; exact absurd (show (0 : Int32) ≤ -3 from c) (by decide)
        · exact ⟨rfl, a, b⟩
