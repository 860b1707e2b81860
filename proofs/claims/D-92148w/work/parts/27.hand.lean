theorem m_askedPlace_ok (S : MS) (x1 x2 : Int32) (c : 0 ≤ (m_askedPlace S x1 x2).1) : (m_askedPlace S x1 x2).2 = S ∧ (0 ≤ x1 ∧ x1 < 4) ∧ ¬ S.1 26 x1.toNatClampNeg = 0 ∧ 0 ≤ S.1 35 (Int32.toNatClampNeg (m_placeOf x1 x2)) := by
  unfold m_askedPlace at c ⊢
  split
  · rename_i h
    rw [if_pos h] at c
    have ok := m_askedFor_ok S x1 h
    split
    · rename_i h2; rw [if_pos h2] at c
      first
        | exact absurd (show (0 : Int32) ≤ -3 from c) (by decide)
        | exact ⟨rfl, ok.2.1, ok.2.2, h2⟩
    · rename_i h2; rw [if_neg h2] at c
      first
        | exact absurd (show (0 : Int32) ≤ -3 from c) (by decide)
        | exact ⟨rfl, ok.2.1, ok.2.2, Int32.not_lt.mp h2⟩
  · rename_i h
    rw [if_neg h] at c
    exact absurd c h
