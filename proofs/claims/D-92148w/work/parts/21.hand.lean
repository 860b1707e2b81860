theorem m_meets_neg (S : MS) (w : Int32) : (m_meets S w).1 = -3 := rfl
theorem m_askedNotch_ok (S : MS) (x1 x2 : Int32) (hI : MInv S) (c : 0 ≤ (m_askedNotch S x1 x2).1) : (m_askedNotch S x1 x2).2 = S ∧ (0 ≤ x1 ∧ x1 < 16) ∧ (0 ≤ x2 ∧ x2 < S.1 12 x1.toNatClampNeg) := by
  unfold m_askedNotch at c ⊢
  split
  · rename_i h; rw [if_pos h] at c; exact absurd (show (0 : Int32) ≤ -1 from c) (by decide)
  · rename_i h
    rw [if_neg h] at c
    have hn := isTrain_ok hI h
    split
    · rename_i h2; rw [if_pos h2] at c; exact absurd (show (0 : Int32) ≤ -3 from c) (by decide)
    · rename_i h2
      rw [if_neg h2] at c
      split
      · rename_i h3; rw [if_pos h3] at c; exact absurd (show (0 : Int32) ≤ -3 from c) (by decide)
      · rename_i h3
        refine ⟨rfl, hn, ?_⟩
        rw [m_in_eq] at h3
        have h4 := Decidable.of_not_not h3
        have h5 := mi_n hI hn
        simp only [i_le, i_lt, i_eq, Int32.reduceToInt] at *
        have e := s32 (x := S.1 12 x1.toNatClampNeg) (y := 1) (by simp only [Int32.reduceToInt]; omega)
        simp only [Int32.reduceToInt] at e
        omega
