theorem isTrain_ok {S : MS} (hI : MInv S) {n : Int32} (h : ¬ (m_isTrain S n) = 0) : 0 ≤ n ∧ n < 16 := by
  have h1 : ¬ m_in n 0 (S.1 10 0 - 1) = 0 := h
  rw [m_in_eq] at h1
  have h2 := Decidable.of_not_not h1
  have h3 := mi_tr hI
  simp only [i_le, i_lt, Int32.reduceToInt] at *
  have e := s32 (x := S.1 10 0) (y := 1) (by simp only [Int32.reduceToInt]; omega)
  simp only [Int32.reduceToInt] at e
  omega
