theorem m_placeOf_ok {t q : Int32} (h : 0 ≤ t ∧ t < 4) : 0 ≤ m_placeOf t q ∧ m_placeOf t q < 8 := by
  unfold m_placeOf
  split
  · simp only [i_le, i_lt, Int32.reduceToInt] at *
    have e0 := m32 (x := 2) (y := t) (by simp only [Int32.reduceToInt]; omega)
    simp only [Int32.reduceToInt] at e0
    have e1 := a32 (x := 2 * t) (y := 0) (by simp only [Int32.reduceToInt]; omega)
    simp only [Int32.reduceToInt] at e1
    omega
  · simp only [i_le, i_lt, Int32.reduceToInt] at *
    have e0 := m32 (x := 2) (y := t) (by simp only [Int32.reduceToInt]; omega)
    simp only [Int32.reduceToInt] at e0
    have e1 := a32 (x := 2 * t) (y := 1) (by simp only [Int32.reduceToInt]; omega)
    simp only [Int32.reduceToInt] at e1
    omega
