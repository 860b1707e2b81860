theorem m_areNotches_L_le (S : MS) (x1 : Int32) : ∀ (f : Nat) (g i : Int32), ¬ (m_areNotches_L15 S x1 f g i).1 = 0 → ¬ g = 0 := by
  intro f
  induction f with
  | zero => intro g i h; exact h
  | succ f ih =>
    intro g i h
    rw [m_areNotches_L15_s] at h
    split at h
    · exact h
    · have h2 := ih _ _ h
      intro e
      apply h2
      subst e
      simp [m_areNotches_j54_s0]
theorem m_areNotches_le (S : MS) (x1 : Int32) (h : ¬ (m_areNotches S x1) = 0) : 1 ≤ S.1 7 (Int32.toNatClampNeg x1) ∧ S.1 7 (Int32.toNatClampNeg x1) ≤ 24 := by
  have h1 : ¬ m_in (S.1 7 (Int32.toNatClampNeg x1)) 1 24 = 0 := m_areNotches_L_le S x1 _ _ _ h
  rw [m_in_eq] at h1
  exact Decidable.of_not_not h1
