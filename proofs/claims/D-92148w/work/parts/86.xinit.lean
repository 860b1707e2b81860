/-! THE CLASS: what indices need, at the start and behind tower. -/
set_option maxRecDepth 100000
theorem XQ_init : XQ x_init := ⟨rfl, rfl, rfl⟩
theorem XInv_init : XInv x_init := by
  refine ⟨⟨Nat.zero_le _, fun j hj => absurd hj (Nat.not_lt_zero j), fun q _ => Nat.le_refl _, fun r _ => Nat.zero_le _⟩, rfl, fun j hj => absurd hj (Nat.not_lt_zero j), fun j hj => absurd hj (Nat.not_lt_zero j), fun t _ h => absurd rfl h, by decide, by decide, by decide, fun j hj => absurd hj (Nat.not_lt_zero j), fun j hj => absurd hj (Nat.not_lt_zero j), fun i hi h => ?_⟩
  have h2 : nI i < 0 := h
  exact absurd h2 (nI_pos (by omega))
theorem XInv_tw {X : XS} (h : XInv X) {t : Nat} : XInv (xtw X t) := by
  have n7 : (xtw X t).2.2.2 7 0 = X.2.2.2 7 0 := xtw_N X t (by decide) (by decide) 0
  have n0 : ∀ j, (xtw X t).2.2.2 0 j = X.2.2.2 0 j := xtw_N X t (by decide) (by decide)
  have n1 : ∀ j, (xtw X t).2.2.2 1 j = X.2.2.2 1 j := xtw_N X t (by decide) (by decide)
  have n2 : ∀ j, (xtw X t).2.2.2 2 j = X.2.2.2 2 j := xtw_N X t (by decide) (by decide)
  have n3 : ∀ j, (xtw X t).2.2.2 3 j = X.2.2.2 3 j := xtw_N X t (by decide) (by decide)
  have b0 : ∀ j, (xtw X t).2.2.1 0 j = X.2.2.1 0 j := xtw_B X t (by decide)
  obtain ⟨⟨a1, a2, a3, a4⟩, b, c, e, g, i, k, m, o, q, u⟩ := h
  refine ⟨⟨by rw [n7]; exact a1, fun j hj => ?_, fun q hq => ?_, fun r hr => by rw [n3]; exact a4 r hr⟩, by rw [n7, xtw_i X t (by decide)]; exact b, fun j hj hk => ?_, fun j hj hk => ?_, fun v hv h5 => ?_, by rw [xtw_i X t (by decide)]; exact i, by rw [xtw_i X t (by decide)]; exact k, by rw [xtw_i X t (by decide)]; exact m, fun j hj hk => ?_, fun j hj => ?_, fun w hw => ?_⟩
  · rw [n7] at hj
    rw [n0, n1, n2]
    exact a2 j hj
  · rw [n7]
    by_cases hq2 : q ≠ 2 * t ∧ q ≠ 2 * t + 1
    · rw [xtw_4n X t hq2]; exact a3 q hq
    · have : q = 2 * t + 0 ∨ q = 2 * t + 1 := by omega
      rcases this with rfl | rfl
      · rw [xtw_4 X t (by decide)]; exact Nat.zero_le _
      · rw [xtw_4 X t (by decide)]; exact Nat.zero_le _
  · rw [n7] at hj
    rw [n0] at hk
    rw [n1, xtw_i X t (by decide)]
    exact c j hj hk
  · rw [n7] at hj
    rw [n0] at hk
    rw [n2, xtw_i X t (by decide)]
    exact e j hj hk
  · by_cases hvt : v = t
    · subst hvt
      have e60 : (xtw X v).1 60 v = 0 := by simp [xtw]
      have e69 : (xtw X v).1 69 v = 0 := by simp [xtw]
      have e62 : (xtw X v).1 62 v = 0 := by simp [xtw]
      rw [e60, e69, e62]
      decide
    · rw [xtw_5n X t hvt] at h5
      rw [xtw_in X t 60 hvt, xtw_in X t 69 hvt, xtw_in X t 62 hvt]
      exact g v hv h5
  · rw [n7] at hj
    rw [n0] at hk
    rw [n1, b0]
    exact o j hj hk
  · rw [n7] at hj
    rw [xtw_i X t (by decide), xtw_i X t (by decide)]
    exact q j hj
  · rw [xtw_i X t (by decide), xtw_i X t (by decide)]
    exact u w hw
theorem x_tower_inv {S : XS} (x1 : Int32) (hI : XInv S) (hq : XQ S) : XInv (x_tower S x1).2 ∧ XQ (x_tower S x1).2 := by
  have hQ : ∀ Y : XS, Y.2.2.2 = S.2.2.2 → XQ (xtw Y (Int32.toNatClampNeg x1)) := fun Y hY => ⟨by rw [xtw_N Y _ (by decide) (by decide), hY]; exact hq.1, by rw [xtw_N Y _ (by decide) (by decide), hY]; exact hq.2.1, by rw [xtw_N Y _ (by decide) (by decide), hY]; exact hq.2.2⟩
  unfold x_tower
  by_cases c1 : x_isTower x1 = 0
  · rw [if_pos c1]; exact ⟨hI, hq⟩
  rw [if_neg c1]
  by_cases c2 : S.2.2.2 5 (Int32.toNatClampNeg x1) = 0
  · rw [if_pos c2]; exact ⟨XInv_tw hI, hQ S rfl⟩
  · rw [if_neg c2]; exact ⟨XInv_tw (XInv_xpk (XInv_xpk hI _ _) _ _), hQ _ ((xpk_N _ _ _).trans (xpk_N _ _ _))⟩
