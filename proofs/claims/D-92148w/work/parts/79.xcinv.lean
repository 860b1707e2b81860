/-! THE CLASS: what indices need, kept by the methods that let a train come. -/
set_option maxRecDepth 100000
theorem XInv_sn {X : XS} (h : XInv X) (len : Nat) (f : Nat → Int32) : XInv (xsn X len f) := by
  have n7 : (xsn X len f).2.2.2 7 0 = X.2.2.2 7 0 := xsn_N X len f (by decide) (by decide) 0
  have n0 : ∀ j, (xsn X len f).2.2.2 0 j = X.2.2.2 0 j := xsn_N X len f (by decide) (by decide)
  have n1 : ∀ j, j < X.2.2.2 7 0 → (xsn X len f).2.2.2 1 j = X.2.2.2 1 j := fun j hj => xsn_1n X len f (Nat.ne_of_lt hj)
  have n2 : ∀ j, (xsn X len f).2.2.2 2 j = X.2.2.2 2 j := xsn_N X len f (by decide) (by decide)
  have b0 : ∀ j, j < X.2.2.2 7 0 → (xsn X len f).2.2.1 0 j = X.2.2.1 0 j := fun j hj => xsn_Bn X len f (Nat.ne_of_lt hj)
  obtain ⟨⟨a1, a2, a3, a4⟩, b, c, e, g, i, k, m, o, q⟩ := h
  refine ⟨⟨by rw [n7]; exact a1, fun j hj => ?_, fun q hq => ?_, fun r hr => ?_⟩, by rw [n7]; exact b, fun j hj hk => ?_, fun j hj hk => ?_, g, i, k, m, fun j hj hk => ?_, fun j hj => ?_, q.2⟩
  · rw [n7] at hj
    rw [n0, n1 j hj, n2]
    exact a2 j hj
  · rw [n7]; exact a3 q hq
  · exact a4 r hr
  · rw [n7] at hj
    rw [n0] at hk
    rw [n1 j hj]
    exact c j hj hk
  · rw [n7] at hj
    rw [n0] at hk
    rw [n2]
    exact e j hj hk
  · rw [n7] at hj
    rw [n0] at hk
    rw [n1 j hj, b0 j hj]
    exact o j hj hk
  · rw [n7] at hj
    exact q.1 j hj
theorem XInv_sp {X : XS} (h : XInv X) (len : Nat) (f : Nat → Int32) : XInv (xsp X len f) := by
  have n7 : (xsp X len f).2.2.2 7 0 = X.2.2.2 7 0 := xsp_N X len f (by decide) (by decide) 0
  have n0 : ∀ j, (xsp X len f).2.2.2 0 j = X.2.2.2 0 j := xsp_N X len f (by decide) (by decide)
  have n2 : ∀ j, j < X.2.2.2 7 0 → (xsp X len f).2.2.2 2 j = X.2.2.2 2 j := fun j hj => xsp_1n X len f (Nat.ne_of_lt hj)
  have n1 : ∀ j, (xsp X len f).2.2.2 1 j = X.2.2.2 1 j := xsp_N X len f (by decide) (by decide)
  have b0 : ∀ j, (xsp X len f).2.2.1 0 j = X.2.2.1 0 j := fun j => xsp_B X len f (by decide) j
  obtain ⟨⟨a1, a2, a3, a4⟩, b, c, e, g, i, k, m, o, q⟩ := h
  refine ⟨⟨by rw [n7]; exact a1, fun j hj => ?_, fun q hq => ?_, fun r hr => ?_⟩, by rw [n7]; exact b, fun j hj hk => ?_, fun j hj hk => ?_, g, i, k, m, fun j hj hk => ?_, fun j hj => ?_, q.2⟩
  · rw [n7] at hj
    rw [n0, n1, n2 j hj]
    exact a2 j hj
  · rw [n7]; exact a3 q hq
  · exact a4 r hr
  · rw [n7] at hj
    rw [n0] at hk
    rw [n1]
    exact c j hj hk
  · rw [n7] at hj
    rw [n0] at hk
    rw [n2 j hj]
    exact e j hj hk
  · rw [n7] at hj
    rw [n0] at hk
    rw [n1, b0]
    exact o j hj hk
  · rw [n7] at hj
    exact q.1 j hj
theorem xtr_w (X : XS) (kd : Nat) (n : Int32) : (xtr X kd n).1 42 (X.2.2.2 7 0) = 1000 ∧ (xtr X kd n).1 43 (X.2.2.2 7 0) = 1000 := by simp [xtr]
theorem XInv_come {X : XS} (h : XInv X) {kd : Nat} (n : Int32) (hm : X.2.2.2 7 0 < 16) (hkd : kd ≤ 3) (hn : ¬ kd = 0 → (1 ≤ X.2.2.2 1 (X.2.2.2 7 0) ∧ X.2.2.2 1 (X.2.2.2 7 0) ≤ 24) ∧ ∀ i, i < X.2.2.2 1 (X.2.2.2 7 0) → 1 ≤ X.2.2.1 0 (X.2.2.2 7 0) i ∧ X.2.2.1 0 (X.2.2.2 7 0) i ≤ 24) (hp : kd = 3 → 1 ≤ X.2.2.2 2 (X.2.2.2 7 0) ∧ X.2.2.2 2 (X.2.2.2 7 0) ≤ 48) : XInv (x_comes (xtr X kd n)).2 := by
  obtain ⟨Y, hY⟩ : ∃ Y, Y = (x_comes (xtr X kd n)).2 := ⟨_, rfl⟩
  rw [← hY]
  have n7 : Y.2.2.2 7 0 = X.2.2.2 7 0 + 1 := by rw [hY]; exact (xcm_7 _).trans (congrArg (· + 1) (xtr_N X kd n (by decide) (by decide) 0))
  have n0 : Y.2.2.2 0 (X.2.2.2 7 0) = kd := by rw [hY]; exact (xcm_N _ (by decide) (by decide) (by decide) (by decide) _).trans (xtr_0 X kd n)
  have n0o : ∀ j, j < X.2.2.2 7 0 → Y.2.2.2 0 j = X.2.2.2 0 j := fun j hj => by rw [hY]; exact (xcm_N _ (by decide) (by decide) (by decide) (by decide) _).trans (xtr_0n X kd n (Nat.ne_of_lt hj))
  have nk : ∀ k j, k ≠ 7 → k ≠ 8 → k ≠ 9 → k ≠ 10 → k ≠ 0 → Y.2.2.2 k j = X.2.2.2 k j := fun k j h7 h8 h9 h10 h0 => by rw [hY]; exact (xcm_N _ h7 h8 h9 h10 _).trans (xtr_N X kd n h8 h0 j)
  have ik : ∀ k j, k ≠ 5 → ¬ (40 ≤ k ∧ k < 52) → Y.1 k j = X.1 k j := fun k j h5 hk => by rw [hY]; exact (xu_k _ h5 _ _ _).trans (xtr_i X kd n hk j)
  have io : ∀ k j, k ≠ 5 → j ≠ X.2.2.2 7 0 → Y.1 k j = X.1 k j := fun k j h5 hj => by rw [hY]; exact (xu_k _ h5 _ _ _).trans (xtr_in X kd n k hj)
  have i5 : Y.1 5 0 = X.1 5 0 + 1 := by rw [hY]; exact (xu_self _ _ _ _).trans (congrArg (· + 1) (xtr_i X kd n (by decide) 0))
  have i50 : Y.1 50 (X.2.2.2 7 0) = 0 := by rw [hY]; exact (xu_k _ (by decide) _ _ _).trans (xtr_at X kd n).1
  have i51 : Y.1 51 (X.2.2.2 7 0) = 0 := by rw [hY]; exact (xu_k _ (by decide) _ _ _).trans (xtr_at X kd n).2
  have i43 : Y.1 43 (X.2.2.2 7 0) = 1000 := by rw [hY]; exact (xu_k _ (by decide) _ _ _).trans (xtr_w X kd n).2
  have i42 : Y.1 42 (X.2.2.2 7 0) = 1000 := by rw [hY]; exact (xu_k _ (by decide) _ _ _).trans (xtr_w X kd n).1
  have bb : Y.2.2.1 = X.2.2.1 := by rw [hY]; rfl
  have spl : ∀ j, j < Y.2.2.2 7 0 → j < X.2.2.2 7 0 ∨ j = X.2.2.2 7 0 := fun j hj => by rw [n7] at hj; omega
  obtain ⟨⟨a1, a2, a3, a4⟩, b, c, e, g, i, k, m, o, q, t⟩ := h
  refine ⟨⟨by rw [n7]; omega, fun j hj => ?_, fun q hq => ?_, fun r hr => ?_⟩, ?_, fun j hj hk => ?_, fun j hj hk => ?_, fun t ht h5 => ?_, by rw [ik 20 0 (by decide) (by decide)]; exact i, by rw [ik 9 0 (by decide) (by decide)]; exact k, by rw [ik 22 0 (by decide) (by decide)]; exact m, fun j hj hk => ?_, fun j hj => ?_, fun w hw => ?_⟩
  · rw [nk 1 j (by decide) (by decide) (by decide) (by decide) (by decide), nk 2 j (by decide) (by decide) (by decide) (by decide) (by decide)]
    rcases spl j hj with r | r
    · rw [n0o j r]; exact a2 j r
    · subst r
      rw [n0]
      exact ⟨hkd, fun z => (hn z).1, hp⟩
  · rw [nk 4 q (by decide) (by decide) (by decide) (by decide) (by decide), n7]
    exact Nat.le_succ_of_le (a3 q hq)
  · rw [nk 3 r (by decide) (by decide) (by decide) (by decide) (by decide)]
    exact a4 r hr
  · rw [i5, n7, b, nI_s]
  · rw [nk 1 j (by decide) (by decide) (by decide) (by decide) (by decide)]
    rcases spl j hj with r | r
    · rw [n0o j r] at hk
      rw [io 50 j (by decide) (Nat.ne_of_lt r)]
      exact c j r hk
    · subst r
      rw [n0] at hk
      rw [i50]
      have := (hn (by omega)).1
      exact ⟨by decide, nI_lt (a := 0) (by omega) (by omega)⟩
  · rw [nk 2 j (by decide) (by decide) (by decide) (by decide) (by decide)]
    rcases spl j hj with r | r
    · rw [n0o j r] at hk
      rw [io 51 j (by decide) (Nat.ne_of_lt r)]
      exact e j r hk
    · subst r
      rw [n0] at hk
      rw [i51]
      have := hp hk
      exact ⟨by decide, nI_lt (a := 0) (by omega) (by omega)⟩
  · rw [nk 5 t (by decide) (by decide) (by decide) (by decide) (by decide)] at h5
    rw [ik 60 t (by decide) (by decide), ik 69 t (by decide) (by decide), ik 62 t (by decide) (by decide)]
    exact g t ht h5
  · rw [nk 1 j (by decide) (by decide) (by decide) (by decide) (by decide), bb]
    rcases spl j hj with r | r
    · rw [n0o j r] at hk
      exact o j r hk
    · subst r
      rw [n0] at hk
      exact (hn hk).2
  · rcases spl j hj with r | r
    · rw [io 43 j (by decide) (Nat.ne_of_lt r), io 42 j (by decide) (Nat.ne_of_lt r)]
      exact q j r
    · subst r
      rw [i43, i42]
      decide
  · rw [ik 20 0 (by decide) (by decide), ik 21 w (by decide) (by decide)]
    exact t w hw
theorem XQ_come (X : XS) (kd : Nat) (n : Int32) : XQ (x_comes (xtr X kd n)).2 := ⟨xcm_8 _, xcm_9 _, xcm_10 _⟩
theorem XInv_found {X : XS} (h : XInv X) (v : Int32) : XInv (x_found X v).2 := by
  unfold x_found
  exact XInv_xu (XInv_xu h _ _ _ (by decide)) _ _ _ (by decide)
theorem XQ_found {X : XS} (h : XQ X) (v : Int32) : XQ (x_found X v).2 := by
  unfold x_found
  exact h
