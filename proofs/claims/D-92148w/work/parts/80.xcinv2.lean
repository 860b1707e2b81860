/-! THE CLASS: train, plate, snail, barrel keep what indices need. -/
set_option maxRecDepth 100000
theorem and_b {a b : Int32} (ha : a = 0 ∨ a = 1) (hb : b = 0 ∨ b = 1) : (a &&& b = 0 ∨ a &&& b = 1) ∧ (¬ a &&& b = 0 → ¬ a = 0 ∧ ¬ b = 0) := by
  rcases ha with rfl | rfl <;> rcases hb with rfl | rfl <;> decide
theorem sg_ok (S : XS) (r : Nat) : ∀ k, (sg S r k = 0 ∨ sg S r k = 1) ∧ (¬ sg S r k = 0 → ¬ x_in (nI (S.2.2.2 3 r - 1)) 1 24 = 0 ∧ ∀ i, i < k → ¬ x_in (S.2.2.1 3 r i) 1 24 = 0) := by
  intro k
  induction k with
  | zero => exact ⟨x_in_b _ _ _, fun h => ⟨h, fun i hi => absurd hi (Nat.not_lt_zero i)⟩⟩
  | succ k ih =>
    have h := and_b ih.1 (x_in_b (S.2.2.1 3 r k) 1 24)
    refine ⟨h.1, fun hn => ?_⟩
    obtain ⟨h1, h2⟩ := h.2 hn
    obtain ⟨h3, h4⟩ := ih.2 h1
    refine ⟨h3, fun i hi => ?_⟩
    rcases Nat.lt_succ_iff_lt_or_eq.mp hi with q | q
    · exact h4 i q
    · subst q; exact h2
theorem x_in_r {v a b : Int32} (h : ¬ x_in v a b = 0) : a ≤ v ∧ v ≤ b := by
  simp only [x_in_eq] at h
  simp only [i_le, i_lt, i_eq, Int32.reduceToInt] at *
  omega
/-- a good row: its length, its bytes -/
theorem good_ok {S : XS} {r : Nat} (hL : S.2.2.2 3 r ≤ 49) (h : ¬ x_good S r = 0) : (1 ≤ S.2.2.2 3 r - 1 ∧ S.2.2.2 3 r - 1 ≤ 24) ∧ ∀ i, i < S.2.2.2 3 r - 1 → 1 ≤ S.2.2.1 3 r i ∧ S.2.2.1 3 r i ≤ 24 := by
  obtain ⟨h1, h2⟩ := (sg_ok S r _).2 h
  refine ⟨?_, fun i hi => x_in_r (h2 i hi)⟩
  have h3 := x_in_r h1
  have e1 : (1 : Int32) = nI 1 := rfl
  have e2 : (24 : Int32) = nI 24 := rfl
  rw [e1, e2] at h3
  exact ⟨(nI_leI (by decide) (by omega)).mp h3.1, (nI_leI (by omega) (by decide)).mp h3.2⟩
theorem strokes_ok {S : XS} {r : Nat} (hL : S.2.2.2 3 r ≤ 49) (h : ¬ x_good S r = 0) : (1 ≤ (x_strokes S r).2.2.2 1 ((x_strokes S r).2.2.2 7 0) ∧ (x_strokes S r).2.2.2 1 ((x_strokes S r).2.2.2 7 0) ≤ 24) ∧ ∀ i, i < (x_strokes S r).2.2.2 1 ((x_strokes S r).2.2.2 7 0) → 1 ≤ (x_strokes S r).2.2.1 0 ((x_strokes S r).2.2.2 7 0) i ∧ (x_strokes S r).2.2.1 0 ((x_strokes S r).2.2.2 7 0) i ≤ 24 := by
  have e1 : (x_strokes S r).2.2.2 1 ((x_strokes S r).2.2.2 7 0) = S.2.2.2 3 r - 1 := xsn_1 S _ _
  have e2 : (x_strokes S r).2.2.1 0 ((x_strokes S r).2.2.2 7 0) = sfl S r (S.2.2.2 3 r - 1) := xsn_B0 S _ _
  rw [e1, e2]
  have hg := good_ok hL h
  refine ⟨hg.1, fun i hi => ?_⟩
  unfold sfl
  rw [if_pos hi]
  exact hg.2 i hi
theorem x_train_inv {S : XS} (hI : XInv S) (hq : XQ S) : XInv (x_train S).2 ∧ XQ (x_train S).2 := by
  unfold x_train
  by_cases c : S.1 5 0 = 16
  · rw [if_pos c]; exact ⟨hI, hq⟩
  · rw [if_neg c]
    exact ⟨XInv_come hI _ (x_m16 hI c) (by decide) (fun h => absurd rfl h) (fun h => absurd h (by decide)), XQ_come _ _ _⟩
theorem x_plate_inv {S : XS} (x1 : Int32) (hI : XInv S) (hq : XQ S) : XInv (x_plate S x1).2 ∧ XQ (x_plate S x1).2 := by
  unfold x_plate
  by_cases c1 : x_isRow x1 = 0
  · rw [if_pos c1]; exact ⟨hI, hq⟩
  rw [if_neg c1]
  by_cases c2 : S.1 5 0 = 16
  · rw [if_pos c2]; exact ⟨hI, hq⟩
  rw [if_neg c2]
  by_cases c3 : S.2.2.2 3 (Int32.toNatClampNeg x1) = 0
  · rw [if_pos c3]; exact ⟨XInv_found hI 1, XQ_found hq 1⟩
  rw [if_neg c3]
  by_cases c4 : x_good S (Int32.toNatClampNeg x1) = 0
  · rw [if_pos c4]; exact ⟨XInv_found hI 5, XQ_found hq 5⟩
  rw [if_neg c4]
  exact ⟨XInv_come (XInv_sn hI _ _) _ (x_m16 (X := S) hI c2) (by decide) (fun _ => strokes_ok (hI.1.2.2.2 _ (tn8 (x_row8 c1))) c4) (fun h => absurd h (by decide)), XQ_come _ _ _⟩
theorem x_snail_inv {S : XS} (x1 : Int32) (hI : XInv S) (hq : XQ S) : XInv (x_snail S x1).2 ∧ XQ (x_snail S x1).2 := by
  unfold x_snail
  by_cases c1 : x_isRow x1 = 0
  · rw [if_pos c1]; exact ⟨hI, hq⟩
  rw [if_neg c1]
  by_cases c2 : S.1 5 0 = 16
  · rw [if_pos c2]; exact ⟨hI, hq⟩
  rw [if_neg c2]
  by_cases c3 : S.2.2.2 3 (Int32.toNatClampNeg x1) = 0
  · rw [if_pos c3]; exact ⟨XInv_found hI 1, XQ_found hq 1⟩
  rw [if_neg c3]
  by_cases c4 : x_good S (Int32.toNatClampNeg x1) = 0
  · rw [if_pos c4]; exact ⟨XInv_found hI 5, XQ_found hq 5⟩
  rw [if_neg c4]
  exact ⟨XInv_come (XInv_sn hI _ _) _ (x_m16 (X := S) hI c2) (by decide) (fun _ => strokes_ok (hI.1.2.2.2 _ (tn8 (x_row8 c1))) c4) (fun h => absurd h (by decide)), XQ_come _ _ _⟩
theorem pinned_inv {S : XS} {r r2 : Nat} (hI : XInv S) (hr : r < 8) (hr2 : r2 < 8) (c2 : ¬ S.1 5 0 = 16) (c4 : ¬ x_good S r = 0) (c6 : ¬ nI (S.2.2.2 3 r2 - 1) = 0) : XInv (x_comes (xtr (x_pinned S r r2) 3 (S.1 5 0))).2 := by
  have hL2 := hI.1.2.2.2 r2 hr2
  have hI1 : XInv (x_strokes S r) := XInv_sn hI _ _
  have hI2 : XInv (x_pinned S r r2) := XInv_sp hI1 _ _
  have e7 : (x_pinned S r r2).2.2.2 7 0 = (x_strokes S r).2.2.2 7 0 := xsp_N (x_strokes S r) _ _ (by decide) (by decide) 0
  have e7' : (x_strokes S r).2.2.2 7 0 = S.2.2.2 7 0 := xsn_N S _ _ (by decide) (by decide) 0
  have e1 : (x_pinned S r r2).2.2.2 1 ((x_strokes S r).2.2.2 7 0) = (x_strokes S r).2.2.2 1 ((x_strokes S r).2.2.2 7 0) := xsp_N (x_strokes S r) _ _ (by decide) (by decide) _
  have eB : (x_pinned S r r2).2.2.1 0 ((x_strokes S r).2.2.2 7 0) = (x_strokes S r).2.2.1 0 ((x_strokes S r).2.2.2 7 0) := xsp_B (x_strokes S r) _ _ (by decide) _
  have e2 : (x_pinned S r r2).2.2.2 2 ((x_strokes S r).2.2.2 7 0) = S.2.2.2 3 r2 - 1 := xsp_1 (x_strokes S r) _ _
  have hs := strokes_ok (hI.1.2.2.2 r hr) c4
  have hm := x_m16 hI c2
  refine XInv_come hI2 _ (by rw [e7, e7']; exact hm) (by decide) (fun _ => ?_) (fun _ => ?_)
  · rw [e7, e1, eB]
    exact hs
  · rw [e7, e2]
    refine ⟨?_, by omega⟩
    rcases Nat.eq_zero_or_pos (S.2.2.2 3 r2 - 1) with q | q
    · exact absurd (by rw [q]; rfl) c6
    · exact q
theorem x_barrel_inv {S : XS} (x1 x2 : Int32) (hI : XInv S) (hq : XQ S) : XInv (x_barrel S x1 x2).2 ∧ XQ (x_barrel S x1 x2).2 := by
  unfold x_barrel
  by_cases c1 : x_isRow x1 = 0
  · rw [if_pos c1]; exact ⟨hI, hq⟩
  rw [if_neg c1]
  by_cases c0 : x_isRow x2 = 0
  · rw [if_pos c0]; exact ⟨hI, hq⟩
  rw [if_neg c0]
  by_cases c2 : S.1 5 0 = 16
  · rw [if_pos c2]; exact ⟨hI, hq⟩
  rw [if_neg c2]
  by_cases c3 : S.2.2.2 3 (Int32.toNatClampNeg x1) = 0
  · rw [if_pos c3]; exact ⟨XInv_found hI 1, XQ_found hq 1⟩
  rw [if_neg c3]
  by_cases c5 : S.2.2.2 3 (Int32.toNatClampNeg x2) = 0
  · rw [if_pos c5]; exact ⟨XInv_found hI 1, XQ_found hq 1⟩
  rw [if_neg c5]
  by_cases c4 : x_good S (Int32.toNatClampNeg x1) = 0
  · rw [if_pos c4]; exact ⟨XInv_found hI 5, XQ_found hq 5⟩
  rw [if_neg c4]
  by_cases c6 : nI (S.2.2.2 3 (Int32.toNatClampNeg x2) - 1) = 0
  · rw [if_pos c6]; exact ⟨XInv_found hI 5, XQ_found hq 5⟩
  rw [if_neg c6]
  exact ⟨pinned_inv hI (tn8 (x_row8 c1)) (tn8 (x_row8 c0)) c2 c4 c6, XQ_come _ _ _⟩
