/-! PRINTED by gen/run_x13.py -/
set_option maxRecDepth 100000
theorem x_layCosts_V (S : XS) (x1 : Nat) (x2 : Int32) (hI : XInv S) (hj : x1 < S.2.2.2 7 0) (hk : S.2.2.2 0 x1 = 1 ∨ S.2.2.2 0 x1 = 3) (h12 : nI (S.2.2.2 1 x1) = 12) (hhr : 1 ≤ x2 ∧ x2 ≤ 12) : (∀ k, k < 144 → (x_layCosts S x1 x2).1 8 k = nI (vV (wx S x1) (gx x2) k)) ∧ (x_layCosts S x1 x2).2.2.1 = S.2.2.1 := by
  have h := x_layCosts_R39_P S x1 x2 hI hj hk h12 hhr
  unfold x_layCosts
  exact ⟨VIc_fix (w24_wx hI hj hk h12) (gx_lt hhr).1 h.2.2.2.1 h.2.2.2.2.2, h.2.2.1⟩
theorem x_nextHour_ok {x : Int32} (h : 0 ≤ x ∧ x < 1440) : 1 ≤ x_nextHour x ∧ x_nextHour x ≤ 12 := by
  unfold x_nextHour
  have e1 := d32 (x := x) (y := 60) (by simp only [i_le, i_lt, Int32.reduceToInt] at *; omega)
  simp only [i_le, i_lt, Int32.reduceToInt] at *
  have e2 := a32 (x := x / 60) (y := 12) (by simp only [Int32.reduceToInt]; omega)
  simp only [Int32.reduceToInt] at e2
  have e3 := d32 (x := x / 60 + 12) (y := 12) (by simp only [Int32.reduceToInt]; omega)
  simp only [Int32.reduceToInt] at e3
  have e4 := m32 (x := (x / 60 + 12) / 12) (y := 12) (by simp only [Int32.reduceToInt]; omega)
  simp only [Int32.reduceToInt] at e4
  have e5 := s32 (x := x / 60 + 12) (y := (x / 60 + 12) / 12 * 12) (by omega)
  have e6 := a32 (x := (x / 60 + 12) - (x / 60 + 12) / 12 * 12) (y := 1) (by simp only [Int32.reduceToInt]; omega)
  simp only [Int32.reduceToInt] at e6
  omega
theorem pr_st {a h : Int32} (ha : 0 ≤ a ∧ a < 12) (hh : 1 ≤ h ∧ h ≤ 12) : 0 ≤ (((12 * a) + h) - 1) ∧ (((12 * a) + h) - 1) < 144 := by
  have e1 := m32 (x := 12) (y := a) (by simp only [i_le, i_lt, Int32.reduceToInt] at *; omega)
  simp only [i_le, i_lt, Int32.reduceToInt] at *
  have e2 := a32 (x := 12 * a) (y := h) (by omega)
  have e3 := s32 (x := 12 * a + h) (y := 1) (by simp only [Int32.reduceToInt]; omega)
  simp only [Int32.reduceToInt] at e3
  omega
/-- an act is looked for: one that keeps the cost -/
def PE (w : Nat → Nat) (G : Nat) (s y : Int32) : Prop := ∃ a, a < 3 ∧ y.toNatClampNeg ≤ a ∧ vV w G s.toNatClampNeg = vpr w s.toNatClampNeg a + vV w G (vled s.toNatClampNeg a)
theorem pe_0 {w : Nat → Nat} {G : Nat} {s : Int32} {c : Nat → Int32} (hw : w24 w) (hG : G < 12) (hs : 0 ≤ s ∧ s < 144) (hC : ∀ k, k < 144 → c k = nI (vV w G k)) (h : ¬ c s.toNatClampNeg ≤ 0) : PE w G s 0 := by
  have hn := tn_ 144 144 (by decide) rfl hs
  by_cases e : s.toNatClampNeg = 13 * G
  · rw [hC _ hn, e, vV_goal w hG] at h
    exact absurd (by decide) h
  · obtain ⟨a, ha, h2⟩ := vV_B w hG hn e
    exact ⟨a, ha, Nat.zero_le _, h2⟩
theorem pe_thr {w : Nat → Nat} {G : Nat} {c : Nat → Int32} (hw : w24 w) {k a : Nat} (hk : k < 144) (hC : ∀ k, k < 144 → c k = nI (vV w G k)) : thr w c k a = c k ↔ vV w G k = vpr w k a + vV w G (vled k a) := by
  have h1 := vpr_le hw (a := a) hk
  have h2 := vV_le w (fun i hi => (hw i hi).2) G (vled k a)
  have h3 := vV_le w (fun i hi => (hw i hi).2) G k
  have hl := vled_lt (a := a) hk
  unfold thr
  rw [hC _ hl, if_neg (nI_pos (by omega)), hC _ hk, nI_add, nI_eq (by omega) (by omega)]
  exact eq_comm
theorem pe_s {w : Nat → Nat} {G : Nat} {s y : Int32} {c : Nat → Int32} (hw : w24 w) (hs : 0 ≤ s ∧ s < 144) (hy : 0 ≤ y) (hC : ∀ k, k < 144 → c k = nI (vV w G k)) (hE : PE w G s y) (hne : ¬ thr w c s.toNatClampNeg y.toNatClampNeg = c s.toNatClampNeg) : y < 2 ∧ PE w G s (y + 1) := by
  obtain ⟨a, ha, h1, h2⟩ := hE
  have hn := tn_ 144 144 (by decide) rfl hs
  have h3 : y.toNatClampNeg ≠ a := by
    intro e
    subst e
    exact hne ((pe_thr hw hn hC).mpr h2)
  have h4 : y < 2 := by
    rw [i_lt]
    rw [i_le] at hy
    simp only [Int32.reduceToInt] at *
    unfold Int32.toNatClampNeg at h1 h3
    omega
  refine ⟨h4, a, ha, ?_, h2⟩
  rw [tn_s hy (Int32.lt_trans h4 (by decide))]
  omega
theorem pe_r {w : Nat → Nat} {G : Nat} {s y : Int32} (hy : 0 ≤ y) (hE : PE w G s y) : 0 ≤ y ∧ y < 3 := by
  obtain ⟨a, ha, h1, h2⟩ := hE
  refine ⟨hy, ?_⟩
  rw [i_lt]
  rw [i_le] at hy
  simp only [Int32.reduceToInt] at *
  unfold Int32.toNatClampNeg at h1
  omega
theorem pr_A {w : Nat → Nat} {G k : Nat} {v : Int32} (h0 : 0 ≤ v) (h : v.toNatClampNeg + vV w G k % 1000 ≤ 11) : 0 ≤ v ∧ v < 48 := by
  refine ⟨h0, ?_⟩
  rw [i_lt]
  rw [i_le] at h0
  simp only [Int32.reduceToInt] at *
  unfold Int32.toNatClampNeg at h
  omega
theorem pr_led {s a : Int32} (hs : 0 ≤ s ∧ s < 144) (ha : 0 ≤ a ∧ a < 3) : (x_led s a).toNatClampNeg = vled s.toNatClampNeg a.toNatClampNeg := by
  have h := vled_lt (s := s.toNatClampNeg) (a := a.toNatClampNeg) (tn_ 144 144 (by decide) rfl hs)
  rw [x_led_n hs ha, nI_clamp (by omega)]
theorem pr_A2 {w : Nat → Nat} {G : Nat} {s a v : Int32} (hs : 0 ≤ s ∧ s < 144) (ha : 0 ≤ a ∧ a < 3) (h0 : 0 ≤ v) (h : v.toNatClampNeg + vV w G s.toNatClampNeg % 1000 ≤ 11) (hq : vV w G s.toNatClampNeg = vpr w s.toNatClampNeg a.toNatClampNeg + vV w G (vled s.toNatClampNeg a.toNatClampNeg)) : (v + 1).toNatClampNeg + vV w G (x_led s a).toNatClampNeg % 1000 ≤ 11 ∧ 0 ≤ v + 1 := by
  have h1 := (pr_A h0 h).2
  have h2 := vV_C w hq
  rw [pr_led hs ha, tn_s h0 (Int32.lt_trans h1 (by decide))]
  refine ⟨by omega, ?_⟩
  have e := a32 (x := v) (y := 1) (by simp only [i_le, i_lt, Int32.reduceToInt] at *; omega)
  simp only [i_le, i_lt, Int32.reduceToInt] at *
  omega
theorem pr_ok {S : XS} {x1 : Int32} (hI : XInv S) (h : 0 ≤ (x_needPlate S x1 0).1) : (0 ≤ x1 ∧ x1 < 4) ∧ (¬ S.2.2.2 5 (Int32.toNatClampNeg x1) = 0) ∧ (¬ S.2.2.2 4 (2 * (Int32.toNatClampNeg x1) + (Int32.toNatClampNeg 0)) = 0) ∧ (S.2.2.2 0 (S.2.2.2 4 (2 * (Int32.toNatClampNeg x1) + (Int32.toNatClampNeg 0)) - 1) = 1 ∨ S.2.2.2 0 (S.2.2.2 4 (2 * (Int32.toNatClampNeg x1) + (Int32.toNatClampNeg 0)) - 1) = 3) := (x_needPlate_ok S x1 0 hI h).2
theorem at12 {S : XS} {j : Nat} (hI : XInv S) (hj : j < S.2.2.2 7 0) (hk : S.2.2.2 0 j = 1 ∨ S.2.2.2 0 j = 3) (h12 : nI (S.2.2.2 1 j) = 12) : 0 ≤ S.1 50 j ∧ S.1 50 j < 12 := by
  have h := xi_at hI hj hk
  rw [h12] at h
  exact h
theorem pe_i {y : Int32} (h0 : 0 ≤ y) (h : y < 2) : 0 ≤ y + 1 := by
  have e := a32 (x := y) (y := 1) (by simp only [i_le, i_lt, Int32.reduceToInt] at *; omega)
  simp only [i_le, i_lt, Int32.reduceToInt] at *
  omega
theorem pe_d {y : Int32} {f : Nat} (h0 : 0 ≤ y) (h : y < 2) (hf : 3 - y.toNatClampNeg < f + 1) : 3 - (y + 1).toNatClampNeg < f := by
  rw [tn_s h0 (Int32.lt_trans h (by decide))]
  rw [i_lt] at h
  rw [i_le] at h0
  simp only [Int32.reduceToInt] at *
  unfold Int32.toNatClampNeg at *
  omega
theorem pr_d {w : Nat → Nat} {G f : Nat} {s a : Int32} (hs : 0 ≤ s ∧ s < 144) (ha : 0 ≤ a ∧ a < 3) (hq : vV w G s.toNatClampNeg = vpr w s.toNatClampNeg a.toNatClampNeg + vV w G (vled s.toNatClampNeg a.toNatClampNeg)) (hf : vV w G s.toNatClampNeg < f + 1) : vV w G (x_led s a).toNatClampNeg < f := by
  rw [pr_led hs ha]
  have : 1 ≤ vpr w s.toNatClampNeg a.toNatClampNeg := by unfold vpr; split <;> omega
  omega
theorem x_putRight_o5 (S : XS) (x1 : Int32) (x2 : Int32) (hI : XInv S) (hk0 : 0 ≤ x_kOf 0 ∧ x_kOf 0 < 2) (c1 : ¬ (x_isTower x1) = 0) (c2 : ¬ (x_in x2 1 12) = 0) (hN22 : (x_needPlate S x1 0).2.2.2.2 = S.2.2.2) (hI22 : XInv (x_needPlate S x1 0).2) (c3 : 0 ≤ (x_needPlate S x1 0).1) (okc3_0 : 0 ≤ x1 ∧ x1 < 4) (okc3_1 : ¬ S.2.2.2 5 (Int32.toNatClampNeg x1) = 0) (okc3_2 : ¬ S.2.2.2 4 (2 * (Int32.toNatClampNeg x1) + (Int32.toNatClampNeg (x_kOf (0 : Int32)))) = 0) (okc3_3 : S.2.2.2 0 (S.2.2.2 4 (2 * (Int32.toNatClampNeg x1) + (Int32.toNatClampNeg (x_kOf (0 : Int32)))) - 1) = 1 ∨ S.2.2.2 0 (S.2.2.2 4 (2 * (Int32.toNatClampNeg x1) + (Int32.toNatClampNeg (x_kOf (0 : Int32)))) - 1) = 3) (hokx : 0 ≤ x1 ∧ x1 < 4) (hokt : ¬ S.2.2.2 5 ((Int32.toNatClampNeg x1)) = 0) (hok5 : ¬ S.2.2.2 4 (2 * (Int32.toNatClampNeg x1) + (Int32.toNatClampNeg 0)) = 0) (hjp : (S.2.2.2 4 (2 * (Int32.toNatClampNeg x1) + (Int32.toNatClampNeg 0)) - 1) < S.2.2.2 7 0) (hP0 : S.2.2.2 0 (S.2.2.2 4 (2 * (Int32.toNatClampNeg x1) + (Int32.toNatClampNeg 0)) - 1) = 1 ∨ S.2.2.2 0 (S.2.2.2 4 (2 * (Int32.toNatClampNeg x1) + (Int32.toNatClampNeg 0)) - 1) = 3) (c4 : (xw_many S (S.2.2.2 4 (2 * (Int32.toNatClampNeg x1) + (Int32.toNatClampNeg 0)) - 1)) = 12) (h12 : nI (S.2.2.2 1 (S.2.2.2 4 (2 * (Int32.toNatClampNeg x1) + (Int32.toNatClampNeg 0)) - 1)) = 12) : 1 ≤ x2 ∧ x2 ≤ 12 := by 
  clear okc3_2 okc3_3
  have bl_x1 := Int32.toInt_lt x1
  have bl_x2 := Int32.toInt_lt x2
  try simp only [x_in_eq, x_isTower_eq] at *
  try simp only [i_le, i_lt, i_eq, Int32.reduceToInt] at *
  first | (have e_0 := m32 (x := 2) (y := (Int32.toNatClampNeg x1)) (by (try simp only [Int32.reduceToInt]); omega); (try simp only [Int32.reduceToInt] at e_0)) | skip
  first | (have e_1 := a32 (x := (2 * (Int32.toNatClampNeg x1))) (y := (Int32.toNatClampNeg 0)) (by (try simp only [Int32.reduceToInt]); omega); (try simp only [Int32.reduceToInt] at e_1)) | skip
  first | (have e_2 := s32 (x := (S.2.2.2 4 (2 * (Int32.toNatClampNeg x1) + (Int32.toNatClampNeg 0)))) (y := 1) (by (try simp only [Int32.reduceToInt]); omega); (try simp only [Int32.reduceToInt] at e_2)) | skip
  try simp only [Int32.reduceToInt] at *
  omega
def x_putRight_v94 (S : XS) (x1 : Int32) (x2 : Int32) : Int32 := (((12 * ((x_layCosts S (S.2.2.2 4 (2 * (Int32.toNatClampNeg x1) + (Int32.toNatClampNeg 0)) - 1) x2).1 50 (S.2.2.2 4 (2 * (Int32.toNatClampNeg x1) + (Int32.toNatClampNeg 0)) - 1))) + (x_nextHour ((x_layCosts S (S.2.2.2 4 (2 * (Int32.toNatClampNeg x1) + (Int32.toNatClampNeg 0)) - 1) x2).1 60 (Int32.toNatClampNeg x1)))) - 1)
def x_putRight_v103 (S : XS) (x1 : Int32) (x2 : Int32) : Int32 := ((x_layCosts S (S.2.2.2 4 (2 * (Int32.toNatClampNeg x1) + (Int32.toNatClampNeg 0)) - 1) x2).1 8 (Int32.toNatClampNeg (x_putRight_v94 S x1 x2)))
def x_putRight_L123 (S : XS) (x1 : Int32) (y5_110 : Int32) (S_110 : XS) : Nat → Int32 → Int32
  | 0, y7_123 => y7_123
  | f123 + 1, y7_123 => (if (x_throughOf S_110 (S.2.2.2 4 (2 * (Int32.toNatClampNeg x1) + (Int32.toNatClampNeg 0)) - 1) y5_110 y7_123) = (S_110.1 8 (Int32.toNatClampNeg y5_110)) then y7_123 else (x_putRight_L123 S x1 y5_110 S_110 f123 (y7_123 + 1)))
theorem x_putRight_L123_s (S : XS) (x1 : Int32) (y5_110 : Int32) (S_110 : XS) (f123 : Nat) (y7_123 : Int32) : x_putRight_L123 S x1 y5_110 S_110 (f123 + 1) y7_123 = (if (x_throughOf S_110 (S.2.2.2 4 (2 * (Int32.toNatClampNeg x1) + (Int32.toNatClampNeg 0)) - 1) y5_110 y7_123) = (S_110.1 8 (Int32.toNatClampNeg y5_110)) then y7_123 else (x_putRight_L123 S x1 y5_110 S_110 f123 (y7_123 + 1))) := rfl
def x_putRight_R123 (S : XS) (x1 : Int32) (y5_110 : Int32) (S_110 : XS) : Int32 := x_putRight_L123 S x1 y5_110 S_110 (fz (3 - (0 : Int32).toNatClampNeg + 1)) 0
theorem x_putRight_L123_P (S : XS) (x1 : Int32) (x2 : Int32) (y5_110 : Int32) (S_110 : XS) (hI : XInv S) (hk0 : 0 ≤ x_kOf 0 ∧ x_kOf 0 < 2) (c1 : ¬ (x_isTower x1) = 0) (c2 : ¬ (x_in x2 1 12) = 0) (c3 : 0 ≤ (x_needPlate S x1 0).1) (c4 : (xw_many S (S.2.2.2 4 (2 * (Int32.toNatClampNeg x1) + (Int32.toNatClampNeg 0)) - 1)) = 12) (hJ5 : XInv S_110) (hM5 : S_110.2.2.2 = S.2.2.2) (hB5 : S_110.2.2.1 = S.2.2.1) (hst5 : 0 ≤ y5_110 ∧ y5_110 < 144) (hC5 : (∀ k : Nat, k < 144 → S_110.1 8 k = nI (vV (wx S (S.2.2.2 4 (2 * (Int32.toNatClampNeg x1) + (Int32.toNatClampNeg 0)) - 1)) (gx x2) k))) (hA5 : (S_110.1 9 0).toNatClampNeg + vV (wx S (S.2.2.2 4 (2 * (Int32.toNatClampNeg x1) + (Int32.toNatClampNeg 0)) - 1)) (gx x2) (y5_110 : Int32).toNatClampNeg % 1000 ≤ 11 ∧ 0 ≤ S_110.1 9 0) (c6 : ¬ (S_110.1 8 (Int32.toNatClampNeg y5_110)) ≤ 0) : ∀ (f123 : Nat) (y7_123 : Int32), 3 - (y7_123 : Int32).toNatClampNeg < f123 → (0 ≤ y7_123) → (PE (wx S (S.2.2.2 4 (2 * (Int32.toNatClampNeg x1) + (Int32.toNatClampNeg 0)) - 1)) (gx x2) y5_110 y7_123) → (0 ≤ (x_putRight_L123 S x1 y5_110 S_110 f123 y7_123) ∧ (x_putRight_L123 S x1 y5_110 S_110 f123 y7_123) < 3) ∧ (vV (wx S (S.2.2.2 4 (2 * (Int32.toNatClampNeg x1) + (Int32.toNatClampNeg 0)) - 1)) (gx x2) (y5_110 : Int32).toNatClampNeg = vpr (wx S (S.2.2.2 4 (2 * (Int32.toNatClampNeg x1) + (Int32.toNatClampNeg 0)) - 1)) (y5_110 : Int32).toNatClampNeg ((x_putRight_L123 S x1 y5_110 S_110 f123 y7_123) : Int32).toNatClampNeg + vV (wx S (S.2.2.2 4 (2 * (Int32.toNatClampNeg x1) + (Int32.toNatClampNeg 0)) - 1)) (gx x2) (vled (y5_110 : Int32).toNatClampNeg ((x_putRight_L123 S x1 y5_110 S_110 f123 y7_123) : Int32).toNatClampNeg)) := by
  intro f123
  induction f123 with
  | zero =>
    intro y7_123 hf hi7 hE7
    exact absurd hf (Nat.not_lt_zero _)
  | succ f123 ih =>
    intro y7_123 hf hi7 hE7
    rw [x_putRight_L123_s]
    refine ifI (P := fun (z : Int32) => (0 ≤ z ∧ z < 3) ∧ (vV (wx S (S.2.2.2 4 (2 * (Int32.toNatClampNeg x1) + (Int32.toNatClampNeg 0)) - 1)) (gx x2) (y5_110 : Int32).toNatClampNeg = vpr (wx S (S.2.2.2 4 (2 * (Int32.toNatClampNeg x1) + (Int32.toNatClampNeg 0)) - 1)) (y5_110 : Int32).toNatClampNeg (z : Int32).toNatClampNeg + vV (wx S (S.2.2.2 4 (2 * (Int32.toNatClampNeg x1) + (Int32.toNatClampNeg 0)) - 1)) (gx x2) (vled (y5_110 : Int32).toNatClampNeg (z : Int32).toNatClampNeg))) (fun c7 => ?_) (fun c7 => ?_)
    · have hokx : 0 ≤ x1 ∧ x1 < 4 := (pr_ok (x1 := x1) hI c3).1
      have hok5 : ¬ S.2.2.2 4 (2 * (Int32.toNatClampNeg x1) + (Int32.toNatClampNeg 0)) = 0 := (pr_ok (x1 := x1) hI c3).2.2.1
      have hjp : (S.2.2.2 4 (2 * (Int32.toNatClampNeg x1) + (Int32.toNatClampNeg 0)) - 1) < S.2.2.2 7 0 := xi_own hI (tp8 (tn4 hokx) (by decide)) hok5
      have hP0 : S.2.2.2 0 (S.2.2.2 4 (2 * (Int32.toNatClampNeg x1) + (Int32.toNatClampNeg 0)) - 1) = 1 ∨ S.2.2.2 0 (S.2.2.2 4 (2 * (Int32.toNatClampNeg x1) + (Int32.toNatClampNeg 0)) - 1) = 3 := (pr_ok (x1 := x1) hI c3).2.2.2
      have h12 : nI (S.2.2.2 1 (S.2.2.2 4 (2 * (Int32.toNatClampNeg x1) + (Int32.toNatClampNeg 0)) - 1)) = 12 := by assumption
      exact ⟨pe_r hi7 hE7, (pe_thr (w24_wx hI hjp hP0 h12) (tn_ 144 144 (by decide) rfl hst5) hC5).mp (by rw [← thr_eq hI hjp hP0 h12 hB5 hst5 (pe_r hi7 hE7)]; assumption)⟩
    · have hokx : 0 ≤ x1 ∧ x1 < 4 := (pr_ok (x1 := x1) hI c3).1
      have hok5 : ¬ S.2.2.2 4 (2 * (Int32.toNatClampNeg x1) + (Int32.toNatClampNeg 0)) = 0 := (pr_ok (x1 := x1) hI c3).2.2.1
      have hjp : (S.2.2.2 4 (2 * (Int32.toNatClampNeg x1) + (Int32.toNatClampNeg 0)) - 1) < S.2.2.2 7 0 := xi_own hI (tp8 (tn4 hokx) (by decide)) hok5
      have hP0 : S.2.2.2 0 (S.2.2.2 4 (2 * (Int32.toNatClampNeg x1) + (Int32.toNatClampNeg 0)) - 1) = 1 ∨ S.2.2.2 0 (S.2.2.2 4 (2 * (Int32.toNatClampNeg x1) + (Int32.toNatClampNeg 0)) - 1) = 3 := (pr_ok (x1 := x1) hI c3).2.2.2
      have h12 : nI (S.2.2.2 1 (S.2.2.2 4 (2 * (Int32.toNatClampNeg x1) + (Int32.toNatClampNeg 0)) - 1)) = 12 := by assumption
      exact ih (y7_123 + 1) (pe_d hi7 (pe_s (w24_wx hI hjp hP0 h12) hst5 hi7 hC5 hE7 (by rw [← thr_eq hI hjp hP0 h12 hB5 hst5 (pe_r hi7 hE7)]; assumption)).1 hf) (pe_i hi7 (pe_s (w24_wx hI hjp hP0 h12) hst5 hi7 hC5 hE7 (by rw [← thr_eq hI hjp hP0 h12 hB5 hst5 (pe_r hi7 hE7)]; assumption)).1) ((pe_s (w24_wx hI hjp hP0 h12) hst5 hi7 hC5 hE7 (by rw [← thr_eq hI hjp hP0 h12 hB5 hst5 (pe_r hi7 hE7)]; assumption)).2)
theorem x_putRight_R123_P (S : XS) (x1 : Int32) (x2 : Int32) (y5_110 : Int32) (S_110 : XS) (hI : XInv S) (hk0 : 0 ≤ x_kOf 0 ∧ x_kOf 0 < 2) (c1 : ¬ (x_isTower x1) = 0) (c2 : ¬ (x_in x2 1 12) = 0) (c3 : 0 ≤ (x_needPlate S x1 0).1) (c4 : (xw_many S (S.2.2.2 4 (2 * (Int32.toNatClampNeg x1) + (Int32.toNatClampNeg 0)) - 1)) = 12) (hJ5 : XInv S_110) (hM5 : S_110.2.2.2 = S.2.2.2) (hB5 : S_110.2.2.1 = S.2.2.1) (hst5 : 0 ≤ y5_110 ∧ y5_110 < 144) (hC5 : (∀ k : Nat, k < 144 → S_110.1 8 k = nI (vV (wx S (S.2.2.2 4 (2 * (Int32.toNatClampNeg x1) + (Int32.toNatClampNeg 0)) - 1)) (gx x2) k))) (hA5 : (S_110.1 9 0).toNatClampNeg + vV (wx S (S.2.2.2 4 (2 * (Int32.toNatClampNeg x1) + (Int32.toNatClampNeg 0)) - 1)) (gx x2) (y5_110 : Int32).toNatClampNeg % 1000 ≤ 11 ∧ 0 ≤ S_110.1 9 0) (c6 : ¬ (S_110.1 8 (Int32.toNatClampNeg y5_110)) ≤ 0) : (0 ≤ (x_putRight_R123 S x1 y5_110 S_110) ∧ (x_putRight_R123 S x1 y5_110 S_110) < 3) ∧ (vV (wx S (S.2.2.2 4 (2 * (Int32.toNatClampNeg x1) + (Int32.toNatClampNeg 0)) - 1)) (gx x2) (y5_110 : Int32).toNatClampNeg = vpr (wx S (S.2.2.2 4 (2 * (Int32.toNatClampNeg x1) + (Int32.toNatClampNeg 0)) - 1)) (y5_110 : Int32).toNatClampNeg ((x_putRight_R123 S x1 y5_110 S_110) : Int32).toNatClampNeg + vV (wx S (S.2.2.2 4 (2 * (Int32.toNatClampNeg x1) + (Int32.toNatClampNeg 0)) - 1)) (gx x2) (vled (y5_110 : Int32).toNatClampNeg ((x_putRight_R123 S x1 y5_110 S_110) : Int32).toNatClampNeg)) := by
  unfold x_putRight_R123
  have hN22 : (x_needPlate S x1 0).2.2.2.2 = S.2.2.2 := x_needPlate_N S x1 0
  have hI22 : XInv (x_needPlate S x1 0).2 := x_needPlate_inv S x1 0 (hI)
  have okc3_0 : 0 ≤ x1 ∧ x1 < 4 := (x_needPlate_ok S x1 0 hI c3).2.1
  have okc3_1 : ¬ S.2.2.2 5 (Int32.toNatClampNeg x1) = 0 := (x_needPlate_ok S x1 0 hI c3).2.2.1
  have okc3_2 : ¬ S.2.2.2 4 (2 * (Int32.toNatClampNeg x1) + (Int32.toNatClampNeg (x_kOf (0 : Int32)))) = 0 := (x_needPlate_ok S x1 0 hI c3).2.2.2.1
  have okc3_3 : S.2.2.2 0 (S.2.2.2 4 (2 * (Int32.toNatClampNeg x1) + (Int32.toNatClampNeg (x_kOf (0 : Int32)))) - 1) = 1 ∨ S.2.2.2 0 (S.2.2.2 4 (2 * (Int32.toNatClampNeg x1) + (Int32.toNatClampNeg (x_kOf (0 : Int32)))) - 1) = 3 := (x_needPlate_ok S x1 0 hI c3).2.2.2.2
  have hokx : 0 ≤ x1 ∧ x1 < 4 := (pr_ok (x1 := x1) hI c3).1
  have hokt : ¬ S.2.2.2 5 ((Int32.toNatClampNeg x1)) = 0 := (pr_ok (x1 := x1) hI c3).2.1
  have hok5 : ¬ S.2.2.2 4 (2 * (Int32.toNatClampNeg x1) + (Int32.toNatClampNeg 0)) = 0 := (pr_ok (x1 := x1) hI c3).2.2.1
  have hjp : (S.2.2.2 4 (2 * (Int32.toNatClampNeg x1) + (Int32.toNatClampNeg 0)) - 1) < S.2.2.2 7 0 := xi_own hI (tp8 (tn4 hokx) (by decide)) hok5
  have hP0 : S.2.2.2 0 (S.2.2.2 4 (2 * (Int32.toNatClampNeg x1) + (Int32.toNatClampNeg 0)) - 1) = 1 ∨ S.2.2.2 0 (S.2.2.2 4 (2 * (Int32.toNatClampNeg x1) + (Int32.toNatClampNeg 0)) - 1) = 3 := (pr_ok (x1 := x1) hI c3).2.2.2
  have h12 : nI (S.2.2.2 1 (S.2.2.2 4 (2 * (Int32.toNatClampNeg x1) + (Int32.toNatClampNeg 0)) - 1)) = 12 := by assumption
  have hhr : 1 ≤ x2 ∧ x2 ≤ 12 := x_putRight_o5 S x1 x2 hI hk0 c1 c2 hN22 hI22 c3 okc3_0 okc3_1 okc3_2 okc3_3 hokx hokt hok5 hjp hP0 c4 h12
  exact x_putRight_L123_P S x1 x2 y5_110 S_110 hI hk0 c1 c2 c3 c4 hJ5 hM5 hB5 hst5 hC5 hA5 c6 (fz (3 - (0 : Int32).toNatClampNeg + 1)) 0 (fz_lt _) (by decide) (pe_0 (w24_wx hI hjp hP0 h12) (gx_lt hhr).1 hst5 hC5 (by assumption))
def x_putRight_v177 (S : XS) (x1 : Int32) (y5_110 : Int32) (S_110 : XS) : Int32 := (x_led y5_110 (x_putRight_R123 S x1 y5_110 S_110))
def x_putRight_L110 (S : XS) (x1 : Int32) : Nat → Int32 → XS → Int32 × XS
  | 0, y5_110, S_110 => (y5_110, S_110)
  | f110 + 1, y5_110, S_110 => (if (S_110.1 8 (Int32.toNatClampNeg y5_110)) ≤ 0 then (y5_110, S_110) else (x_putRight_L110 S x1 f110 (x_putRight_v177 S x1 y5_110 S_110) (xu (xu S_110 10 (Int32.toNatClampNeg (S_110.1 9 0)) (x_putRight_R123 S x1 y5_110 S_110)) 9 0 ((S_110.1 9 0) + 1))))
theorem x_putRight_L110_s (S : XS) (x1 : Int32) (f110 : Nat) (y5_110 : Int32) (S_110 : XS) : x_putRight_L110 S x1 (f110 + 1) y5_110 S_110 = (if (S_110.1 8 (Int32.toNatClampNeg y5_110)) ≤ 0 then (y5_110, S_110) else (x_putRight_L110 S x1 f110 (x_putRight_v177 S x1 y5_110 S_110) (xu (xu S_110 10 (Int32.toNatClampNeg (S_110.1 9 0)) (x_putRight_R123 S x1 y5_110 S_110)) 9 0 ((S_110.1 9 0) + 1)))) := rfl
def x_putRight_R110 (S : XS) (x1 : Int32) (x2 : Int32) : Int32 × XS := x_putRight_L110 S x1 (fz (vV (wx S (S.2.2.2 4 (2 * (Int32.toNatClampNeg x1) + (Int32.toNatClampNeg 0)) - 1)) (gx x2) ((x_putRight_v94 S x1 x2) : Int32).toNatClampNeg + 1)) (x_putRight_v94 S x1 x2) (xu (x_layCosts S (S.2.2.2 4 (2 * (Int32.toNatClampNeg x1) + (Int32.toNatClampNeg 0)) - 1) x2) 9 0 0)
theorem x_putRight_o8 (S : XS) (x1 : Int32) (x2 : Int32) (y5_110 : Int32) (S_110 : XS) (hI : XInv S) (hk0 : 0 ≤ x_kOf 0 ∧ x_kOf 0 < 2) (c1 : ¬ (x_isTower x1) = 0) (c2 : ¬ (x_in x2 1 12) = 0) (hN22 : (x_needPlate S x1 0).2.2.2.2 = S.2.2.2) (hI22 : XInv (x_needPlate S x1 0).2) (c3 : 0 ≤ (x_needPlate S x1 0).1) (okc3_0 : 0 ≤ x1 ∧ x1 < 4) (okc3_1 : ¬ S.2.2.2 5 (Int32.toNatClampNeg x1) = 0) (okc3_2 : ¬ S.2.2.2 4 (2 * (Int32.toNatClampNeg x1) + (Int32.toNatClampNeg (x_kOf (0 : Int32)))) = 0) (okc3_3 : S.2.2.2 0 (S.2.2.2 4 (2 * (Int32.toNatClampNeg x1) + (Int32.toNatClampNeg (x_kOf (0 : Int32)))) - 1) = 1 ∨ S.2.2.2 0 (S.2.2.2 4 (2 * (Int32.toNatClampNeg x1) + (Int32.toNatClampNeg (x_kOf (0 : Int32)))) - 1) = 3) (hokx : 0 ≤ x1 ∧ x1 < 4) (hokt : ¬ S.2.2.2 5 ((Int32.toNatClampNeg x1)) = 0) (hok5 : ¬ S.2.2.2 4 (2 * (Int32.toNatClampNeg x1) + (Int32.toNatClampNeg 0)) = 0) (hjp : (S.2.2.2 4 (2 * (Int32.toNatClampNeg x1) + (Int32.toNatClampNeg 0)) - 1) < S.2.2.2 7 0) (hP0 : S.2.2.2 0 (S.2.2.2 4 (2 * (Int32.toNatClampNeg x1) + (Int32.toNatClampNeg 0)) - 1) = 1 ∨ S.2.2.2 0 (S.2.2.2 4 (2 * (Int32.toNatClampNeg x1) + (Int32.toNatClampNeg 0)) - 1) = 3) (c4 : (xw_many S (S.2.2.2 4 (2 * (Int32.toNatClampNeg x1) + (Int32.toNatClampNeg 0)) - 1)) = 12) (h12 : nI (S.2.2.2 1 (S.2.2.2 4 (2 * (Int32.toNatClampNeg x1) + (Int32.toNatClampNeg 0)) - 1)) = 12) (hhr : 1 ≤ x2 ∧ x2 ≤ 12) (hN68 : (x_layCosts S (S.2.2.2 4 (2 * (Int32.toNatClampNeg x1) + (Int32.toNatClampNeg 0)) - 1) x2).2.2.2 = S.2.2.2) (hI68 : XInv (x_layCosts S (S.2.2.2 4 (2 * (Int32.toNatClampNeg x1) + (Int32.toNatClampNeg 0)) - 1) x2)) (hVc : (∀ k : Nat, k < 144 → (x_layCosts S (S.2.2.2 4 (2 * (Int32.toNatClampNeg x1) + (Int32.toNatClampNeg 0)) - 1) x2).1 8 k = nI (vV (wx S (S.2.2.2 4 (2 * (Int32.toNatClampNeg x1) + (Int32.toNatClampNeg 0)) - 1)) (gx x2) k)) ∧ (x_layCosts S (S.2.2.2 4 (2 * (Int32.toNatClampNeg x1) + (Int32.toNatClampNeg 0)) - 1) x2).2.2.1 = S.2.2.1) (hst : 0 ≤ (x_putRight_v94 S x1 x2) ∧ (x_putRight_v94 S x1 x2) < 144) (hJ5 : XInv S_110) (hM5 : S_110.2.2.2 = S.2.2.2) (hB5 : S_110.2.2.1 = S.2.2.1) (hst5 : 0 ≤ y5_110 ∧ y5_110 < 144) (hC5 : (∀ k : Nat, k < 144 → S_110.1 8 k = nI (vV (wx S (S.2.2.2 4 (2 * (Int32.toNatClampNeg x1) + (Int32.toNatClampNeg 0)) - 1)) (gx x2) k))) (hA5 : (S_110.1 9 0).toNatClampNeg + vV (wx S (S.2.2.2 4 (2 * (Int32.toNatClampNeg x1) + (Int32.toNatClampNeg 0)) - 1)) (gx x2) (y5_110 : Int32).toNatClampNeg % 1000 ≤ 11 ∧ 0 ≤ S_110.1 9 0) (c6 : ¬ (S_110.1 8 (Int32.toNatClampNeg y5_110)) ≤ 0) (hr7p : 0 ≤ (x_putRight_R123 S x1 y5_110 S_110) ∧ (x_putRight_R123 S x1 y5_110 S_110) < 3) (hq7p : vV (wx S (S.2.2.2 4 (2 * (Int32.toNatClampNeg x1) + (Int32.toNatClampNeg 0)) - 1)) (gx x2) (y5_110 : Int32).toNatClampNeg = vpr (wx S (S.2.2.2 4 (2 * (Int32.toNatClampNeg x1) + (Int32.toNatClampNeg 0)) - 1)) (y5_110 : Int32).toNatClampNeg ((x_putRight_R123 S x1 y5_110 S_110) : Int32).toNatClampNeg + vV (wx S (S.2.2.2 4 (2 * (Int32.toNatClampNeg x1) + (Int32.toNatClampNeg 0)) - 1)) (gx x2) (vled (y5_110 : Int32).toNatClampNeg ((x_putRight_R123 S x1 y5_110 S_110) : Int32).toNatClampNeg)) (hac : 0 ≤ S_110.1 9 0 ∧ S_110.1 9 0 < 48) : 0 ≤ ((S_110.1 9 0) + 1) ∧ ((S_110.1 9 0) + 1) ≤ 48 := by 
  clear okc3_2 okc3_3 hA5 hq7p
  have bl_x1 := Int32.toInt_lt x1
  have bl_x2 := Int32.toInt_lt x2
  have bl_y5_110 := Int32.toInt_lt y5_110
  try (have bu_0 := Int32.toInt_lt (S_110.1 8 (Int32.toNatClampNeg y5_110)))
  try simp only [x_in_eq, x_isTower_eq, x_putRight_v94] at *
  try simp only [i_le, i_lt, i_eq, Int32.reduceToInt] at *
  first | (have e_0 := m32 (x := 2) (y := (Int32.toNatClampNeg x1)) (by (try simp only [Int32.reduceToInt]); omega); (try simp only [Int32.reduceToInt] at e_0)) | skip
  first | (have e_1 := a32 (x := (2 * (Int32.toNatClampNeg x1))) (y := (Int32.toNatClampNeg 0)) (by (try simp only [Int32.reduceToInt]); omega); (try simp only [Int32.reduceToInt] at e_1)) | skip
  first | (have e_2 := s32 (x := (S.2.2.2 4 (2 * (Int32.toNatClampNeg x1) + (Int32.toNatClampNeg 0)))) (y := 1) (by (try simp only [Int32.reduceToInt]); omega); (try simp only [Int32.reduceToInt] at e_2)) | skip
  first | (have e_3 := m32 (x := 12) (y := ((x_layCosts S (S.2.2.2 4 (2 * (Int32.toNatClampNeg x1) + (Int32.toNatClampNeg 0)) - 1) x2).1 50 (S.2.2.2 4 (2 * (Int32.toNatClampNeg x1) + (Int32.toNatClampNeg 0)) - 1))) (by (try simp only [Int32.reduceToInt]); omega); (try simp only [Int32.reduceToInt] at e_3)) | skip
  first | (have e_4 := a32 (x := (12 * ((x_layCosts S (S.2.2.2 4 (2 * (Int32.toNatClampNeg x1) + (Int32.toNatClampNeg 0)) - 1) x2).1 50 (S.2.2.2 4 (2 * (Int32.toNatClampNeg x1) + (Int32.toNatClampNeg 0)) - 1)))) (y := (x_nextHour ((x_layCosts S (S.2.2.2 4 (2 * (Int32.toNatClampNeg x1) + (Int32.toNatClampNeg 0)) - 1) x2).1 60 (Int32.toNatClampNeg x1)))) (by (try simp only [Int32.reduceToInt]); omega); (try simp only [Int32.reduceToInt] at e_4)) | skip
  first | (have e_5 := s32 (x := ((12 * ((x_layCosts S (S.2.2.2 4 (2 * (Int32.toNatClampNeg x1) + (Int32.toNatClampNeg 0)) - 1) x2).1 50 (S.2.2.2 4 (2 * (Int32.toNatClampNeg x1) + (Int32.toNatClampNeg 0)) - 1))) + (x_nextHour ((x_layCosts S (S.2.2.2 4 (2 * (Int32.toNatClampNeg x1) + (Int32.toNatClampNeg 0)) - 1) x2).1 60 (Int32.toNatClampNeg x1))))) (y := 1) (by (try simp only [Int32.reduceToInt]); omega); (try simp only [Int32.reduceToInt] at e_5)) | skip
  first | (have e_6 := a32 (x := (S_110.1 9 0)) (y := 1) (by (try simp only [Int32.reduceToInt]); omega); (try simp only [Int32.reduceToInt] at e_6)) | skip
  try simp only [Int32.reduceToInt] at *
  omega
theorem x_putRight_L110_P (S : XS) (x1 : Int32) (x2 : Int32) (hI : XInv S) (hk0 : 0 ≤ x_kOf 0 ∧ x_kOf 0 < 2) (c1 : ¬ (x_isTower x1) = 0) (c2 : ¬ (x_in x2 1 12) = 0) (c3 : 0 ≤ (x_needPlate S x1 0).1) (c4 : (xw_many S (S.2.2.2 4 (2 * (Int32.toNatClampNeg x1) + (Int32.toNatClampNeg 0)) - 1)) = 12) : ∀ (f110 : Nat) (y5_110 : Int32) (S_110 : XS), vV (wx S (S.2.2.2 4 (2 * (Int32.toNatClampNeg x1) + (Int32.toNatClampNeg 0)) - 1)) (gx x2) (y5_110 : Int32).toNatClampNeg < f110 → (XInv S_110) → (S_110.2.2.2 = S.2.2.2) → (S_110.2.2.1 = S.2.2.1) → (0 ≤ y5_110 ∧ y5_110 < 144) → ((∀ k : Nat, k < 144 → S_110.1 8 k = nI (vV (wx S (S.2.2.2 4 (2 * (Int32.toNatClampNeg x1) + (Int32.toNatClampNeg 0)) - 1)) (gx x2) k))) → ((S_110.1 9 0).toNatClampNeg + vV (wx S (S.2.2.2 4 (2 * (Int32.toNatClampNeg x1) + (Int32.toNatClampNeg 0)) - 1)) (gx x2) (y5_110 : Int32).toNatClampNeg % 1000 ≤ 11 ∧ 0 ≤ S_110.1 9 0) → (XInv (x_putRight_L110 S x1 f110 y5_110 S_110).2) ∧ ((x_putRight_L110 S x1 f110 y5_110 S_110).2.2.2.2 = S.2.2.2) := by
  intro f110
  induction f110 with
  | zero =>
    intro y5_110 S_110 hf hJ5 hM5 hB5 hst5 hC5 hA5
    exact absurd hf (Nat.not_lt_zero _)
  | succ f110 ih =>
    intro y5_110 S_110 hf hJ5 hM5 hB5 hst5 hC5 hA5
    rw [x_putRight_L110_s]
    refine ifI (P := fun (z : Int32 × XS) => (XInv z.2) ∧ (z.2.2.2.2 = S.2.2.2)) (fun c6 => ?_) (fun c6 => ?_)
    · exact ⟨hJ5, hM5⟩
    · have hN22 : (x_needPlate S x1 0).2.2.2.2 = S.2.2.2 := x_needPlate_N S x1 0
      have hI22 : XInv (x_needPlate S x1 0).2 := x_needPlate_inv S x1 0 (hI)
      have okc3_0 : 0 ≤ x1 ∧ x1 < 4 := (x_needPlate_ok S x1 0 hI c3).2.1
      have okc3_1 : ¬ S.2.2.2 5 (Int32.toNatClampNeg x1) = 0 := (x_needPlate_ok S x1 0 hI c3).2.2.1
      have okc3_2 : ¬ S.2.2.2 4 (2 * (Int32.toNatClampNeg x1) + (Int32.toNatClampNeg (x_kOf (0 : Int32)))) = 0 := (x_needPlate_ok S x1 0 hI c3).2.2.2.1
      have okc3_3 : S.2.2.2 0 (S.2.2.2 4 (2 * (Int32.toNatClampNeg x1) + (Int32.toNatClampNeg (x_kOf (0 : Int32)))) - 1) = 1 ∨ S.2.2.2 0 (S.2.2.2 4 (2 * (Int32.toNatClampNeg x1) + (Int32.toNatClampNeg (x_kOf (0 : Int32)))) - 1) = 3 := (x_needPlate_ok S x1 0 hI c3).2.2.2.2
      have hokx : 0 ≤ x1 ∧ x1 < 4 := (pr_ok (x1 := x1) hI c3).1
      have hokt : ¬ S.2.2.2 5 ((Int32.toNatClampNeg x1)) = 0 := (pr_ok (x1 := x1) hI c3).2.1
      have hok5 : ¬ S.2.2.2 4 (2 * (Int32.toNatClampNeg x1) + (Int32.toNatClampNeg 0)) = 0 := (pr_ok (x1 := x1) hI c3).2.2.1
      have hjp : (S.2.2.2 4 (2 * (Int32.toNatClampNeg x1) + (Int32.toNatClampNeg 0)) - 1) < S.2.2.2 7 0 := xi_own hI (tp8 (tn4 hokx) (by decide)) hok5
      have hP0 : S.2.2.2 0 (S.2.2.2 4 (2 * (Int32.toNatClampNeg x1) + (Int32.toNatClampNeg 0)) - 1) = 1 ∨ S.2.2.2 0 (S.2.2.2 4 (2 * (Int32.toNatClampNeg x1) + (Int32.toNatClampNeg 0)) - 1) = 3 := (pr_ok (x1 := x1) hI c3).2.2.2
      have h12 : nI (S.2.2.2 1 (S.2.2.2 4 (2 * (Int32.toNatClampNeg x1) + (Int32.toNatClampNeg 0)) - 1)) = 12 := by assumption
      have hhr : 1 ≤ x2 ∧ x2 ≤ 12 := x_putRight_o5 S x1 x2 hI hk0 c1 c2 hN22 hI22 c3 okc3_0 okc3_1 okc3_2 okc3_3 hokx hokt hok5 hjp hP0 c4 h12
      have hN68 : (x_layCosts S (S.2.2.2 4 (2 * (Int32.toNatClampNeg x1) + (Int32.toNatClampNeg 0)) - 1) x2).2.2.2 = S.2.2.2 := x_layCosts_N S (S.2.2.2 4 (2 * (Int32.toNatClampNeg x1) + (Int32.toNatClampNeg 0)) - 1) x2 (hI) (hjp) (hP0) (h12) (hhr)
      have hI68 : XInv (x_layCosts S (S.2.2.2 4 (2 * (Int32.toNatClampNeg x1) + (Int32.toNatClampNeg 0)) - 1) x2) := x_layCosts_inv S (S.2.2.2 4 (2 * (Int32.toNatClampNeg x1) + (Int32.toNatClampNeg 0)) - 1) x2 (hI) (hjp) (hP0) (h12) (hhr)
      have hVc : (∀ k : Nat, k < 144 → (x_layCosts S (S.2.2.2 4 (2 * (Int32.toNatClampNeg x1) + (Int32.toNatClampNeg 0)) - 1) x2).1 8 k = nI (vV (wx S (S.2.2.2 4 (2 * (Int32.toNatClampNeg x1) + (Int32.toNatClampNeg 0)) - 1)) (gx x2) k)) ∧ (x_layCosts S (S.2.2.2 4 (2 * (Int32.toNatClampNeg x1) + (Int32.toNatClampNeg 0)) - 1) x2).2.2.1 = S.2.2.1 := x_layCosts_V S _ x2 hI hjp hP0 h12 hhr
      have hst : 0 ≤ (x_putRight_v94 S x1 x2) ∧ (x_putRight_v94 S x1 x2) < 144 := pr_st (at12 hI68 (by rw [hN68]; exact hjp) (by rw [hN68]; exact hP0) (by rw [hN68]; exact h12)) (x_nextHour_ok (xi_t hI68 (tn4 (by assumption)) (by rw [hN68]; assumption)).1)
      have hr7p : 0 ≤ (x_putRight_R123 S x1 y5_110 S_110) ∧ (x_putRight_R123 S x1 y5_110 S_110) < 3 := (x_putRight_R123_P S x1 x2 y5_110 S_110 hI hk0 c1 c2 c3 c4 hJ5 hM5 hB5 hst5 hC5 hA5 c6).1
      have hq7p : vV (wx S (S.2.2.2 4 (2 * (Int32.toNatClampNeg x1) + (Int32.toNatClampNeg 0)) - 1)) (gx x2) (y5_110 : Int32).toNatClampNeg = vpr (wx S (S.2.2.2 4 (2 * (Int32.toNatClampNeg x1) + (Int32.toNatClampNeg 0)) - 1)) (y5_110 : Int32).toNatClampNeg ((x_putRight_R123 S x1 y5_110 S_110) : Int32).toNatClampNeg + vV (wx S (S.2.2.2 4 (2 * (Int32.toNatClampNeg x1) + (Int32.toNatClampNeg 0)) - 1)) (gx x2) (vled (y5_110 : Int32).toNatClampNeg ((x_putRight_R123 S x1 y5_110 S_110) : Int32).toNatClampNeg) := (x_putRight_R123_P S x1 x2 y5_110 S_110 hI hk0 c1 c2 c3 c4 hJ5 hM5 hB5 hst5 hC5 hA5 c6).2
      have hac : 0 ≤ S_110.1 9 0 ∧ S_110.1 9 0 < 48 := pr_A hA5.2 hA5.1
      exact ih (x_putRight_v177 S x1 y5_110 S_110) (xu (xu S_110 10 (Int32.toNatClampNeg (S_110.1 9 0)) (x_putRight_R123 S x1 y5_110 S_110)) 9 0 ((S_110.1 9 0) + 1)) (pr_d hst5 hr7p hq7p hf) ((XInv_9 (XInv_xu hJ5 _ _ _ (by decide)) _ _ (x_putRight_o8 S x1 x2 y5_110 S_110 hI hk0 c1 c2 hN22 hI22 c3 okc3_0 okc3_1 okc3_2 okc3_3 hokx hokt hok5 hjp hP0 c4 h12 hhr hN68 hI68 hVc hst hJ5 hM5 hB5 hst5 hC5 hA5 c6 hr7p hq7p hac))) (hM5) (hB5) (x_led_ok hst5 hr7p) (hC5) (by rw [xu_self]; exact pr_A2 hst5 hr7p hA5.2 hA5.1 hq7p)
theorem x_putRight_R110_P (S : XS) (x1 : Int32) (x2 : Int32) (hI : XInv S) (hk0 : 0 ≤ x_kOf 0 ∧ x_kOf 0 < 2) (c1 : ¬ (x_isTower x1) = 0) (c2 : ¬ (x_in x2 1 12) = 0) (c3 : 0 ≤ (x_needPlate S x1 0).1) (c4 : (xw_many S (S.2.2.2 4 (2 * (Int32.toNatClampNeg x1) + (Int32.toNatClampNeg 0)) - 1)) = 12) : (XInv (x_putRight_R110 S x1 x2).2) ∧ ((x_putRight_R110 S x1 x2).2.2.2.2 = S.2.2.2) := by
  unfold x_putRight_R110
  have hN22 : (x_needPlate S x1 0).2.2.2.2 = S.2.2.2 := x_needPlate_N S x1 0
  have hI22 : XInv (x_needPlate S x1 0).2 := x_needPlate_inv S x1 0 (hI)
  have okc3_0 : 0 ≤ x1 ∧ x1 < 4 := (x_needPlate_ok S x1 0 hI c3).2.1
  have okc3_1 : ¬ S.2.2.2 5 (Int32.toNatClampNeg x1) = 0 := (x_needPlate_ok S x1 0 hI c3).2.2.1
  have okc3_2 : ¬ S.2.2.2 4 (2 * (Int32.toNatClampNeg x1) + (Int32.toNatClampNeg (x_kOf (0 : Int32)))) = 0 := (x_needPlate_ok S x1 0 hI c3).2.2.2.1
  have okc3_3 : S.2.2.2 0 (S.2.2.2 4 (2 * (Int32.toNatClampNeg x1) + (Int32.toNatClampNeg (x_kOf (0 : Int32)))) - 1) = 1 ∨ S.2.2.2 0 (S.2.2.2 4 (2 * (Int32.toNatClampNeg x1) + (Int32.toNatClampNeg (x_kOf (0 : Int32)))) - 1) = 3 := (x_needPlate_ok S x1 0 hI c3).2.2.2.2
  have hokx : 0 ≤ x1 ∧ x1 < 4 := (pr_ok (x1 := x1) hI c3).1
  have hokt : ¬ S.2.2.2 5 ((Int32.toNatClampNeg x1)) = 0 := (pr_ok (x1 := x1) hI c3).2.1
  have hok5 : ¬ S.2.2.2 4 (2 * (Int32.toNatClampNeg x1) + (Int32.toNatClampNeg 0)) = 0 := (pr_ok (x1 := x1) hI c3).2.2.1
  have hjp : (S.2.2.2 4 (2 * (Int32.toNatClampNeg x1) + (Int32.toNatClampNeg 0)) - 1) < S.2.2.2 7 0 := xi_own hI (tp8 (tn4 hokx) (by decide)) hok5
  have hP0 : S.2.2.2 0 (S.2.2.2 4 (2 * (Int32.toNatClampNeg x1) + (Int32.toNatClampNeg 0)) - 1) = 1 ∨ S.2.2.2 0 (S.2.2.2 4 (2 * (Int32.toNatClampNeg x1) + (Int32.toNatClampNeg 0)) - 1) = 3 := (pr_ok (x1 := x1) hI c3).2.2.2
  have h12 : nI (S.2.2.2 1 (S.2.2.2 4 (2 * (Int32.toNatClampNeg x1) + (Int32.toNatClampNeg 0)) - 1)) = 12 := by assumption
  have hhr : 1 ≤ x2 ∧ x2 ≤ 12 := x_putRight_o5 S x1 x2 hI hk0 c1 c2 hN22 hI22 c3 okc3_0 okc3_1 okc3_2 okc3_3 hokx hokt hok5 hjp hP0 c4 h12
  have hN68 : (x_layCosts S (S.2.2.2 4 (2 * (Int32.toNatClampNeg x1) + (Int32.toNatClampNeg 0)) - 1) x2).2.2.2 = S.2.2.2 := x_layCosts_N S (S.2.2.2 4 (2 * (Int32.toNatClampNeg x1) + (Int32.toNatClampNeg 0)) - 1) x2 (hI) (hjp) (hP0) (h12) (hhr)
  have hI68 : XInv (x_layCosts S (S.2.2.2 4 (2 * (Int32.toNatClampNeg x1) + (Int32.toNatClampNeg 0)) - 1) x2) := x_layCosts_inv S (S.2.2.2 4 (2 * (Int32.toNatClampNeg x1) + (Int32.toNatClampNeg 0)) - 1) x2 (hI) (hjp) (hP0) (h12) (hhr)
  have hVc : (∀ k : Nat, k < 144 → (x_layCosts S (S.2.2.2 4 (2 * (Int32.toNatClampNeg x1) + (Int32.toNatClampNeg 0)) - 1) x2).1 8 k = nI (vV (wx S (S.2.2.2 4 (2 * (Int32.toNatClampNeg x1) + (Int32.toNatClampNeg 0)) - 1)) (gx x2) k)) ∧ (x_layCosts S (S.2.2.2 4 (2 * (Int32.toNatClampNeg x1) + (Int32.toNatClampNeg 0)) - 1) x2).2.2.1 = S.2.2.1 := x_layCosts_V S _ x2 hI hjp hP0 h12 hhr
  have hst : 0 ≤ (x_putRight_v94 S x1 x2) ∧ (x_putRight_v94 S x1 x2) < 144 := pr_st (at12 hI68 (by rw [hN68]; exact hjp) (by rw [hN68]; exact hP0) (by rw [hN68]; exact h12)) (x_nextHour_ok (xi_t hI68 (tn4 (by assumption)) (by rw [hN68]; assumption)).1)
  exact x_putRight_L110_P S x1 x2 hI hk0 c1 c2 c3 c4 (fz (vV (wx S (S.2.2.2 4 (2 * (Int32.toNatClampNeg x1) + (Int32.toNatClampNeg 0)) - 1)) (gx x2) ((x_putRight_v94 S x1 x2) : Int32).toNatClampNeg + 1)) (x_putRight_v94 S x1 x2) (xu (x_layCosts S (S.2.2.2 4 (2 * (Int32.toNatClampNeg x1) + (Int32.toNatClampNeg 0)) - 1) x2) 9 0 0) (fz_lt _) ((XInv_9 hI68 _ _ (by decide))) (hN68) (hVc.2) (hst) (hVc.1) (⟨by rw [xu_self, (vV_mod _ _ _).1]; exact Nat.le_trans (Nat.le_of_eq (Nat.zero_add _)) (vr_le (vd_lt _ _)), by rw [xu_self]; decide⟩)
def x_putRight (S : XS) (x1 : Int32) (x2 : Int32) : Int32 × XS := (if (x_isTower x1) = 0 then ((-1), S) else (if (x_in x2 1 12) = 0 then ((-1), S) else (if 0 ≤ (x_needPlate S x1 0).1 then (if (xw_many S (S.2.2.2 4 (2 * (Int32.toNatClampNeg x1) + (Int32.toNatClampNeg 0)) - 1)) = 12 then ((x_say (x_putRight_R110 S x1 x2).2 ((x_putRight_v103 S x1 x2) - (x_putRight_v103 S x1 x2) / 1000 * 1000) ((x_putRight_v103 S x1 x2) / 1000)).1, (x_say (x_putRight_R110 S x1 x2).2 ((x_putRight_v103 S x1 x2) - (x_putRight_v103 S x1 x2) / 1000 * 1000) ((x_putRight_v103 S x1 x2) / 1000)).2) else ((x_found S 3).1, (x_found S 3).2)) else ((x_needPlate S x1 0).1, (x_needPlate S x1 0).2))))
theorem x_putRight_N (S : XS) (x1 : Int32) (x2 : Int32) (hI : XInv S) : (x_putRight S x1 x2).2.2.2.2 = S.2.2.2 := by
  have hk0 : 0 ≤ x_kOf 0 ∧ x_kOf 0 < 2 := x_kOf_b 0
  unfold x_putRight
  refine ifI (P := fun (z : Int32 × XS) => z.2.2.2.2 = S.2.2.2) (fun c1 => ?_) (fun c1 => ?_)
  · exact rfl
  · refine ifI (P := fun (z : Int32 × XS) => z.2.2.2.2 = S.2.2.2) (fun c2 => ?_) (fun c2 => ?_)
    · exact rfl
    · refine ifI (P := fun (z : Int32 × XS) => z.2.2.2.2 = S.2.2.2) (fun c3 => ?_) (fun c3 => ?_)
      · refine ifI (P := fun (z : Int32 × XS) => z.2.2.2.2 = S.2.2.2) (fun c4 => ?_) (fun c4 => ?_)
        · have hM5p : (x_putRight_R110 S x1 x2).2.2.2.2 = S.2.2.2 := (x_putRight_R110_P S x1 x2 hI hk0 c1 c2 c3 c4).2
          have hN195 : (x_say (x_putRight_R110 S x1 x2).2 ((x_putRight_v103 S x1 x2) - (x_putRight_v103 S x1 x2) / 1000 * 1000) ((x_putRight_v103 S x1 x2) / 1000)).2.2.2.2 = (x_putRight_R110 S x1 x2).2.2.2.2 := x_say_N (x_putRight_R110 S x1 x2).2 ((x_putRight_v103 S x1 x2) - (x_putRight_v103 S x1 x2) / 1000 * 1000) ((x_putRight_v103 S x1 x2) / 1000)
          exact (hN195.trans hM5p)
        · have hN60 : (x_found S 3).2.2.2.2 = S.2.2.2 := x_found_N S 3
          exact hN60
      · have hN22 : (x_needPlate S x1 0).2.2.2.2 = S.2.2.2 := x_needPlate_N S x1 0
        exact hN22
theorem x_putRight_inv (S : XS) (x1 : Int32) (x2 : Int32) (hI : XInv S) : XInv (x_putRight S x1 x2).2 := by
  have hk0 : 0 ≤ x_kOf 0 ∧ x_kOf 0 < 2 := x_kOf_b 0
  unfold x_putRight
  refine ifI (P := fun (z : Int32 × XS) => XInv z.2) (fun c1 => ?_) (fun c1 => ?_)
  · exact hI
  · refine ifI (P := fun (z : Int32 × XS) => XInv z.2) (fun c2 => ?_) (fun c2 => ?_)
    · exact hI
    · refine ifI (P := fun (z : Int32 × XS) => XInv z.2) (fun c3 => ?_) (fun c3 => ?_)
      · refine ifI (P := fun (z : Int32 × XS) => XInv z.2) (fun c4 => ?_) (fun c4 => ?_)
        · have hJ5p : XInv (x_putRight_R110 S x1 x2).2 := (x_putRight_R110_P S x1 x2 hI hk0 c1 c2 c3 c4).1
          have hI195 : XInv (x_say (x_putRight_R110 S x1 x2).2 ((x_putRight_v103 S x1 x2) - (x_putRight_v103 S x1 x2) / 1000 * 1000) ((x_putRight_v103 S x1 x2) / 1000)).2 := x_say_invx (x_putRight_R110 S x1 x2).2 ((x_putRight_v103 S x1 x2) - (x_putRight_v103 S x1 x2) / 1000 * 1000) ((x_putRight_v103 S x1 x2) / 1000) hJ5p
          exact hI195
        · have hI60 : XInv (x_found S 3).2 := x_found_invx S 3 hI
          exact hI60
      · have hI22 : XInv (x_needPlate S x1 0).2 := x_needPlate_inv S x1 0 (hI)
        exact hI22
set_option maxHeartbeats 4000000 in
theorem xt_putRight (l : Launch) (D : va_G) (d : Nat → ClassId) (A : Nat → Prop) (ad : XK → Nat) (S : XS) (x1 : Int32) (x2 : Int32) (hI : XInv S) : XI l yX0_putRight cX0_putRight 8 .int (rm_ 5) D d A ad S [.ref (ad (0, 0)), .int x1, .int x2] (x_putRight S x1 x2) := by
  refine x_startI RX0 rfl (by decide) (Nat.le_of_ble_eq_true rfl) ?_
  intro p e s m av below meth c ls Q X hrt hlk hl hR hQ
  have hx := X.1.1.1
  have hb := X.1.1.2.1
  have hown := X.1.1.2.2.2.1
  have hts := X.1.1.2.2.2.2
  have hS : va_S A s.heap s.heap [] := va_S.rf
  have hl : lv_has ls 8 [(0, .ref (ad (0, 0))), (1, .int x1), (2, .int x2)] := hl
  have hk0 : 0 ≤ x_kOf 0 ∧ x_kOf 0 < 2 := x_kOf_b 0
  refine lv_iload_n hx hb dX0_putRight_0 rfl (lv_at hl 1 rfl) ?_
  refine s_ci X.1.1 (st_x_isTower l x1) 1 (lw_S q686 q687 q58 q688) ⟨rfl, rfl⟩ (by decide +kernel) ⟨by decide, by decide⟩ ⟨by decide, by decide⟩ rfl hl.1 rfl (Nat.le_of_ble_eq_true rfl) dX0_putRight_1 ?_
  refine lv_if_eq (tgt := 17) hx hb dX0_putRight_4 (by decide) (fun c1 => ?_) (fun c1 => ?_)
  · refine lv_iconst (v := (-1)) hx hb dX0_putRight_17 (by decide) ?_
    exact x_ri hx hb hrt (rfl) hlk hR hS hQ (if_pos c1) dX0_putRight_18
  · refine lv_iload_n hx hb dX0_putRight_7 rfl (lv_at hl 2 rfl) ?_
    refine lv_iconst (v := 1) hx hb dX0_putRight_8 (by decide) ?_
    refine lv_bipush (v := 12) hx hb dX0_putRight_9 (by decide) ?_
    refine s_ci X.1.1 (st_x_in l x2 1 12) 3 (lw_S q280 q281 q58 q282) ⟨rfl, rfl⟩ (by decide +kernel) ⟨by decide, by decide⟩ ⟨by decide, by decide⟩ rfl hl.1 rfl (Nat.le_of_ble_eq_true rfl) dX0_putRight_11 ?_
    refine lv_if_ne (tgt := 19) hx hb dX0_putRight_14 (by decide) (fun c2 => ?_) (fun c2 => ?_)
    · refine lv_aload_n hx hb dX0_putRight_19 rfl (lv_at hl 0 rfl) ?_
      refine lv_iload_n hx hb dX0_putRight_20 rfl (lv_at hl 1 rfl) ?_
      refine lv_iconst (v := 0) hx hb dX0_putRight_21 (by decide) ?_
      refine x_bi hS (xr_V X hR x_lv0 (ci := 0) (fs := x_fs ad S) rfl rfl (xt_needPlate l D d A ad S x1 0 (hI)) 2 (lw_V q954 q956 qs12 q58 q957) ⟨rfl, rfl⟩ (by decide +kernel) ⟨by decide, by decide⟩ ⟨by decide, by decide⟩ rfl hl.1 rfl (Nat.le_of_ble_eq_true rfl) dX0_putRight_22) (fun H locs hR hS => ?_)
      have hN22 : (x_needPlate S x1 0).2.2.2.2 = S.2.2.2 := x_needPlate_N S x1 0
      have hI22 : XInv (x_needPlate S x1 0).2 := x_needPlate_inv S x1 0 (hI)
      refine lv_istore_n (lv' := [(3, .int (x_needPlate S x1 0).1), (0, .ref (ad (0, 0))), (1, .int x1), (2, .int x2)]) hx hb dX0_putRight_25 rfl hl (by decide) rfl (fun ls hl => ?_)
      refine lv_iload_n hx hb dX0_putRight_26 rfl (lv_at hl 0 rfl) ?_
      refine lv_if_ge (tgt := 32) hx hb dX0_putRight_27 (by decide) (fun c3 => ?_) (fun c3 => ?_)
      · have okc3 := x_needPlate_ok S x1 0 hI c3
        have hR : XR D d A ad S H := okc3.1 ▸ hR
        have okc3_0 : 0 ≤ x1 ∧ x1 < 4 := okc3.2.1
        have okc3_1 : ¬ S.2.2.2 5 (Int32.toNatClampNeg x1) = 0 := okc3.2.2.1
        have okc3_2 : ¬ S.2.2.2 4 (2 * (Int32.toNatClampNeg x1) + (Int32.toNatClampNeg (x_kOf (0 : Int32)))) = 0 := okc3.2.2.2.1
        have okc3_3 : S.2.2.2 0 (S.2.2.2 4 (2 * (Int32.toNatClampNeg x1) + (Int32.toNatClampNeg (x_kOf (0 : Int32)))) - 1) = 1 ∨ S.2.2.2 0 (S.2.2.2 4 (2 * (Int32.toNatClampNeg x1) + (Int32.toNatClampNeg (x_kOf (0 : Int32)))) - 1) = 3 := okc3.2.2.2.2
        have hokx : 0 ≤ x1 ∧ x1 < 4 := (pr_ok (x1 := x1) hI c3).1
        have hokt : ¬ S.2.2.2 5 ((Int32.toNatClampNeg x1)) = 0 := (pr_ok (x1 := x1) hI c3).2.1
        have hok5 : ¬ S.2.2.2 4 (2 * (Int32.toNatClampNeg x1) + (Int32.toNatClampNeg 0)) = 0 := (pr_ok (x1 := x1) hI c3).2.2.1
        refine lv_aload_n hx hb dX0_putRight_32 rfl (lv_at hl 1 rfl) ?_
        refine xg_a X.1 hR 7 (by decide) (by decide) q104 dX0_putRight_33 ?_
        refine lv_iload_n hx hb dX0_putRight_36 rfl (lv_at hl 2 rfl) ?_
        refine x_ldw X hR (ixl 4 4 (by decide) rfl (okc3_0)) (okc3_1) dX0_putRight_37 ?_
        refine xgwo X hR (x_lvw (tn4 (okc3_0)) (okc3_1)) (Or.inr q706) dX0_putRight_38 ?_
        refine lv_iconst (v := 0) hx hb dX0_putRight_41 (by decide) ?_
        refine x_ldoE X hR (x_lvo (tn4 (okc3_0)) (okc3_1)) (ixl 2 2 (by decide) rfl (by decide)) (n := S.2.2.2 4 (2 * (Int32.toNatClampNeg x1) + (Int32.toNatClampNeg 0))) rfl (hok5) dX0_putRight_42 ?_
        have hjp : (S.2.2.2 4 (2 * (Int32.toNatClampNeg x1) + (Int32.toNatClampNeg 0)) - 1) < S.2.2.2 7 0 := xi_own hI (tp8 (tn4 hokx) (by decide)) hok5
        have hP0 : S.2.2.2 0 (S.2.2.2 4 (2 * (Int32.toNatClampNeg x1) + (Int32.toNatClampNeg 0)) - 1) = 1 ∨ S.2.2.2 0 (S.2.2.2 4 (2 * (Int32.toNatClampNeg x1) + (Int32.toNatClampNeg 0)) - 1) = 3 := (pr_ok (x1 := x1) hI c3).2.2.2
        refine x_castP X hR (x_lvt (hjp)) (hP0) q423 dX0_putRight_43 ?_
        refine lv_astore (lv' := [(4, .ref (ad (40, (S.2.2.2 4 (2 * (Int32.toNatClampNeg x1) + (Int32.toNatClampNeg 0)) - 1)))), (3, .int (x_needPlate S x1 0).1), (0, .ref (ad (0, 0))), (1, .int x1), (2, .int x2)]) hx hb dX0_putRight_46 hl (by decide) rfl (fun ls hl => ?_)
        refine lv_aload hx hb dX0_putRight_48 (lv_at hl 0 rfl) ?_
        refine vp_many X hR hS (hI) (hjp) (hP0) q663 hl.1 ⟨by decide, by decide⟩ ⟨by decide, by decide⟩ (Nat.le_of_ble_eq_true rfl) dX0_putRight_50 (fun H locs hR hS => ?_)
        refine lv_bipush (v := 12) hx hb dX0_putRight_53 (by decide) ?_
        refine lv_icmp_eq (tgt := 64) hx hb dX0_putRight_55 (by decide) (fun c4 => ?_) (fun c4 => ?_)
        · have h12 : nI (S.2.2.2 1 (S.2.2.2 4 (2 * (Int32.toNatClampNeg x1) + (Int32.toNatClampNeg 0)) - 1)) = 12 := by assumption
          have hhr : 1 ≤ x2 ∧ x2 ≤ 12 := x_putRight_o5 S x1 x2 hI hk0 c1 c2 hN22 hI22 c3 okc3_0 okc3_1 okc3_2 okc3_3 hokx hokt hok5 hjp hP0 c4 h12
          refine lv_aload_n hx hb dX0_putRight_64 rfl (lv_at hl 2 rfl) ?_
          refine lv_aload hx hb dX0_putRight_65 (lv_at hl 0 rfl) ?_
          refine lv_iload_n hx hb dX0_putRight_67 rfl (lv_at hl 4 rfl) ?_
          refine x_bv hS (xr_V X hR x_lv0 (ci := 0) (fs := x_fs ad S) rfl rfl (xt_layCosts l D d A ad S (S.2.2.2 4 (2 * (Int32.toNatClampNeg x1) + (Int32.toNatClampNeg 0)) - 1) x2 (hI) (hjp) (hP0) (h12) (hhr)) 2 (lw_V q976 q978 qs14 q58 q979) ⟨rfl, rfl⟩ (by decide +kernel) ⟨by decide, by decide⟩ ⟨by decide, by decide⟩ rfl hl.1 rfl (Nat.le_of_ble_eq_true rfl) dX0_putRight_68) (fun H locs hR hS => ?_)
          have hN68 : (x_layCosts S (S.2.2.2 4 (2 * (Int32.toNatClampNeg x1) + (Int32.toNatClampNeg 0)) - 1) x2).2.2.2 = S.2.2.2 := x_layCosts_N S (S.2.2.2 4 (2 * (Int32.toNatClampNeg x1) + (Int32.toNatClampNeg 0)) - 1) x2 (hI) (hjp) (hP0) (h12) (hhr)
          have hI68 : XInv (x_layCosts S (S.2.2.2 4 (2 * (Int32.toNatClampNeg x1) + (Int32.toNatClampNeg 0)) - 1) x2) := x_layCosts_inv S (S.2.2.2 4 (2 * (Int32.toNatClampNeg x1) + (Int32.toNatClampNeg 0)) - 1) x2 (hI) (hjp) (hP0) (h12) (hhr)
          refine lv_bipush (v := 12) hx hb dX0_putRight_71 (by decide) ?_
          refine lv_aload hx hb dX0_putRight_73 (lv_at hl 0 rfl) ?_
          refine xg_at X hR (x_lvt (by show (S.2.2.2 4 (2 * (Int32.toNatClampNeg x1) + (Int32.toNatClampNeg 0)) - 1) < (x_layCosts S (S.2.2.2 4 (2 * (Int32.toNatClampNeg x1) + (Int32.toNatClampNeg 0)) - 1) x2).2.2.2 7 0; rw [hN68]; exact hjp)) (by show (x_layCosts S (S.2.2.2 4 (2 * (Int32.toNatClampNeg x1) + (Int32.toNatClampNeg 0)) - 1) x2).2.2.2 0 (S.2.2.2 4 (2 * (Int32.toNatClampNeg x1) + (Int32.toNatClampNeg 0)) - 1) = 1 ∨ (x_layCosts S (S.2.2.2 4 (2 * (Int32.toNatClampNeg x1) + (Int32.toNatClampNeg 0)) - 1) x2).2.2.2 0 (S.2.2.2 4 (2 * (Int32.toNatClampNeg x1) + (Int32.toNatClampNeg 0)) - 1) = 3; rw [hN68]; exact hP0) q431 rfl dX0_putRight_75 ?_
          refine lv_imul hx hb dX0_putRight_78 ?_
          refine lv_aload_n hx hb dX0_putRight_79 rfl (lv_at hl 2 rfl) ?_
          refine xg_a X.1 hR 7 (by decide) (by decide) q104 dX0_putRight_80 ?_
          refine lv_iload_n hx hb dX0_putRight_83 rfl (lv_at hl 3 rfl) ?_
          refine x_ldw X hR (ixl 4 4 (by decide) rfl (okc3_0)) (by show ¬ (x_layCosts S (S.2.2.2 4 (2 * (Int32.toNatClampNeg x1) + (Int32.toNatClampNeg 0)) - 1) x2).2.2.2 5 (Int32.toNatClampNeg x1) = 0; rw [hN68]; exact okc3_1) dX0_putRight_84 ?_
          refine xgw X hR (x_lvw (tn4 (okc3_0)) (by show ¬ (x_layCosts S (S.2.2.2 4 (2 * (Int32.toNatClampNeg x1) + (Int32.toNatClampNeg 0)) - 1) x2).2.2.2 5 (Int32.toNatClampNeg x1) = 0; rw [hN68]; exact okc3_1)) 0 (Or.inl (by decide)) (Or.inr q696) rfl dX0_putRight_85 ?_
          refine s_ci X.1.1 (st_x_nextHour l ((x_layCosts S (S.2.2.2 4 (2 * (Int32.toNatClampNeg x1) + (Int32.toNatClampNeg 0)) - 1) x2).1 60 (Int32.toNatClampNeg x1))) 1 (lw_S q962 q963 q58 q964) ⟨rfl, rfl⟩ (by decide +kernel) ⟨by decide, by decide⟩ ⟨by decide, by decide⟩ rfl hl.1 rfl (Nat.le_of_ble_eq_true rfl) dX0_putRight_88 ?_
          refine lv_iadd hx hb dX0_putRight_91 ?_
          refine lv_iconst (v := 1) hx hb dX0_putRight_92 (by decide) ?_
          refine lv_isub hx hb dX0_putRight_93 ?_
          refine lv_istore (lv' := [(5, .int (x_putRight_v94 S x1 x2)), (4, .ref (ad (40, (S.2.2.2 4 (2 * (Int32.toNatClampNeg x1) + (Int32.toNatClampNeg 0)) - 1)))), (3, .int (x_needPlate S x1 0).1), (0, .ref (ad (0, 0))), (1, .int x1), (2, .int x2)]) hx hb dX0_putRight_94 hl (by decide) rfl (fun ls hl => ?_)
          have hVc : (∀ k : Nat, k < 144 → (x_layCosts S (S.2.2.2 4 (2 * (Int32.toNatClampNeg x1) + (Int32.toNatClampNeg 0)) - 1) x2).1 8 k = nI (vV (wx S (S.2.2.2 4 (2 * (Int32.toNatClampNeg x1) + (Int32.toNatClampNeg 0)) - 1)) (gx x2) k)) ∧ (x_layCosts S (S.2.2.2 4 (2 * (Int32.toNatClampNeg x1) + (Int32.toNatClampNeg 0)) - 1) x2).2.2.1 = S.2.2.1 := x_layCosts_V S _ x2 hI hjp hP0 h12 hhr
          have hst : 0 ≤ (x_putRight_v94 S x1 x2) ∧ (x_putRight_v94 S x1 x2) < 144 := pr_st (at12 hI68 (by rw [hN68]; exact hjp) (by rw [hN68]; exact hP0) (by rw [hN68]; exact h12)) (x_nextHour_ok (xi_t hI68 (tn4 (by assumption)) (by rw [hN68]; assumption)).1)
          refine lv_aload_n hx hb dX0_putRight_96 rfl (lv_at hl 3 rfl) ?_
          refine xg_a X.1 hR 8 (by decide) (by decide) q105 dX0_putRight_97 ?_
          refine lv_iload hx hb dX0_putRight_100 (lv_at hl 0 rfl) ?_
          refine x_ld X.1 hR ⟨by decide, rfl⟩ (ixl 144 144 (by decide) rfl (hst)) (v := (x_layCosts S (S.2.2.2 4 (2 * (Int32.toNatClampNeg x1) + (Int32.toNatClampNeg 0)) - 1) x2).1 8 (Int32.toNatClampNeg (x_putRight_v94 S x1 x2))) rfl dX0_putRight_102 ?_
          refine lv_istore (lv' := [(6, .int (x_putRight_v103 S x1 x2)), (5, .int (x_putRight_v94 S x1 x2)), (4, .ref (ad (40, (S.2.2.2 4 (2 * (Int32.toNatClampNeg x1) + (Int32.toNatClampNeg 0)) - 1)))), (3, .int (x_needPlate S x1 0).1), (0, .ref (ad (0, 0))), (1, .int x1), (2, .int x2)]) hx hb dX0_putRight_103 hl (by decide) rfl (fun ls hl => ?_)
          refine lv_aload_n hx hb dX0_putRight_105 rfl (lv_at hl 4 rfl) ?_
          refine lv_iconst (v := 0) hx hb dX0_putRight_106 (by decide) ?_
          refine xp_i X.1 hR hS 9 (by decide) rfl rfl rfl q106 dX0_putRight_107 (fun H locs hR hS => ?_)
          have K110 : ∀ (H : Heap) (locs : List Loc) (ls : Array Slot), (XInv (x_putRight_R110 S x1 x2).2) → ((x_putRight_R110 S x1 x2).2.2.2.2 = S.2.2.2) → XR D d A ad (x_putRight_R110 S x1 x2).2 H → va_S A s.heap H locs → lv_has ls 8 [(6, .int (x_putRight_v103 S x1 x2)), (5, .int (x_putRight_R110 S x1 x2).1), (4, .ref (ad (40, (S.2.2.2 4 (2 * (Int32.toNatClampNeg x1) + (Int32.toNatClampNeg 0)) - 1)))), (3, .int (x_needPlate S x1 0).1), (0, .ref (ad (0, 0))), (1, .int x1), (2, .int x2)] → W p l e (rm_ 5) s m av below meth c H locs 0 0 Q (F0 m 182 ls []) := by
            intro H locs ls hJ5p hM5p hR hS hl
            refine lv_aload_n hx hb dX0_putRight_182 rfl (lv_at hl 4 rfl) ?_
            refine lv_iload hx hb dX0_putRight_183 (lv_at hl 0 rfl) ?_
            refine lv_sipush (v := 1000) hx hb dX0_putRight_185 (by decide) ?_
            refine lv_irem hx hb dX0_putRight_188 (by decide) ?_
            refine lv_iload hx hb dX0_putRight_189 (lv_at hl 0 rfl) ?_
            refine lv_sipush (v := 1000) hx hb dX0_putRight_191 (by decide) ?_
            refine lv_idiv hx hb dX0_putRight_194 (by decide) ?_
            refine x_bi hS (xr_V X hR x_lv0 (ci := 0) (fs := x_fs ad (x_putRight_R110 S x1 x2).2) rfl rfl (xt_say l D d A ad (x_putRight_R110 S x1 x2).2 ((x_putRight_v103 S x1 x2) - (x_putRight_v103 S x1 x2) / 1000 * 1000) ((x_putRight_v103 S x1 x2) / 1000)) 2 (lw_V q991 q993 qs16 q58 q994) ⟨rfl, rfl⟩ (by decide +kernel) ⟨by decide, by decide⟩ ⟨by decide, by decide⟩ rfl hl.1 rfl (Nat.le_of_ble_eq_true rfl) dX0_putRight_195) (fun H locs hR hS => ?_)
            have hN195 : (x_say (x_putRight_R110 S x1 x2).2 ((x_putRight_v103 S x1 x2) - (x_putRight_v103 S x1 x2) / 1000 * 1000) ((x_putRight_v103 S x1 x2) / 1000)).2.2.2.2 = (x_putRight_R110 S x1 x2).2.2.2.2 := x_say_N (x_putRight_R110 S x1 x2).2 ((x_putRight_v103 S x1 x2) - (x_putRight_v103 S x1 x2) / 1000 * 1000) ((x_putRight_v103 S x1 x2) / 1000)
            have hI195 : XInv (x_say (x_putRight_R110 S x1 x2).2 ((x_putRight_v103 S x1 x2) - (x_putRight_v103 S x1 x2) / 1000 * 1000) ((x_putRight_v103 S x1 x2) / 1000)).2 := x_say_invx (x_putRight_R110 S x1 x2).2 ((x_putRight_v103 S x1 x2) - (x_putRight_v103 S x1 x2) / 1000 * 1000) ((x_putRight_v103 S x1 x2) / 1000) hJ5p
            exact x_ri hx hb hrt (rfl) hlk hR hS hQ (Eq.trans (if_neg c1) (Eq.trans (if_neg c2) (Eq.trans (if_pos c3) (if_pos c4)))) dX0_putRight_198
          have L110 : ∀ (f110 : Nat) (y5_110 : Int32) (S_110 : XS) (H : Heap) (locs : List Loc) (ls : Array Slot), vV (wx S (S.2.2.2 4 (2 * (Int32.toNatClampNeg x1) + (Int32.toNatClampNeg 0)) - 1)) (gx x2) (y5_110 : Int32).toNatClampNeg < f110 → XInv S_110 → S_110.2.2.2 = S.2.2.2 → S_110.2.2.1 = S.2.2.1 → 0 ≤ y5_110 ∧ y5_110 < 144 → (∀ k : Nat, k < 144 → S_110.1 8 k = nI (vV (wx S (S.2.2.2 4 (2 * (Int32.toNatClampNeg x1) + (Int32.toNatClampNeg 0)) - 1)) (gx x2) k)) → (S_110.1 9 0).toNatClampNeg + vV (wx S (S.2.2.2 4 (2 * (Int32.toNatClampNeg x1) + (Int32.toNatClampNeg 0)) - 1)) (gx x2) (y5_110 : Int32).toNatClampNeg % 1000 ≤ 11 ∧ 0 ≤ S_110.1 9 0 → x_putRight_L110 S x1 (f110) y5_110 S_110 = (x_putRight_R110 S x1 x2) → XR D d A ad S_110 H → va_S A s.heap H locs → lv_has ls 8 [(6, .int (x_putRight_v103 S x1 x2)), (5, .int y5_110), (4, .ref (ad (40, (S.2.2.2 4 (2 * (Int32.toNatClampNeg x1) + (Int32.toNatClampNeg 0)) - 1)))), (3, .int (x_needPlate S x1 0).1), (0, .ref (ad (0, 0))), (1, .int x1), (2, .int x2)] → W p l e (rm_ 5) s m av below meth c H locs 0 0 Q (F0 m 110 ls []) := by
            intro f110
            induction f110 with
            | zero => intro y5_110 S_110 H locs ls hf; exact absurd hf (Nat.not_lt_zero _)
            | succ f110 ih =>
              intro y5_110 S_110 H locs ls hf hJ5 hM5 hB5 hst5 hC5 hA5 hE hR hS hl
              refine lv_aload_n hx hb dX0_putRight_110 rfl (lv_at hl 4 rfl) ?_
              refine xg_a X.1 hR 8 (by decide) (by decide) q105 dX0_putRight_111 ?_
              refine lv_iload hx hb dX0_putRight_114 (lv_at hl 1 rfl) ?_
              refine x_ld X.1 hR ⟨by decide, rfl⟩ (ixl 144 144 (by decide) rfl (hst5)) (v := S_110.1 8 (Int32.toNatClampNeg y5_110)) rfl dX0_putRight_116 ?_
              refine lv_if_le (tgt := 182) hx hb dX0_putRight_117 (by decide) (fun c6 => ?_) (fun c6 => ?_)
              · have e0 : (x_putRight_R110 S x1 x2) = (y5_110, S_110) := Eq.trans (Eq.symm hE) (Eq.trans (x_putRight_L110_s _ _ _ _ _) (if_pos c6))
                exact K110 _ _ _ ((by rw [e0]; exact hJ5)) ((by rw [e0]; exact hM5)) (by rw [e0]; exact hR) hS (by rw [e0]; exact lv_sub hl [0, 1, 2, 3, 4, 5, 6] rfl)
              · refine lv_iconst (v := 0) hx hb dX0_putRight_120 (by decide) ?_
                refine lv_istore (lv' := [(7, .int 0), (6, .int (x_putRight_v103 S x1 x2)), (5, .int y5_110), (4, .ref (ad (40, (S.2.2.2 4 (2 * (Int32.toNatClampNeg x1) + (Int32.toNatClampNeg 0)) - 1)))), (3, .int (x_needPlate S x1 0).1), (0, .ref (ad (0, 0))), (1, .int x1), (2, .int x2)]) hx hb dX0_putRight_121 hl (by decide) rfl (fun ls hl => ?_)
                have K123 : ∀ (H : Heap) (locs : List Loc) (ls : Array Slot), (0 ≤ (x_putRight_R123 S x1 y5_110 S_110) ∧ (x_putRight_R123 S x1 y5_110 S_110) < 3) → (vV (wx S (S.2.2.2 4 (2 * (Int32.toNatClampNeg x1) + (Int32.toNatClampNeg 0)) - 1)) (gx x2) (y5_110 : Int32).toNatClampNeg = vpr (wx S (S.2.2.2 4 (2 * (Int32.toNatClampNeg x1) + (Int32.toNatClampNeg 0)) - 1)) (y5_110 : Int32).toNatClampNeg ((x_putRight_R123 S x1 y5_110 S_110) : Int32).toNatClampNeg + vV (wx S (S.2.2.2 4 (2 * (Int32.toNatClampNeg x1) + (Int32.toNatClampNeg 0)) - 1)) (gx x2) (vled (y5_110 : Int32).toNatClampNeg ((x_putRight_R123 S x1 y5_110 S_110) : Int32).toNatClampNeg)) → XR D d A ad S_110 H → va_S A s.heap H locs → lv_has ls 8 [(7, .int (x_putRight_R123 S x1 y5_110 S_110)), (6, .int (x_putRight_v103 S x1 x2)), (5, .int y5_110), (4, .ref (ad (40, (S.2.2.2 4 (2 * (Int32.toNatClampNeg x1) + (Int32.toNatClampNeg 0)) - 1)))), (3, .int (x_needPlate S x1 0).1), (0, .ref (ad (0, 0))), (1, .int x1), (2, .int x2)] → W p l e (rm_ 5) s m av below meth c H locs 0 0 Q (F0 m 149 ls []) := by
                  intro H locs ls hr7p hq7p hR hS hl
                  have hac : 0 ≤ S_110.1 9 0 ∧ S_110.1 9 0 < 48 := pr_A hA5.2 hA5.1
                  refine lv_aload_n hx hb dX0_putRight_149 rfl (lv_at hl 5 rfl) ?_
                  refine xg_a X.1 hR 10 (by decide) (by decide) q107 dX0_putRight_150 ?_
                  refine lv_aload_n hx hb dX0_putRight_153 rfl (lv_at hl 5 rfl) ?_
                  refine xg_i X.1 hR 9 (by decide) rfl q106 rfl dX0_putRight_154 ?_
                  refine lv_iload hx hb dX0_putRight_157 (lv_at hl 0 rfl) ?_
                  refine x_st X.1 hR hS ⟨by decide, rfl⟩ (ixl 48 48 (by decide) rfl (hac)) dX0_putRight_159 (fun H locs hR hS => ?_)
                  refine lv_aload_n hx hb dX0_putRight_160 rfl (lv_at hl 5 rfl) ?_
                  refine lv_dup hx hb dX0_putRight_161 rfl ?_
                  refine xg_i X.1 hR 9 (by decide) rfl q106 ((xu_k _ (by decide) _ _ _).trans rfl) dX0_putRight_162 ?_
                  refine lv_iconst (v := 1) hx hb dX0_putRight_165 (by decide) ?_
                  refine lv_iadd hx hb dX0_putRight_166 ?_
                  refine xp_i X.1 hR hS 9 (by decide) rfl rfl rfl q106 dX0_putRight_167 (fun H locs hR hS => ?_)
                  refine lv_iload hx hb dX0_putRight_170 (lv_at hl 2 rfl) ?_
                  refine lv_iload hx hb dX0_putRight_172 (lv_at hl 0 rfl) ?_
                  refine s_ci X.1.1 (st_x_led l y5_110 (x_putRight_R123 S x1 y5_110 S_110)) 2 (lw_S q984 q985 q58 q986) ⟨rfl, rfl⟩ (by decide +kernel) ⟨by decide, by decide⟩ ⟨by decide, by decide⟩ rfl hl.1 rfl (Nat.le_of_ble_eq_true rfl) dX0_putRight_174 ?_
                  refine lv_istore (lv' := [(5, .int (x_putRight_v177 S x1 y5_110 S_110)), (7, .int (x_putRight_R123 S x1 y5_110 S_110)), (6, .int (x_putRight_v103 S x1 x2)), (4, .ref (ad (40, (S.2.2.2 4 (2 * (Int32.toNatClampNeg x1) + (Int32.toNatClampNeg 0)) - 1)))), (3, .int (x_needPlate S x1 0).1), (0, .ref (ad (0, 0))), (1, .int x1), (2, .int x2)]) hx hb dX0_putRight_177 hl (by decide) rfl (fun ls hl => ?_)
                  refine lv_goto (tgt := 110) hx hb dX0_putRight_179 (by decide) ?_
                  exact ih (x_putRight_v177 S x1 y5_110 S_110) (xu (xu S_110 10 (Int32.toNatClampNeg (S_110.1 9 0)) (x_putRight_R123 S x1 y5_110 S_110)) 9 0 ((S_110.1 9 0) + 1)) _ _  _ (pr_d hst5 hr7p hq7p hf) ((XInv_9 (XInv_xu hJ5 _ _ _ (by decide)) _ _ (x_putRight_o8 S x1 x2 y5_110 S_110 hI hk0 c1 c2 hN22 hI22 c3 okc3_0 okc3_1 okc3_2 okc3_3 hokx hokt hok5 hjp hP0 c4 h12 hhr hN68 hI68 hVc hst hJ5 hM5 hB5 hst5 hC5 hA5 c6 hr7p hq7p hac))) (hM5) (hB5) (x_led_ok hst5 hr7p) (hC5) (by rw [xu_self]; exact pr_A2 hst5 hr7p hA5.2 hA5.1 hq7p) (Eq.trans (Eq.symm (Eq.trans (x_putRight_L110_s _ _ _ _ _) (if_neg c6))) hE) hR hS (lv_sub hl [2, 0, 3, 4, 5, 6, 7] rfl)
                have L123 : ∀ (f123 : Nat) (y7_123 : Int32) (H : Heap) (locs : List Loc) (ls : Array Slot), 3 - (y7_123 : Int32).toNatClampNeg < f123 → 0 ≤ y7_123 → PE (wx S (S.2.2.2 4 (2 * (Int32.toNatClampNeg x1) + (Int32.toNatClampNeg 0)) - 1)) (gx x2) y5_110 y7_123 → x_putRight_L123 S x1 y5_110 S_110 (f123) y7_123 = (x_putRight_R123 S x1 y5_110 S_110) → XR D d A ad S_110 H → va_S A s.heap H locs → lv_has ls 8 [(7, .int y7_123), (6, .int (x_putRight_v103 S x1 x2)), (5, .int y5_110), (4, .ref (ad (40, (S.2.2.2 4 (2 * (Int32.toNatClampNeg x1) + (Int32.toNatClampNeg 0)) - 1)))), (3, .int (x_needPlate S x1 0).1), (0, .ref (ad (0, 0))), (1, .int x1), (2, .int x2)] → W p l e (rm_ 5) s m av below meth c H locs 0 0 Q (F0 m 123 ls []) := by
                  intro f123
                  induction f123 with
                  | zero => intro y7_123 H locs ls hf; exact absurd hf (Nat.not_lt_zero _)
                  | succ f123 ih =>
                    intro y7_123 H locs ls hf hi7 hE7 hE hR hS hl
                    refine lv_aload_n hx hb dX0_putRight_123 rfl (lv_at hl 5 rfl) ?_
                    have hr7 : 0 ≤ y7_123 ∧ y7_123 < 3 := pe_r hi7 hE7
                    refine lv_aload hx hb dX0_putRight_124 (lv_at hl 3 rfl) ?_
                    refine lv_iload hx hb dX0_putRight_126 (lv_at hl 2 rfl) ?_
                    refine lv_iload hx hb dX0_putRight_128 (lv_at hl 0 rfl) ?_
                    refine x_bi hS (xr_V X hR x_lv0 (ci := 0) (fs := x_fs ad S_110) rfl rfl (xt_throughOf l D d A ad S_110 (S.2.2.2 4 (2 * (Int32.toNatClampNeg x1) + (Int32.toNatClampNeg 0)) - 1) y5_110 y7_123 (hJ5) (by show (S.2.2.2 4 (2 * (Int32.toNatClampNeg x1) + (Int32.toNatClampNeg 0)) - 1) < S_110.2.2.2 7 0; rw [hM5]; exact hjp) (by show S_110.2.2.2 0 (S.2.2.2 4 (2 * (Int32.toNatClampNeg x1) + (Int32.toNatClampNeg 0)) - 1) = 1 ∨ S_110.2.2.2 0 (S.2.2.2 4 (2 * (Int32.toNatClampNeg x1) + (Int32.toNatClampNeg 0)) - 1) = 3; rw [hM5]; exact hP0) (by show nI (S_110.2.2.2 1 (S.2.2.2 4 (2 * (Int32.toNatClampNeg x1) + (Int32.toNatClampNeg 0)) - 1)) = 12; rw [hM5]; exact h12) (hst5) (hr7)) 3 (lw_V q980 q982 qs15 q58 q983) ⟨rfl, rfl⟩ (by decide +kernel) ⟨by decide, by decide⟩ ⟨by decide, by decide⟩ rfl hl.1 rfl (Nat.le_of_ble_eq_true rfl) dX0_putRight_130) (fun H locs hR hS => ?_)
                    refine lv_aload_n hx hb dX0_putRight_133 rfl (lv_at hl 5 rfl) ?_
                    refine xg_a X.1 hR 8 (by decide) (by decide) q105 dX0_putRight_134 ?_
                    refine lv_iload hx hb dX0_putRight_137 (lv_at hl 2 rfl) ?_
                    refine x_ld X.1 hR ⟨by decide, rfl⟩ (ixl 144 144 (by decide) rfl (hst5)) (v := S_110.1 8 (Int32.toNatClampNeg y5_110)) rfl dX0_putRight_139 ?_
                    refine lv_icmp_eq (tgt := 149) hx hb dX0_putRight_140 (by decide) (fun c7 => ?_) (fun c7 => ?_)
                    · have e0 : (x_putRight_R123 S x1 y5_110 S_110) = y7_123 := Eq.trans (Eq.symm hE) (Eq.trans (x_putRight_L123_s _ _ _ _ _ _) (if_pos c7))
                      exact K123 _ _ _ ((by rw [e0]; exact pe_r hi7 hE7)) ((by rw [e0]; exact (pe_thr (w24_wx hI hjp hP0 h12) (tn_ 144 144 (by decide) rfl hst5) hC5).mp (by rw [← thr_eq hI hjp hP0 h12 hB5 hst5 (pe_r hi7 hE7)]; assumption))) hR hS (by rw [e0]; exact lv_sub hl [0, 1, 2, 3, 4, 5, 6, 7] rfl)
                    · refine lv_iinc (v := (y7_123 + 1)) (lv' := [(7, .int (y7_123 + 1)), (6, .int (x_putRight_v103 S x1 x2)), (5, .int y5_110), (4, .ref (ad (40, (S.2.2.2 4 (2 * (Int32.toNatClampNeg x1) + (Int32.toNatClampNeg 0)) - 1)))), (3, .int (x_needPlate S x1 0).1), (0, .ref (ad (0, 0))), (1, .int x1), (2, .int x2)]) hx hb dX0_putRight_143 hl (k := 0) rfl rfl (by decide) rfl (fun ls hl => ?_)
                      refine lv_goto (tgt := 123) hx hb dX0_putRight_146 (by decide) ?_
                      exact ih (y7_123 + 1) _ _  _ (pe_d hi7 (pe_s (w24_wx hI hjp hP0 h12) hst5 hi7 hC5 hE7 (by rw [← thr_eq hI hjp hP0 h12 hB5 hst5 (pe_r hi7 hE7)]; assumption)).1 hf) (pe_i hi7 (pe_s (w24_wx hI hjp hP0 h12) hst5 hi7 hC5 hE7 (by rw [← thr_eq hI hjp hP0 h12 hB5 hst5 (pe_r hi7 hE7)]; assumption)).1) ((pe_s (w24_wx hI hjp hP0 h12) hst5 hi7 hC5 hE7 (by rw [← thr_eq hI hjp hP0 h12 hB5 hst5 (pe_r hi7 hE7)]; assumption)).2) (Eq.trans (Eq.symm (Eq.trans (x_putRight_L123_s _ _ _ _ _ _) (if_neg c7))) hE) hR hS (lv_sub hl [0, 1, 2, 3, 4, 5, 6, 7] rfl)
                exact L123 _ 0 _ _  _ (fz_lt _) (by decide) (pe_0 (w24_wx hI hjp hP0 h12) (gx_lt hhr).1 hst5 hC5 (by assumption)) rfl hR hS (lv_sub hl [0, 1, 2, 3, 4, 5, 6, 7] rfl)
          exact L110 _ (x_putRight_v94 S x1 x2) (xu (x_layCosts S (S.2.2.2 4 (2 * (Int32.toNatClampNeg x1) + (Int32.toNatClampNeg 0)) - 1) x2) 9 0 0) _ _  _ (fz_lt _) ((XInv_9 hI68 _ _ (by decide))) (hN68) (hVc.2) (hst) (hVc.1) (⟨by rw [xu_self, (vV_mod _ _ _).1]; exact Nat.le_trans (Nat.le_of_eq (Nat.zero_add _)) (vr_le (vd_lt _ _)), by rw [xu_self]; decide⟩) rfl hR hS (lv_sub hl [0, 1, 2, 3, 4, 5, 6] rfl)
        · refine lv_aload_n hx hb dX0_putRight_58 rfl (lv_at hl 2 rfl) ?_
          refine lv_iconst (v := 3) hx hb dX0_putRight_59 (by decide) ?_
          refine x_bi hS (xr_V X hR x_lv0 (ci := 0) (fs := x_fs ad S) rfl rfl (xt_found l D d A ad S 3 (by decide)) 1 (lw_V q283 q285 qs2 q58 q286) ⟨rfl, rfl⟩ (by decide +kernel) ⟨by decide, by decide⟩ ⟨by decide, by decide⟩ rfl hl.1 rfl (Nat.le_of_ble_eq_true rfl) dX0_putRight_60) (fun H locs hR hS => ?_)
          have hN60 : (x_found S 3).2.2.2.2 = S.2.2.2 := x_found_N S 3
          have hI60 : XInv (x_found S 3).2 := x_found_invx S 3 hI
          exact x_ri hx hb hrt (rfl) hlk hR hS hQ (Eq.trans (if_neg c1) (Eq.trans (if_neg c2) (Eq.trans (if_pos c3) (if_neg c4)))) dX0_putRight_63
      · refine lv_iload_n hx hb dX0_putRight_30 rfl (lv_at hl 0 rfl) ?_
        exact x_ri hx hb hrt (rfl) hlk hR hS hQ (Eq.trans (if_neg c1) (Eq.trans (if_neg c2) (if_neg c3))) dX0_putRight_31
    · refine lv_iconst (v := (-1)) hx hb dX0_putRight_17 (by decide) ?_
      exact x_ri hx hb hrt (rfl) hlk hR hS hQ (Eq.trans (if_neg c1) (if_pos c2)) dX0_putRight_18
