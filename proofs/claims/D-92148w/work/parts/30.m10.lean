/-! PRINTED by gen/run_m6.py -/
set_option maxRecDepth 100000
theorem hourOf_b (x1 : Int32) (h0 : 0 ≤ x1 ∧ x1 < 1440) : 1 ≤ ((((x1 / 60) + 11) - ((x1 / 60) + 11) / 12 * 12) + 1) ∧ ((((x1 / 60) + 11) - ((x1 / 60) + 11) / 12 * 12) + 1) ≤ 12 := by
  try simp only [i_le, i_lt, i_eq, Int32.reduceToInt] at *
  first | (have e_0 := d32 (x := x1) (y := 60) (by (try simp only [Int32.reduceToInt]); omega); (try simp only [Int32.reduceToInt] at e_0)) | skip
  first | (have e_1 := a32 (x := (x1 / 60)) (y := 11) (by (try simp only [Int32.reduceToInt]); omega); (try simp only [Int32.reduceToInt] at e_1)) | skip
  first | (have e_2 := d32 (x := ((x1 / 60) + 11)) (y := 12) (by (try simp only [Int32.reduceToInt]); omega); (try simp only [Int32.reduceToInt] at e_2)) | skip
  first | (have e_3 := m32 (x := (((x1 / 60) + 11) / 12)) (y := 12) (by (try simp only [Int32.reduceToInt]); omega); (try simp only [Int32.reduceToInt] at e_3)) | skip
  first | (have e_4 := s32 (x := ((x1 / 60) + 11)) (y := (((x1 / 60) + 11) / 12 * 12)) (by (try simp only [Int32.reduceToInt]); omega); (try simp only [Int32.reduceToInt] at e_4)) | skip
  first | (have e_5 := a32 (x := (((x1 / 60) + 11) - ((x1 / 60) + 11) / 12 * 12)) (y := 1) (by (try simp only [Int32.reduceToInt]); omega); (try simp only [Int32.reduceToInt] at e_5)) | skip
  try simp only [Int32.reduceToInt] at *
  omega
theorem m_hourOf_ok {x1 : Int32} (h : 0 ≤ x1 ∧ x1 < 1440) : 1 ≤ m_hourOf x1 ∧ m_hourOf x1 ≤ 12 := hourOf_b x1 h
theorem quart_b (x1 : Int32) (h0 : 0 ≤ x1 ∧ x1 < 1440) : 0 ≤ ((x1 - x1 / 60 * 60) / 15) ∧ ((x1 - x1 / 60 * 60) / 15) ≤ 3 := by
  try simp only [i_le, i_lt, i_eq, Int32.reduceToInt] at *
  first | (have e_0 := d32 (x := x1) (y := 60) (by (try simp only [Int32.reduceToInt]); omega); (try simp only [Int32.reduceToInt] at e_0)) | skip
  first | (have e_1 := m32 (x := (x1 / 60)) (y := 60) (by (try simp only [Int32.reduceToInt]); omega); (try simp only [Int32.reduceToInt] at e_1)) | skip
  first | (have e_2 := s32 (x := x1) (y := (x1 / 60 * 60)) (by (try simp only [Int32.reduceToInt]); omega); (try simp only [Int32.reduceToInt] at e_2)) | skip
  first | (have e_3 := d32 (x := (x1 - x1 / 60 * 60)) (y := 15) (by (try simp only [Int32.reduceToInt]); omega); (try simp only [Int32.reduceToInt] at e_3)) | skip
  try simp only [Int32.reduceToInt] at *
  omega
theorem m_hourNow_ok {S : MS} (hI : MInv S) {t : Int32} (h : 0 ≤ t ∧ t < 4) : 1 ≤ m_hourNow S t ∧ m_hourNow S t ≤ 12 := m_hourOf_ok ⟨(mi_t hI h).1, (mi_t hI h).2.1⟩
theorem m_quarterNow_ok {S : MS} (hI : MInv S) {t : Int32} (h : 0 ≤ t ∧ t < 4) : 1 ≤ m_quarterNow S t ∧ m_quarterNow S t ≤ 4 := by
  have hq := quart_b (S.1 27 (Int32.toNatClampNeg t)) ⟨(mi_t hI h).1, (mi_t hI h).2.1⟩
  unfold m_quarterNow
  split
  · decide
  · rename_i h0
    have h0 : ¬ ((S.1 27 (Int32.toNatClampNeg t) - S.1 27 (Int32.toNatClampNeg t) / 60 * 60) / 15) = 0 := h0
    show 1 ≤ ((S.1 27 (Int32.toNatClampNeg t) - S.1 27 (Int32.toNatClampNeg t) / 60 * 60) / 15) ∧ ((S.1 27 (Int32.toNatClampNeg t) - S.1 27 (Int32.toNatClampNeg t) / 60 * 60) / 15) ≤ 4
    simp only [i_le, i_lt, i_eq, Int32.reduceToInt] at *
    omega
theorem m_offGoes_o1 (S : MS) (x1 : Int32) (x2 : Int32) (ht : 0 ≤ x1 ∧ x1 < 4) (hg : 0 ≤ S.1 35 (Int32.toNatClampNeg (m_placeOf x1 x2))) (hI : MInv S) (hpl : 0 ≤ x1 ∧ x1 < 4 → 0 ≤ (m_placeOf x1 x2) ∧ (m_placeOf x1 x2) < 8) : 0 ≤ (m_placeOf x1 x2) ∧ (m_placeOf x1 x2) < 8 := by 
  clear hI
  try simp only [i_le, i_lt, i_eq, Int32.reduceToInt] at *
  try simp only [Int32.reduceToInt] at *
  omega
def m_offGoes_v10 (S : MS) (x1 : Int32) (x2 : Int32) : Int32 := (S.1 35 (Int32.toNatClampNeg (m_placeOf x1 x2)))
def m_offGoes_j28_s0 (S : MS) (x1 : Int32) (x2 : Int32) : Int32 := (if x2 = 0 then (m_hourNow S x1) else (m_quarterNow S x1))
def m_offGoes_j83_s0 (S : MS) (x1 : Int32) (x2 : Int32) : Int32 := (if (m_isPlate S (m_offGoes_v10 S x1 x2)) = 0 then (if x2 = 0 then 0 else (if (m_offGoes_j28_s0 S x1 x2) = 4 then 1 else 0)) else (if (S.1 14 (Int32.toNatClampNeg (m_offGoes_v10 S x1 x2))) = ((S.1 12 (Int32.toNatClampNeg (m_offGoes_v10 S x1 x2))) - 1) then 1 else 0))
theorem m_offGoes_o13 (S : MS) (x1 : Int32) (x2 : Int32) (ht : 0 ≤ x1 ∧ x1 < 4) (hg : 0 ≤ S.1 35 (Int32.toNatClampNeg (m_placeOf x1 x2))) (hI : MInv S) (hpl : 0 ≤ x1 ∧ x1 < 4 → 0 ≤ (m_placeOf x1 x2) ∧ (m_placeOf x1 x2) < 8) (hn3 : 0 ≤ (m_offGoes_v10 S x1 x2) ∧ (m_offGoes_v10 S x1 x2) < 16) (hm3 : 0 ≤ S.1 11 (Int32.toNatClampNeg (m_offGoes_v10 S x1 x2)) ∧ S.1 11 (Int32.toNatClampNeg (m_offGoes_v10 S x1 x2)) ≤ 3 ∧ 0 ≤ S.1 12 (Int32.toNatClampNeg (m_offGoes_v10 S x1 x2)) ∧ S.1 12 (Int32.toNatClampNeg (m_offGoes_v10 S x1 x2)) ≤ 24 ∧ (S.1 11 (Int32.toNatClampNeg (m_offGoes_v10 S x1 x2)) = 0 ∨ 1 ≤ S.1 12 (Int32.toNatClampNeg (m_offGoes_v10 S x1 x2))) ∧ 0 ≤ S.1 14 (Int32.toNatClampNeg (m_offGoes_v10 S x1 x2)) ∧ (S.1 14 (Int32.toNatClampNeg (m_offGoes_v10 S x1 x2)) < S.1 12 (Int32.toNatClampNeg (m_offGoes_v10 S x1 x2)) ∨ S.1 14 (Int32.toNatClampNeg (m_offGoes_v10 S x1 x2)) = 0)) (hst : 1 ≤ (m_offGoes_j28_s0 S x1 x2) ∧ (m_offGoes_j28_s0 S x1 x2) ≤ 12) (c11 : ¬ (S.1 11 (Int32.toNatClampNeg (m_offGoes_v10 S x1 x2))) = 0) (c12 : ¬ (S.1 11 (Int32.toNatClampNeg (m_offGoes_v10 S x1 x2))) = 2) : 0 ≤ ((24 * (m_offGoes_v10 S x1 x2)) + (S.1 14 (Int32.toNatClampNeg (m_offGoes_v10 S x1 x2)))) ∧ ((24 * (m_offGoes_v10 S x1 x2)) + (S.1 14 (Int32.toNatClampNeg (m_offGoes_v10 S x1 x2)))) < 384 := by 
  clear hI
  try simp only [m_offGoes_v10] at *
  try simp only [i_le, i_lt, i_eq, Int32.reduceToInt] at *
  first | (have e_0 := m32 (x := 24) (y := (S.1 35 (Int32.toNatClampNeg (m_placeOf x1 x2)))) (by (try simp only [Int32.reduceToInt]); omega); (try simp only [Int32.reduceToInt] at e_0)) | skip
  first | (have e_1 := a32 (x := (24 * (S.1 35 (Int32.toNatClampNeg (m_placeOf x1 x2))))) (y := (S.1 14 (Int32.toNatClampNeg (S.1 35 (Int32.toNatClampNeg (m_placeOf x1 x2)))))) (by (try simp only [Int32.reduceToInt]); omega); (try simp only [Int32.reduceToInt] at e_1)) | skip
  try simp only [Int32.reduceToInt] at *
  omega
theorem m_offGoes_o14 (S : MS) (x1 : Int32) (x2 : Int32) (ht : 0 ≤ x1 ∧ x1 < 4) (hg : 0 ≤ S.1 35 (Int32.toNatClampNeg (m_placeOf x1 x2))) (hI : MInv S) (hpl : 0 ≤ x1 ∧ x1 < 4 → 0 ≤ (m_placeOf x1 x2) ∧ (m_placeOf x1 x2) < 8) (hn3 : 0 ≤ (m_offGoes_v10 S x1 x2) ∧ (m_offGoes_v10 S x1 x2) < 16) (hm3 : 0 ≤ S.1 11 (Int32.toNatClampNeg (m_offGoes_v10 S x1 x2)) ∧ S.1 11 (Int32.toNatClampNeg (m_offGoes_v10 S x1 x2)) ≤ 3 ∧ 0 ≤ S.1 12 (Int32.toNatClampNeg (m_offGoes_v10 S x1 x2)) ∧ S.1 12 (Int32.toNatClampNeg (m_offGoes_v10 S x1 x2)) ≤ 24 ∧ (S.1 11 (Int32.toNatClampNeg (m_offGoes_v10 S x1 x2)) = 0 ∨ 1 ≤ S.1 12 (Int32.toNatClampNeg (m_offGoes_v10 S x1 x2))) ∧ 0 ≤ S.1 14 (Int32.toNatClampNeg (m_offGoes_v10 S x1 x2)) ∧ (S.1 14 (Int32.toNatClampNeg (m_offGoes_v10 S x1 x2)) < S.1 12 (Int32.toNatClampNeg (m_offGoes_v10 S x1 x2)) ∨ S.1 14 (Int32.toNatClampNeg (m_offGoes_v10 S x1 x2)) = 0)) (hst : 1 ≤ (m_offGoes_j28_s0 S x1 x2) ∧ (m_offGoes_j28_s0 S x1 x2) ≤ 12) (c11 : ¬ (S.1 11 (Int32.toNatClampNeg (m_offGoes_v10 S x1 x2))) = 0) (c12 : ¬ (S.1 11 (Int32.toNatClampNeg (m_offGoes_v10 S x1 x2))) = 2) : ¬ (S.1 12 (Int32.toNatClampNeg (m_offGoes_v10 S x1 x2))) = 0 := by 
  clear hI
  try simp only [m_offGoes_v10] at *
  try simp only [i_le, i_lt, i_eq, Int32.reduceToInt] at *
  try simp only [Int32.reduceToInt] at *
  omega
theorem m_offGoes_o15 (S : MS) (x1 : Int32) (x2 : Int32) (ht : 0 ≤ x1 ∧ x1 < 4) (hg : 0 ≤ S.1 35 (Int32.toNatClampNeg (m_placeOf x1 x2))) (hI : MInv S) (hpl : 0 ≤ x1 ∧ x1 < 4 → 0 ≤ (m_placeOf x1 x2) ∧ (m_placeOf x1 x2) < 8) (hn3 : 0 ≤ (m_offGoes_v10 S x1 x2) ∧ (m_offGoes_v10 S x1 x2) < 16) (hm3 : 0 ≤ S.1 11 (Int32.toNatClampNeg (m_offGoes_v10 S x1 x2)) ∧ S.1 11 (Int32.toNatClampNeg (m_offGoes_v10 S x1 x2)) ≤ 3 ∧ 0 ≤ S.1 12 (Int32.toNatClampNeg (m_offGoes_v10 S x1 x2)) ∧ S.1 12 (Int32.toNatClampNeg (m_offGoes_v10 S x1 x2)) ≤ 24 ∧ (S.1 11 (Int32.toNatClampNeg (m_offGoes_v10 S x1 x2)) = 0 ∨ 1 ≤ S.1 12 (Int32.toNatClampNeg (m_offGoes_v10 S x1 x2))) ∧ 0 ≤ S.1 14 (Int32.toNatClampNeg (m_offGoes_v10 S x1 x2)) ∧ (S.1 14 (Int32.toNatClampNeg (m_offGoes_v10 S x1 x2)) < S.1 12 (Int32.toNatClampNeg (m_offGoes_v10 S x1 x2)) ∨ S.1 14 (Int32.toNatClampNeg (m_offGoes_v10 S x1 x2)) = 0)) (hst : 1 ≤ (m_offGoes_j28_s0 S x1 x2) ∧ (m_offGoes_j28_s0 S x1 x2) ≤ 12) (c11 : ¬ (S.1 11 (Int32.toNatClampNeg (m_offGoes_v10 S x1 x2))) = 0) (c12 : (S.1 11 (Int32.toNatClampNeg (m_offGoes_v10 S x1 x2))) = 2) : 0 ≤ ((m_offGoes_j28_s0 S x1 x2) - 1) := by 
  clear hI
  try simp only [m_offGoes_v10] at *
  try simp only [i_le, i_lt, i_eq, Int32.reduceToInt] at *
  first | (have e_0 := s32 (x := (m_offGoes_j28_s0 S x1 x2)) (y := 1) (by (try simp only [Int32.reduceToInt]); omega); (try simp only [Int32.reduceToInt] at e_0)) | skip
  try simp only [Int32.reduceToInt] at *
  omega
theorem m_offGoes_o16 (S : MS) (x1 : Int32) (x2 : Int32) (ht : 0 ≤ x1 ∧ x1 < 4) (hg : 0 ≤ S.1 35 (Int32.toNatClampNeg (m_placeOf x1 x2))) (hI : MInv S) (hpl : 0 ≤ x1 ∧ x1 < 4 → 0 ≤ (m_placeOf x1 x2) ∧ (m_placeOf x1 x2) < 8) (hn3 : 0 ≤ (m_offGoes_v10 S x1 x2) ∧ (m_offGoes_v10 S x1 x2) < 16) (hm3 : 0 ≤ S.1 11 (Int32.toNatClampNeg (m_offGoes_v10 S x1 x2)) ∧ S.1 11 (Int32.toNatClampNeg (m_offGoes_v10 S x1 x2)) ≤ 3 ∧ 0 ≤ S.1 12 (Int32.toNatClampNeg (m_offGoes_v10 S x1 x2)) ∧ S.1 12 (Int32.toNatClampNeg (m_offGoes_v10 S x1 x2)) ≤ 24 ∧ (S.1 11 (Int32.toNatClampNeg (m_offGoes_v10 S x1 x2)) = 0 ∨ 1 ≤ S.1 12 (Int32.toNatClampNeg (m_offGoes_v10 S x1 x2))) ∧ 0 ≤ S.1 14 (Int32.toNatClampNeg (m_offGoes_v10 S x1 x2)) ∧ (S.1 14 (Int32.toNatClampNeg (m_offGoes_v10 S x1 x2)) < S.1 12 (Int32.toNatClampNeg (m_offGoes_v10 S x1 x2)) ∨ S.1 14 (Int32.toNatClampNeg (m_offGoes_v10 S x1 x2)) = 0)) (hst : 1 ≤ (m_offGoes_j28_s0 S x1 x2) ∧ (m_offGoes_j28_s0 S x1 x2) ≤ 12) (c11 : ¬ (S.1 11 (Int32.toNatClampNeg (m_offGoes_v10 S x1 x2))) = 0) (c12 : (S.1 11 (Int32.toNatClampNeg (m_offGoes_v10 S x1 x2))) = 2) (hs1 : 0 ≤ ((m_offGoes_j28_s0 S x1 x2) - 1)) : 0 < (S.1 12 (Int32.toNatClampNeg (m_offGoes_v10 S x1 x2))) := by 
  clear hI
  try simp only [m_offGoes_v10] at *
  try simp only [i_le, i_lt, i_eq, Int32.reduceToInt] at *
  first | (have e_0 := s32 (x := (m_offGoes_j28_s0 S x1 x2)) (y := 1) (by (try simp only [Int32.reduceToInt]); omega); (try simp only [Int32.reduceToInt] at e_0)) | skip
  try simp only [Int32.reduceToInt] at *
  omega
theorem m_offGoes_o17 (S : MS) (x1 : Int32) (x2 : Int32) (ht : 0 ≤ x1 ∧ x1 < 4) (hg : 0 ≤ S.1 35 (Int32.toNatClampNeg (m_placeOf x1 x2))) (hI : MInv S) (hpl : 0 ≤ x1 ∧ x1 < 4 → 0 ≤ (m_placeOf x1 x2) ∧ (m_placeOf x1 x2) < 8) (hn3 : 0 ≤ (m_offGoes_v10 S x1 x2) ∧ (m_offGoes_v10 S x1 x2) < 16) (hm3 : 0 ≤ S.1 11 (Int32.toNatClampNeg (m_offGoes_v10 S x1 x2)) ∧ S.1 11 (Int32.toNatClampNeg (m_offGoes_v10 S x1 x2)) ≤ 3 ∧ 0 ≤ S.1 12 (Int32.toNatClampNeg (m_offGoes_v10 S x1 x2)) ∧ S.1 12 (Int32.toNatClampNeg (m_offGoes_v10 S x1 x2)) ≤ 24 ∧ (S.1 11 (Int32.toNatClampNeg (m_offGoes_v10 S x1 x2)) = 0 ∨ 1 ≤ S.1 12 (Int32.toNatClampNeg (m_offGoes_v10 S x1 x2))) ∧ 0 ≤ S.1 14 (Int32.toNatClampNeg (m_offGoes_v10 S x1 x2)) ∧ (S.1 14 (Int32.toNatClampNeg (m_offGoes_v10 S x1 x2)) < S.1 12 (Int32.toNatClampNeg (m_offGoes_v10 S x1 x2)) ∨ S.1 14 (Int32.toNatClampNeg (m_offGoes_v10 S x1 x2)) = 0)) (hst : 1 ≤ (m_offGoes_j28_s0 S x1 x2) ∧ (m_offGoes_j28_s0 S x1 x2) ≤ 12) (c11 : ¬ (S.1 11 (Int32.toNatClampNeg (m_offGoes_v10 S x1 x2))) = 0) (c12 : (S.1 11 (Int32.toNatClampNeg (m_offGoes_v10 S x1 x2))) = 2) (hs1 : 0 ≤ ((m_offGoes_j28_s0 S x1 x2) - 1)) (hs0 : 0 < (S.1 12 (Int32.toNatClampNeg (m_offGoes_v10 S x1 x2)))) (hrem : 0 ≤ (((m_offGoes_j28_s0 S x1 x2) - 1) - ((m_offGoes_j28_s0 S x1 x2) - 1) / (S.1 12 (Int32.toNatClampNeg (m_offGoes_v10 S x1 x2))) * (S.1 12 (Int32.toNatClampNeg (m_offGoes_v10 S x1 x2)))) ∧ (((m_offGoes_j28_s0 S x1 x2) - 1) - ((m_offGoes_j28_s0 S x1 x2) - 1) / (S.1 12 (Int32.toNatClampNeg (m_offGoes_v10 S x1 x2))) * (S.1 12 (Int32.toNatClampNeg (m_offGoes_v10 S x1 x2)))) < (S.1 12 (Int32.toNatClampNeg (m_offGoes_v10 S x1 x2)))) : ¬ (S.1 12 (Int32.toNatClampNeg (m_offGoes_v10 S x1 x2))) = 0 := by 
  clear hI
  try simp only [m_offGoes_v10] at *
  try simp only [i_le, i_lt, i_eq, Int32.reduceToInt] at *
  first | (have e_0 := s32 (x := (m_offGoes_j28_s0 S x1 x2)) (y := 1) (by (try simp only [Int32.reduceToInt]); omega); (try simp only [Int32.reduceToInt] at e_0)) | skip
  first | (have e_1 := d32 (x := ((m_offGoes_j28_s0 S x1 x2) - 1)) (y := (S.1 12 (Int32.toNatClampNeg (S.1 35 (Int32.toNatClampNeg (m_placeOf x1 x2)))))) (by (try simp only [Int32.reduceToInt]); omega); (try simp only [Int32.reduceToInt] at e_1)) | skip
  first | (have e_2 := m32 (x := (((m_offGoes_j28_s0 S x1 x2) - 1) / (S.1 12 (Int32.toNatClampNeg (S.1 35 (Int32.toNatClampNeg (m_placeOf x1 x2))))))) (y := (S.1 12 (Int32.toNatClampNeg (S.1 35 (Int32.toNatClampNeg (m_placeOf x1 x2)))))) (by (try simp only [Int32.reduceToInt]); omega); (try simp only [Int32.reduceToInt] at e_2)) | skip
  first | (have e_3 := s32 (x := ((m_offGoes_j28_s0 S x1 x2) - 1)) (y := (((m_offGoes_j28_s0 S x1 x2) - 1) / (S.1 12 (Int32.toNatClampNeg (S.1 35 (Int32.toNatClampNeg (m_placeOf x1 x2))))) * (S.1 12 (Int32.toNatClampNeg (S.1 35 (Int32.toNatClampNeg (m_placeOf x1 x2))))))) (by (try simp only [Int32.reduceToInt]); omega); (try simp only [Int32.reduceToInt] at e_3)) | skip
  try simp only [Int32.reduceToInt] at *
  omega
theorem m_offGoes_o18 (S : MS) (x1 : Int32) (x2 : Int32) (ht : 0 ≤ x1 ∧ x1 < 4) (hg : 0 ≤ S.1 35 (Int32.toNatClampNeg (m_placeOf x1 x2))) (hI : MInv S) (hpl : 0 ≤ x1 ∧ x1 < 4 → 0 ≤ (m_placeOf x1 x2) ∧ (m_placeOf x1 x2) < 8) (hn3 : 0 ≤ (m_offGoes_v10 S x1 x2) ∧ (m_offGoes_v10 S x1 x2) < 16) (hm3 : 0 ≤ S.1 11 (Int32.toNatClampNeg (m_offGoes_v10 S x1 x2)) ∧ S.1 11 (Int32.toNatClampNeg (m_offGoes_v10 S x1 x2)) ≤ 3 ∧ 0 ≤ S.1 12 (Int32.toNatClampNeg (m_offGoes_v10 S x1 x2)) ∧ S.1 12 (Int32.toNatClampNeg (m_offGoes_v10 S x1 x2)) ≤ 24 ∧ (S.1 11 (Int32.toNatClampNeg (m_offGoes_v10 S x1 x2)) = 0 ∨ 1 ≤ S.1 12 (Int32.toNatClampNeg (m_offGoes_v10 S x1 x2))) ∧ 0 ≤ S.1 14 (Int32.toNatClampNeg (m_offGoes_v10 S x1 x2)) ∧ (S.1 14 (Int32.toNatClampNeg (m_offGoes_v10 S x1 x2)) < S.1 12 (Int32.toNatClampNeg (m_offGoes_v10 S x1 x2)) ∨ S.1 14 (Int32.toNatClampNeg (m_offGoes_v10 S x1 x2)) = 0)) (hst : 1 ≤ (m_offGoes_j28_s0 S x1 x2) ∧ (m_offGoes_j28_s0 S x1 x2) ≤ 12) (c11 : ¬ (S.1 11 (Int32.toNatClampNeg (m_offGoes_v10 S x1 x2))) = 0) (c12 : (S.1 11 (Int32.toNatClampNeg (m_offGoes_v10 S x1 x2))) = 2) (hs1 : 0 ≤ ((m_offGoes_j28_s0 S x1 x2) - 1)) (hs0 : 0 < (S.1 12 (Int32.toNatClampNeg (m_offGoes_v10 S x1 x2)))) (hrem : 0 ≤ (((m_offGoes_j28_s0 S x1 x2) - 1) - ((m_offGoes_j28_s0 S x1 x2) - 1) / (S.1 12 (Int32.toNatClampNeg (m_offGoes_v10 S x1 x2))) * (S.1 12 (Int32.toNatClampNeg (m_offGoes_v10 S x1 x2)))) ∧ (((m_offGoes_j28_s0 S x1 x2) - 1) - ((m_offGoes_j28_s0 S x1 x2) - 1) / (S.1 12 (Int32.toNatClampNeg (m_offGoes_v10 S x1 x2))) * (S.1 12 (Int32.toNatClampNeg (m_offGoes_v10 S x1 x2)))) < (S.1 12 (Int32.toNatClampNeg (m_offGoes_v10 S x1 x2)))) : 0 ≤ ((24 * (m_offGoes_v10 S x1 x2)) + (((m_offGoes_j28_s0 S x1 x2) - 1) - ((m_offGoes_j28_s0 S x1 x2) - 1) / (S.1 12 (Int32.toNatClampNeg (m_offGoes_v10 S x1 x2))) * (S.1 12 (Int32.toNatClampNeg (m_offGoes_v10 S x1 x2))))) ∧ ((24 * (m_offGoes_v10 S x1 x2)) + (((m_offGoes_j28_s0 S x1 x2) - 1) - ((m_offGoes_j28_s0 S x1 x2) - 1) / (S.1 12 (Int32.toNatClampNeg (m_offGoes_v10 S x1 x2))) * (S.1 12 (Int32.toNatClampNeg (m_offGoes_v10 S x1 x2))))) < 384 := by 
  clear hI
  try simp only [m_offGoes_v10] at *
  try simp only [i_le, i_lt, i_eq, Int32.reduceToInt] at *
  first | (have e_0 := s32 (x := (m_offGoes_j28_s0 S x1 x2)) (y := 1) (by (try simp only [Int32.reduceToInt]); omega); (try simp only [Int32.reduceToInt] at e_0)) | skip
  first | (have e_1 := d32 (x := ((m_offGoes_j28_s0 S x1 x2) - 1)) (y := (S.1 12 (Int32.toNatClampNeg (S.1 35 (Int32.toNatClampNeg (m_placeOf x1 x2)))))) (by (try simp only [Int32.reduceToInt]); omega); (try simp only [Int32.reduceToInt] at e_1)) | skip
  first | (have e_2 := m32 (x := (((m_offGoes_j28_s0 S x1 x2) - 1) / (S.1 12 (Int32.toNatClampNeg (S.1 35 (Int32.toNatClampNeg (m_placeOf x1 x2))))))) (y := (S.1 12 (Int32.toNatClampNeg (S.1 35 (Int32.toNatClampNeg (m_placeOf x1 x2)))))) (by (try simp only [Int32.reduceToInt]); omega); (try simp only [Int32.reduceToInt] at e_2)) | skip
  first | (have e_3 := s32 (x := ((m_offGoes_j28_s0 S x1 x2) - 1)) (y := (((m_offGoes_j28_s0 S x1 x2) - 1) / (S.1 12 (Int32.toNatClampNeg (S.1 35 (Int32.toNatClampNeg (m_placeOf x1 x2))))) * (S.1 12 (Int32.toNatClampNeg (S.1 35 (Int32.toNatClampNeg (m_placeOf x1 x2))))))) (by (try simp only [Int32.reduceToInt]); omega); (try simp only [Int32.reduceToInt] at e_3)) | skip
  first | (have e_4 := m32 (x := 24) (y := (S.1 35 (Int32.toNatClampNeg (m_placeOf x1 x2)))) (by (try simp only [Int32.reduceToInt]); omega); (try simp only [Int32.reduceToInt] at e_4)) | skip
  first | (have e_5 := a32 (x := (24 * (S.1 35 (Int32.toNatClampNeg (m_placeOf x1 x2))))) (y := (((m_offGoes_j28_s0 S x1 x2) - 1) - ((m_offGoes_j28_s0 S x1 x2) - 1) / (S.1 12 (Int32.toNatClampNeg (S.1 35 (Int32.toNatClampNeg (m_placeOf x1 x2))))) * (S.1 12 (Int32.toNatClampNeg (S.1 35 (Int32.toNatClampNeg (m_placeOf x1 x2))))))) (by (try simp only [Int32.reduceToInt]); omega); (try simp only [Int32.reduceToInt] at e_5)) | skip
  try simp only [Int32.reduceToInt] at *
  omega
theorem m_offGoes_st (S : MS) (x1 x2 : Int32) (hI : MInv S) (ht : 0 ≤ x1 ∧ x1 < 4) : 1 ≤ (m_offGoes_j28_s0 S x1 x2) ∧ (m_offGoes_j28_s0 S x1 x2) ≤ 12 := by
  unfold m_offGoes_j28_s0
  split
  · exact m_hourNow_ok hI ht
  · have h := m_quarterNow_ok hI ht
    refine ⟨h.1, ?_⟩
    have h := h.2
    simp only [i_le, Int32.reduceToInt] at *
    omega
def m_offGoes (S : MS) (x1 : Int32) (x2 : Int32) : MS := (if (S.1 11 (Int32.toNatClampNeg (m_offGoes_v10 S x1 x2))) = 0 then (mu (mu S 25 (Int32.toNatClampNeg (m_offGoes_v10 S x1 x2)) (m_offGoes_j83_s0 S x1 x2)) 21 (Int32.toNatClampNeg (m_offGoes_v10 S x1 x2)) ((S.1 21 (Int32.toNatClampNeg (m_offGoes_v10 S x1 x2))) + 1)) else (if (S.1 11 (Int32.toNatClampNeg (m_offGoes_v10 S x1 x2))) = 2 then (mu (mu S 25 (Int32.toNatClampNeg (m_offGoes_v10 S x1 x2)) (m_offGoes_j83_s0 S x1 x2)) 21 (Int32.toNatClampNeg (m_offGoes_v10 S x1 x2)) (S.1 13 (Int32.toNatClampNeg ((24 * (m_offGoes_v10 S x1 x2)) + (((m_offGoes_j28_s0 S x1 x2) - 1) - ((m_offGoes_j28_s0 S x1 x2) - 1) / (S.1 12 (Int32.toNatClampNeg (m_offGoes_v10 S x1 x2))) * (S.1 12 (Int32.toNatClampNeg (m_offGoes_v10 S x1 x2)))))))) else (mu (mu (mu S 25 (Int32.toNatClampNeg (m_offGoes_v10 S x1 x2)) (m_offGoes_j83_s0 S x1 x2)) 21 (Int32.toNatClampNeg (m_offGoes_v10 S x1 x2)) ((S.1 21 (Int32.toNatClampNeg (m_offGoes_v10 S x1 x2))) + (S.1 13 (Int32.toNatClampNeg ((24 * (m_offGoes_v10 S x1 x2)) + (S.1 14 (Int32.toNatClampNeg (m_offGoes_v10 S x1 x2)))))))) 14 (Int32.toNatClampNeg (m_offGoes_v10 S x1 x2)) (((S.1 14 (Int32.toNatClampNeg (m_offGoes_v10 S x1 x2))) + 1) - ((S.1 14 (Int32.toNatClampNeg (m_offGoes_v10 S x1 x2))) + 1) / (S.1 12 (Int32.toNatClampNeg (m_offGoes_v10 S x1 x2))) * (S.1 12 (Int32.toNatClampNeg (m_offGoes_v10 S x1 x2)))))))
set_option maxHeartbeats 4000000 in
theorem mt_offGoes (l : Launch) (D : va_G) (d : Nat → ClassId) (A : Nat → Prop) (a : Nat → Nat) (S : MS) (x1 : Int32) (x2 : Int32) (ht : 0 ≤ x1 ∧ x1 < 4) (hg : 0 ≤ S.1 35 (Int32.toNatClampNeg (m_placeOf x1 x2))) (hI : MInv S) : MV l yX1_offGoes cX1_offGoes 5 (rm_ 2) D d A a S [.int x1, .int x2] (m_offGoes S x1 x2) := by
  refine m_startV rfl (Nat.le_of_ble_eq_true rfl) ?_
  intro p e s m av below meth c ls Q X hrt hlk hl hR hQ
  have hx := X.1.1
  have hb := X.1.2.1
  have hown := X.1.2.2.2.1
  have hts := X.1.2.2.2.2
  have hS : va_S A s.heap s.heap [] := va_S.rf
  have hl : lv_has ls 5 [(0, .ref (a 0)), (1, .int x1), (2, .int x2)] := hl
  have hpl : 0 ≤ x1 ∧ x1 < 4 → 0 ≤ (m_placeOf x1 x2) ∧ (m_placeOf x1 x2) < 8 := m_placeOf_ok
  refine lv_aload_n hx hb dX1_offGoes_0 rfl (lv_at hl 0 rfl) ?_
  refine mg_a X hR 35 (by decide) (by decide) q1172 dX1_offGoes_1 ?_
  refine lv_iload_n hx hb dX1_offGoes_4 rfl (lv_at hl 1 rfl) ?_
  refine lv_iload_n hx hb dX1_offGoes_5 rfl (lv_at hl 2 rfl) ?_
  refine s_ci X.1 (st_m_placeOf l x1 x2) 2 (lw_S q1441 q1442 q59 q1443) ⟨rfl, rfl⟩ (by decide +kernel) ⟨by decide, by decide⟩ ⟨by decide, by decide⟩ rfl hl.1 rfl (Nat.le_of_ble_eq_true rfl) dX1_offGoes_6 ?_
  refine m_ld X hR ⟨by decide, rfl, by decide⟩ (ixl 8 8 (by decide) rfl (m_offGoes_o1 S x1 x2 ht hg hI hpl)) (v := S.1 35 (Int32.toNatClampNeg (m_placeOf x1 x2))) rfl dX1_offGoes_9 ?_
  refine lv_istore_n (lv' := [(3, .int (m_offGoes_v10 S x1 x2)), (0, .ref (a 0)), (1, .int x1), (2, .int x2)]) hx hb dX1_offGoes_10 rfl hl (by decide) rfl (fun ls hl => ?_)
  have hn3 : 0 ≤ (m_offGoes_v10 S x1 x2) ∧ (m_offGoes_v10 S x1 x2) < 16 := ⟨hg, mi_hl hI (m_placeOf_ok ht)⟩
  have hm3 : 0 ≤ S.1 11 (Int32.toNatClampNeg (m_offGoes_v10 S x1 x2)) ∧ S.1 11 (Int32.toNatClampNeg (m_offGoes_v10 S x1 x2)) ≤ 3 ∧ 0 ≤ S.1 12 (Int32.toNatClampNeg (m_offGoes_v10 S x1 x2)) ∧ S.1 12 (Int32.toNatClampNeg (m_offGoes_v10 S x1 x2)) ≤ 24 ∧ (S.1 11 (Int32.toNatClampNeg (m_offGoes_v10 S x1 x2)) = 0 ∨ 1 ≤ S.1 12 (Int32.toNatClampNeg (m_offGoes_v10 S x1 x2))) ∧ 0 ≤ S.1 14 (Int32.toNatClampNeg (m_offGoes_v10 S x1 x2)) ∧ (S.1 14 (Int32.toNatClampNeg (m_offGoes_v10 S x1 x2)) < S.1 12 (Int32.toNatClampNeg (m_offGoes_v10 S x1 x2)) ∨ S.1 14 (Int32.toNatClampNeg (m_offGoes_v10 S x1 x2)) = 0) := mi_n hI hn3
  refine lv_iload_n hx hb dX1_offGoes_11 rfl (lv_at hl 3 rfl) ?_
  have J4 : ∀ (w3 : Int32) (H : Heap) (locs : List Loc) (ls : Array Slot), w3 = (m_offGoes_j28_s0 S x1 x2) → MR D d A a S H → va_S A s.heap H locs → lv_has ls 5 [(3, .int (m_offGoes_v10 S x1 x2)), (0, .ref (a 0)), (1, .int x1), (2, .int x2)] → W p l e (rm_ 2) s m av below meth c H locs 0 0 Q (F0 m 28 ls [.int w3]) := by
    intro w3 H locs ls ew3 hR hS hl
    subst ew3
    refine lv_istore (lv' := [(4, .int (m_offGoes_j28_s0 S x1 x2)), (3, .int (m_offGoes_v10 S x1 x2)), (0, .ref (a 0)), (1, .int x1), (2, .int x2)]) hx hb dX1_offGoes_28 hl (by decide) rfl (fun ls hl => ?_)
    have hst : 1 ≤ (m_offGoes_j28_s0 S x1 x2) ∧ (m_offGoes_j28_s0 S x1 x2) ≤ 12 := m_offGoes_st S x1 x2 hI ht
    refine lv_aload_n hx hb dX1_offGoes_30 rfl (lv_at hl 2 rfl) ?_
    refine mg_a X hR 25 (by decide) (by decide) q1162 dX1_offGoes_31 ?_
    refine lv_iload_n hx hb dX1_offGoes_34 rfl (lv_at hl 1 rfl) ?_
    refine lv_aload_n hx hb dX1_offGoes_35 rfl (lv_at hl 2 rfl) ?_
    refine lv_iload_n hx hb dX1_offGoes_36 rfl (lv_at hl 1 rfl) ?_
    refine m_cr X hR hS (mt_isPlate l D d A a S (m_offGoes_v10 S x1 x2) (hn3)) 1 (lw_V q1394 q1396 qs30 q59 q1397) ⟨rfl, rfl⟩ (by decide +kernel) ⟨by decide, by decide⟩ ⟨by decide, by decide⟩ rfl hl.1 rfl (Nat.le_of_ble_eq_true rfl) dX1_offGoes_37 (fun H locs hR hS => ?_)
    have J10 : ∀ (w9 : Int32) (H : Heap) (locs : List Loc) (ls : Array Slot), w9 = (m_offGoes_j83_s0 S x1 x2) → MR D d A a S H → va_S A s.heap H locs → lv_has ls 5 [(4, .int (m_offGoes_j28_s0 S x1 x2)), (3, .int (m_offGoes_v10 S x1 x2)), (0, .ref (a 0)), (1, .int x1), (2, .int x2)] → W p l e (rm_ 2) s m av below meth c H locs 0 0 Q (F0 m 83 ls [.int w9, .int (m_offGoes_v10 S x1 x2), .ref (a 25)]) := by
      intro w9 H locs ls ew9 hR hS hl
      subst ew9
      refine m_zst X hR hS ⟨by decide, rfl, by decide⟩ (ixl 16 16 (by decide) rfl (hn3)) (by unfold m_offGoes_j83_s0; (repeat' split) <;> simp) dX1_offGoes_83 (fun H locs hR hS => ?_)
      refine lv_aload_n hx hb dX1_offGoes_84 rfl (lv_at hl 2 rfl) ?_
      refine mg_a X hR 11 (by decide) (by decide) q1148 dX1_offGoes_85 ?_
      refine lv_iload_n hx hb dX1_offGoes_88 rfl (lv_at hl 1 rfl) ?_
      refine m_ld X hR ⟨by decide, rfl, by decide⟩ (ixl 16 16 (by decide) rfl (hn3)) (v := S.1 11 (Int32.toNatClampNeg (m_offGoes_v10 S x1 x2))) ((mu_k _ (by decide) _ _ _).trans rfl) dX1_offGoes_89 ?_
      refine lv_if_ne (tgt := 106) hx hb dX1_offGoes_90 (by decide) (fun c11 => ?_) (fun c11 => ?_)
      · refine lv_aload_n hx hb dX1_offGoes_106 rfl (lv_at hl 2 rfl) ?_
        refine mg_a X hR 11 (by decide) (by decide) q1148 dX1_offGoes_107 ?_
        refine lv_iload_n hx hb dX1_offGoes_110 rfl (lv_at hl 1 rfl) ?_
        refine m_ld X hR ⟨by decide, rfl, by decide⟩ (ixl 16 16 (by decide) rfl (hn3)) (v := S.1 11 (Int32.toNatClampNeg (m_offGoes_v10 S x1 x2))) ((mu_k _ (by decide) _ _ _).trans rfl) dX1_offGoes_111 ?_
        refine lv_iconst (v := 2) hx hb dX1_offGoes_112 (by decide) ?_
        refine lv_icmp_ne (tgt := 146) hx hb dX1_offGoes_113 (by decide) (fun c12 => ?_) (fun c12 => ?_)
        · refine lv_aload_n hx hb dX1_offGoes_146 rfl (lv_at hl 2 rfl) ?_
          refine mg_a X hR 21 (by decide) (by decide) q1158 dX1_offGoes_147 ?_
          refine lv_iload_n hx hb dX1_offGoes_150 rfl (lv_at hl 1 rfl) ?_
          refine lv_dup2_11 hx hb dX1_offGoes_151 rfl rfl ?_
          refine m_ld X hR ⟨by decide, rfl, by decide⟩ (ixl 16 16 (by decide) rfl (hn3)) (v := S.1 21 (Int32.toNatClampNeg (m_offGoes_v10 S x1 x2))) ((mu_k _ (by decide) _ _ _).trans rfl) dX1_offGoes_152 ?_
          refine lv_aload_n hx hb dX1_offGoes_153 rfl (lv_at hl 2 rfl) ?_
          refine mg_a X hR 13 (by decide) (by decide) q1150 dX1_offGoes_154 ?_
          refine lv_bipush (v := 24) hx hb dX1_offGoes_157 (by decide) ?_
          refine lv_iload_n hx hb dX1_offGoes_159 rfl (lv_at hl 1 rfl) ?_
          refine lv_imul hx hb dX1_offGoes_160 ?_
          refine lv_aload_n hx hb dX1_offGoes_161 rfl (lv_at hl 2 rfl) ?_
          refine mg_a X hR 14 (by decide) (by decide) q1151 dX1_offGoes_162 ?_
          refine lv_iload_n hx hb dX1_offGoes_165 rfl (lv_at hl 1 rfl) ?_
          refine m_ld X hR ⟨by decide, rfl, by decide⟩ (ixl 16 16 (by decide) rfl (hn3)) (v := S.1 14 (Int32.toNatClampNeg (m_offGoes_v10 S x1 x2))) ((mu_k _ (by decide) _ _ _).trans rfl) dX1_offGoes_166 ?_
          refine lv_iadd hx hb dX1_offGoes_167 ?_
          refine m_ld X hR ⟨by decide, rfl, by decide⟩ (ixl 384 384 (by decide) rfl (m_offGoes_o13 S x1 x2 ht hg hI hpl hn3 hm3 hst c11 c12)) (v := S.1 13 (Int32.toNatClampNeg ((24 * (m_offGoes_v10 S x1 x2)) + (S.1 14 (Int32.toNatClampNeg (m_offGoes_v10 S x1 x2)))))) ((mu_k _ (by decide) _ _ _).trans rfl) dX1_offGoes_168 ?_
          refine lv_iadd hx hb dX1_offGoes_169 ?_
          refine m_st X hR hS ⟨by decide, rfl, by decide⟩ (ixl 16 16 (by decide) rfl (hn3)) dX1_offGoes_170 (fun H locs hR hS => ?_)
          refine lv_aload_n hx hb dX1_offGoes_171 rfl (lv_at hl 2 rfl) ?_
          refine mg_a X hR 14 (by decide) (by decide) q1151 dX1_offGoes_172 ?_
          refine lv_iload_n hx hb dX1_offGoes_175 rfl (lv_at hl 1 rfl) ?_
          refine lv_aload_n hx hb dX1_offGoes_176 rfl (lv_at hl 2 rfl) ?_
          refine mg_a X hR 14 (by decide) (by decide) q1151 dX1_offGoes_177 ?_
          refine lv_iload_n hx hb dX1_offGoes_180 rfl (lv_at hl 1 rfl) ?_
          refine m_ld X hR ⟨by decide, rfl, by decide⟩ (ixl 16 16 (by decide) rfl (hn3)) (v := S.1 14 (Int32.toNatClampNeg (m_offGoes_v10 S x1 x2))) ((mu_k _ (by decide) _ _ _).trans ((mu_k _ (by decide) _ _ _).trans rfl)) dX1_offGoes_181 ?_
          refine lv_iconst (v := 1) hx hb dX1_offGoes_182 (by decide) ?_
          refine lv_iadd hx hb dX1_offGoes_183 ?_
          refine lv_aload_n hx hb dX1_offGoes_184 rfl (lv_at hl 2 rfl) ?_
          refine mg_a X hR 12 (by decide) (by decide) q1149 dX1_offGoes_185 ?_
          refine lv_iload_n hx hb dX1_offGoes_188 rfl (lv_at hl 1 rfl) ?_
          refine m_ld X hR ⟨by decide, rfl, by decide⟩ (ixl 16 16 (by decide) rfl (hn3)) (v := S.1 12 (Int32.toNatClampNeg (m_offGoes_v10 S x1 x2))) ((mu_k _ (by decide) _ _ _).trans ((mu_k _ (by decide) _ _ _).trans rfl)) dX1_offGoes_189 ?_
          refine lv_irem hx hb dX1_offGoes_190 (m_offGoes_o14 S x1 x2 ht hg hI hpl hn3 hm3 hst c11 c12) ?_
          refine m_st X hR hS ⟨by decide, rfl, by decide⟩ (ixl 16 16 (by decide) rfl (hn3)) dX1_offGoes_191 (fun H locs hR hS => ?_)
          exact m_rv hx hb hrt hlk hR hS hQ (Eq.trans (if_neg c11) (if_neg c12)) dX1_offGoes_192
        · refine lv_aload_n hx hb dX1_offGoes_116 rfl (lv_at hl 2 rfl) ?_
          refine mg_a X hR 21 (by decide) (by decide) q1158 dX1_offGoes_117 ?_
          refine lv_iload_n hx hb dX1_offGoes_120 rfl (lv_at hl 1 rfl) ?_
          refine lv_aload_n hx hb dX1_offGoes_121 rfl (lv_at hl 2 rfl) ?_
          refine mg_a X hR 13 (by decide) (by decide) q1150 dX1_offGoes_122 ?_
          refine lv_bipush (v := 24) hx hb dX1_offGoes_125 (by decide) ?_
          refine lv_iload_n hx hb dX1_offGoes_127 rfl (lv_at hl 1 rfl) ?_
          refine lv_imul hx hb dX1_offGoes_128 ?_
          refine lv_iload hx hb dX1_offGoes_129 (lv_at hl 0 rfl) ?_
          refine lv_iconst (v := 1) hx hb dX1_offGoes_131 (by decide) ?_
          refine lv_isub hx hb dX1_offGoes_132 ?_
          refine lv_aload_n hx hb dX1_offGoes_133 rfl (lv_at hl 2 rfl) ?_
          refine mg_a X hR 12 (by decide) (by decide) q1149 dX1_offGoes_134 ?_
          refine lv_iload_n hx hb dX1_offGoes_137 rfl (lv_at hl 1 rfl) ?_
          refine m_ld X hR ⟨by decide, rfl, by decide⟩ (ixl 16 16 (by decide) rfl (hn3)) (v := S.1 12 (Int32.toNatClampNeg (m_offGoes_v10 S x1 x2))) ((mu_k _ (by decide) _ _ _).trans rfl) dX1_offGoes_138 ?_
          have hs1 : 0 ≤ ((m_offGoes_j28_s0 S x1 x2) - 1) := m_offGoes_o15 S x1 x2 ht hg hI hpl hn3 hm3 hst c11 c12
          have hs0 : 0 < (S.1 12 (Int32.toNatClampNeg (m_offGoes_v10 S x1 x2))) := m_offGoes_o16 S x1 x2 ht hg hI hpl hn3 hm3 hst c11 c12 hs1
          have hrem : 0 ≤ (((m_offGoes_j28_s0 S x1 x2) - 1) - ((m_offGoes_j28_s0 S x1 x2) - 1) / (S.1 12 (Int32.toNatClampNeg (m_offGoes_v10 S x1 x2))) * (S.1 12 (Int32.toNatClampNeg (m_offGoes_v10 S x1 x2)))) ∧ (((m_offGoes_j28_s0 S x1 x2) - 1) - ((m_offGoes_j28_s0 S x1 x2) - 1) / (S.1 12 (Int32.toNatClampNeg (m_offGoes_v10 S x1 x2))) * (S.1 12 (Int32.toNatClampNeg (m_offGoes_v10 S x1 x2)))) < (S.1 12 (Int32.toNatClampNeg (m_offGoes_v10 S x1 x2))) := (dv_ hs1 hs0).2.2
          refine lv_irem hx hb dX1_offGoes_139 (m_offGoes_o17 S x1 x2 ht hg hI hpl hn3 hm3 hst c11 c12 hs1 hs0 hrem) ?_
          refine lv_iadd hx hb dX1_offGoes_140 ?_
          refine m_ld X hR ⟨by decide, rfl, by decide⟩ (ixl 384 384 (by decide) rfl (m_offGoes_o18 S x1 x2 ht hg hI hpl hn3 hm3 hst c11 c12 hs1 hs0 hrem)) (v := S.1 13 (Int32.toNatClampNeg ((24 * (m_offGoes_v10 S x1 x2)) + (((m_offGoes_j28_s0 S x1 x2) - 1) - ((m_offGoes_j28_s0 S x1 x2) - 1) / (S.1 12 (Int32.toNatClampNeg (m_offGoes_v10 S x1 x2))) * (S.1 12 (Int32.toNatClampNeg (m_offGoes_v10 S x1 x2))))))) ((mu_k _ (by decide) _ _ _).trans rfl) dX1_offGoes_141 ?_
          refine m_st X hR hS ⟨by decide, rfl, by decide⟩ (ixl 16 16 (by decide) rfl (hn3)) dX1_offGoes_142 (fun H locs hR hS => ?_)
          refine lv_goto (tgt := 192) hx hb dX1_offGoes_143 (by decide) ?_
          exact m_rv hx hb hrt hlk hR hS hQ (Eq.trans (if_neg c11) (if_pos c12)) dX1_offGoes_192
      · refine lv_aload_n hx hb dX1_offGoes_93 rfl (lv_at hl 2 rfl) ?_
        refine mg_a X hR 21 (by decide) (by decide) q1158 dX1_offGoes_94 ?_
        refine lv_iload_n hx hb dX1_offGoes_97 rfl (lv_at hl 1 rfl) ?_
        refine lv_dup2_11 hx hb dX1_offGoes_98 rfl rfl ?_
        refine m_ld X hR ⟨by decide, rfl, by decide⟩ (ixl 16 16 (by decide) rfl (hn3)) (v := S.1 21 (Int32.toNatClampNeg (m_offGoes_v10 S x1 x2))) ((mu_k _ (by decide) _ _ _).trans rfl) dX1_offGoes_99 ?_
        refine lv_iconst (v := 1) hx hb dX1_offGoes_100 (by decide) ?_
        refine lv_iadd hx hb dX1_offGoes_101 ?_
        refine m_st X hR hS ⟨by decide, rfl, by decide⟩ (ixl 16 16 (by decide) rfl (hn3)) dX1_offGoes_102 (fun H locs hR hS => ?_)
        refine lv_goto (tgt := 192) hx hb dX1_offGoes_103 (by decide) ?_
        exact m_rv hx hb hrt hlk hR hS hQ (if_pos c11) dX1_offGoes_192
    refine lv_if_eq (tgt := 68) hx hb dX1_offGoes_40 (by decide) (fun c5 => ?_) (fun c5 => ?_)
    · refine lv_iload_n hx hb dX1_offGoes_68 rfl (lv_at hl 4 rfl) ?_
      refine lv_if_eq (tgt := 82) hx hb dX1_offGoes_69 (by decide) (fun c6 => ?_) (fun c6 => ?_)
      · refine lv_iconst (v := 0) hx hb dX1_offGoes_82 (by decide) ?_
        exact J10 _ _ _  _ (Eq.symm (Eq.trans (if_pos c5) (if_pos c6))) hR hS  (lv_sub hl [0, 1, 2, 3, 4] rfl)
      · refine lv_iload hx hb dX1_offGoes_72 (lv_at hl 0 rfl) ?_
        refine lv_iconst (v := 4) hx hb dX1_offGoes_74 (by decide) ?_
        refine lv_icmp_ne (tgt := 82) hx hb dX1_offGoes_75 (by decide) (fun c7 => ?_) (fun c7 => ?_)
        · refine lv_iconst (v := 0) hx hb dX1_offGoes_82 (by decide) ?_
          exact J10 _ _ _  _ (Eq.symm (Eq.trans (if_pos c5) (Eq.trans (if_neg c6) (if_neg c7)))) hR hS  (lv_sub hl [0, 1, 2, 3, 4] rfl)
        · refine lv_iconst (v := 1) hx hb dX1_offGoes_78 (by decide) ?_
          refine lv_goto (tgt := 83) hx hb dX1_offGoes_79 (by decide) ?_
          exact J10 _ _ _  _ (Eq.symm (Eq.trans (if_pos c5) (Eq.trans (if_neg c6) (if_pos c7)))) hR hS  (lv_sub hl [0, 1, 2, 3, 4] rfl)
    · refine lv_aload_n hx hb dX1_offGoes_43 rfl (lv_at hl 2 rfl) ?_
      refine mg_a X hR 14 (by decide) (by decide) q1151 dX1_offGoes_44 ?_
      refine lv_iload_n hx hb dX1_offGoes_47 rfl (lv_at hl 1 rfl) ?_
      refine m_ld X hR ⟨by decide, rfl, by decide⟩ (ixl 16 16 (by decide) rfl (hn3)) (v := S.1 14 (Int32.toNatClampNeg (m_offGoes_v10 S x1 x2))) rfl dX1_offGoes_48 ?_
      refine lv_aload_n hx hb dX1_offGoes_49 rfl (lv_at hl 2 rfl) ?_
      refine mg_a X hR 12 (by decide) (by decide) q1149 dX1_offGoes_50 ?_
      refine lv_iload_n hx hb dX1_offGoes_53 rfl (lv_at hl 1 rfl) ?_
      refine m_ld X hR ⟨by decide, rfl, by decide⟩ (ixl 16 16 (by decide) rfl (hn3)) (v := S.1 12 (Int32.toNatClampNeg (m_offGoes_v10 S x1 x2))) rfl dX1_offGoes_54 ?_
      refine lv_iconst (v := 1) hx hb dX1_offGoes_55 (by decide) ?_
      refine lv_isub hx hb dX1_offGoes_56 ?_
      refine lv_icmp_ne (tgt := 64) hx hb dX1_offGoes_57 (by decide) (fun c8 => ?_) (fun c8 => ?_)
      · refine lv_iconst (v := 0) hx hb dX1_offGoes_64 (by decide) ?_
        refine lv_goto (tgt := 83) hx hb dX1_offGoes_65 (by decide) ?_
        exact J10 _ _ _  _ (Eq.symm (Eq.trans (if_neg c5) (if_neg c8))) hR hS  (lv_sub hl [0, 1, 2, 3, 4] rfl)
      · refine lv_iconst (v := 1) hx hb dX1_offGoes_60 (by decide) ?_
        refine lv_goto (tgt := 83) hx hb dX1_offGoes_61 (by decide) ?_
        exact J10 _ _ _  _ (Eq.symm (Eq.trans (if_neg c5) (if_pos c8))) hR hS  (lv_sub hl [0, 1, 2, 3, 4] rfl)
  refine lv_if_eq (tgt := 23) hx hb dX1_offGoes_12 (by decide) (fun c2 => ?_) (fun c2 => ?_)
  · refine lv_aload_n hx hb dX1_offGoes_23 rfl (lv_at hl 1 rfl) ?_
    refine lv_iload_n hx hb dX1_offGoes_24 rfl (lv_at hl 2 rfl) ?_
    refine m_cr X hR hS (mt_hourNow l D d A a S x1 (ht)) 1 (lw_V q1484 q1486 qs41 q59 q1487) ⟨rfl, rfl⟩ (by decide +kernel) ⟨by decide, by decide⟩ ⟨by decide, by decide⟩ rfl hl.1 rfl (Nat.le_of_ble_eq_true rfl) dX1_offGoes_25 (fun H locs hR hS => ?_)
    exact J4 _ _ _  _ (Eq.symm (if_pos c2)) hR hS  (lv_sub hl [0, 1, 2, 3] rfl)
  · refine lv_aload_n hx hb dX1_offGoes_15 rfl (lv_at hl 1 rfl) ?_
    refine lv_iload_n hx hb dX1_offGoes_16 rfl (lv_at hl 2 rfl) ?_
    refine m_cr X hR hS (mt_quarterNow l D d A a S x1 (ht)) 1 (lw_V q1480 q1482 qs40 q59 q1483) ⟨rfl, rfl⟩ (by decide +kernel) ⟨by decide, by decide⟩ ⟨by decide, by decide⟩ rfl hl.1 rfl (Nat.le_of_ble_eq_true rfl) dX1_offGoes_17 (fun H locs hR hS => ?_)
    refine lv_goto (tgt := 28) hx hb dX1_offGoes_20 (by decide) ?_
    exact J4 _ _ _  _ (Eq.symm (if_neg c2)) hR hS  (lv_sub hl [0, 1, 2, 3] rfl)
