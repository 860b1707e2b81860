/-! PRINTED by gen/run_m6.py -/
set_option maxRecDepth 100000
theorem hand_b (x : Int32) (h0 : 0 ≤ x ∧ x < 1440) : 0 ≤ ((x + 1) - (x + 1) / 1440 * 1440) ∧ ((x + 1) - (x + 1) / 1440 * 1440) < 1440 := by
  try simp only [i_le, i_lt, i_eq, Int32.reduceToInt] at *
  first | (have e_0 := a32 (x := x) (y := 1) (by (try simp only [Int32.reduceToInt]); omega); (try simp only [Int32.reduceToInt] at e_0)) | skip
  first | (have e_1 := d32 (x := (x + 1)) (y := 1440) (by (try simp only [Int32.reduceToInt]); omega); (try simp only [Int32.reduceToInt] at e_1)) | skip
  first | (have e_2 := m32 (x := ((x + 1) / 1440)) (y := 1440) (by (try simp only [Int32.reduceToInt]); omega); (try simp only [Int32.reduceToInt] at e_2)) | skip
  first | (have e_3 := s32 (x := (x + 1)) (y := ((x + 1) / 1440 * 1440)) (by (try simp only [Int32.reduceToInt]); omega); (try simp only [Int32.reduceToInt] at e_3)) | skip
  try simp only [Int32.reduceToInt] at *
  omega
theorem placeOf_0 (t : Int32) : m_placeOf t 0 = 2 * t := by
  unfold m_placeOf
  rw [if_pos rfl]
  simp
theorem placeOf_1 (t : Int32) : m_placeOf t 1 = 2 * t + 1 := by
  unfold m_placeOf
  rw [if_neg (by decide)]
def m_stepOn_v27 (S : MS) (x1 : Int32) : Int32 := ((((S.1 27 (Int32.toNatClampNeg x1)) + 1) - ((S.1 27 (Int32.toNatClampNeg x1)) + 1) / 1440 * 1440) - (((S.1 27 (Int32.toNatClampNeg x1)) + 1) - ((S.1 27 (Int32.toNatClampNeg x1)) + 1) / 1440 * 1440) / 60 * 60)
theorem m_stepOn_o1 (S : MS) (x1 : Int32) (ht : 0 ≤ x1 ∧ x1 < 4) (hI : MInv S) : 0 ≤ ((2 * x1) + 1) ∧ ((2 * x1) + 1) < 8 := by 
  clear hI
  try simp only [i_le, i_lt, i_eq, Int32.reduceToInt] at *
  first | (have e_0 := m32 (x := 2) (y := x1) (by (try simp only [Int32.reduceToInt]); omega); (try simp only [Int32.reduceToInt] at e_0)) | skip
  first | (have e_1 := a32 (x := (2 * x1)) (y := 1) (by (try simp only [Int32.reduceToInt]); omega); (try simp only [Int32.reduceToInt] at e_1)) | skip
  try simp only [Int32.reduceToInt] at *
  omega
def m_stepOn_j46_s0 (S : MS) (x1 : Int32) : Int32 := (if (S.1 35 (Int32.toNatClampNeg ((2 * x1) + 1))) < 0 then 0 else 1)
theorem m_stepOn_o5 (S : MS) (x1 : Int32) (ht : 0 ≤ x1 ∧ x1 < 4) (hI : MInv S) : 0 ≤ (2 * x1) ∧ (2 * x1) < 8 := by 
  clear hI
  try simp only [i_le, i_lt, i_eq, Int32.reduceToInt] at *
  first | (have e_0 := m32 (x := 2) (y := x1) (by (try simp only [Int32.reduceToInt]); omega); (try simp only [Int32.reduceToInt] at e_0)) | skip
  try simp only [Int32.reduceToInt] at *
  omega
def m_stepOn_j67_s0 (S : MS) (x1 : Int32) : Int32 := (if (S.1 35 (Int32.toNatClampNeg (2 * x1))) < 0 then 0 else (if (m_stepOn_j46_s0 S x1) = 0 then 1 else 0))
theorem m_stepOn_o11 (S : MS) (x1 : Int32) (ht : 0 ≤ x1 ∧ x1 < 4) (hI : MInv S) (c10 : ((m_stepOn_v27 S x1) - (m_stepOn_v27 S x1) / 15 * 15) = 10) : 0 ≤ ((2 * x1) + 1) ∧ ((2 * x1) + 1) < 8 := by 
  clear hI
  try simp only [m_stepOn_v27] at *
  try simp only [i_le, i_lt, i_eq, Int32.reduceToInt] at *
  first | (have e_0 := a32 (x := (S.1 27 (Int32.toNatClampNeg x1))) (y := 1) (by (try simp only [Int32.reduceToInt]); omega); (try simp only [Int32.reduceToInt] at e_0)) | skip
  first | (have e_1 := d32 (x := ((S.1 27 (Int32.toNatClampNeg x1)) + 1)) (y := 1440) (by (try simp only [Int32.reduceToInt]); omega); (try simp only [Int32.reduceToInt] at e_1)) | skip
  first | (have e_2 := m32 (x := (((S.1 27 (Int32.toNatClampNeg x1)) + 1) / 1440)) (y := 1440) (by (try simp only [Int32.reduceToInt]); omega); (try simp only [Int32.reduceToInt] at e_2)) | skip
  first | (have e_3 := s32 (x := ((S.1 27 (Int32.toNatClampNeg x1)) + 1)) (y := (((S.1 27 (Int32.toNatClampNeg x1)) + 1) / 1440 * 1440)) (by (try simp only [Int32.reduceToInt]); omega); (try simp only [Int32.reduceToInt] at e_3)) | skip
  first | (have e_4 := d32 (x := (((S.1 27 (Int32.toNatClampNeg x1)) + 1) - ((S.1 27 (Int32.toNatClampNeg x1)) + 1) / 1440 * 1440)) (y := 60) (by (try simp only [Int32.reduceToInt]); omega); (try simp only [Int32.reduceToInt] at e_4)) | skip
  first | (have e_5 := m32 (x := ((((S.1 27 (Int32.toNatClampNeg x1)) + 1) - ((S.1 27 (Int32.toNatClampNeg x1)) + 1) / 1440 * 1440) / 60)) (y := 60) (by (try simp only [Int32.reduceToInt]); omega); (try simp only [Int32.reduceToInt] at e_5)) | skip
  first | (have e_6 := s32 (x := (((S.1 27 (Int32.toNatClampNeg x1)) + 1) - ((S.1 27 (Int32.toNatClampNeg x1)) + 1) / 1440 * 1440)) (y := ((((S.1 27 (Int32.toNatClampNeg x1)) + 1) - ((S.1 27 (Int32.toNatClampNeg x1)) + 1) / 1440 * 1440) / 60 * 60)) (by (try simp only [Int32.reduceToInt]); omega); (try simp only [Int32.reduceToInt] at e_6)) | skip
  first | (have e_7 := d32 (x := ((((S.1 27 (Int32.toNatClampNeg x1)) + 1) - ((S.1 27 (Int32.toNatClampNeg x1)) + 1) / 1440 * 1440) - (((S.1 27 (Int32.toNatClampNeg x1)) + 1) - ((S.1 27 (Int32.toNatClampNeg x1)) + 1) / 1440 * 1440) / 60 * 60)) (y := 15) (by (try simp only [Int32.reduceToInt]); omega); (try simp only [Int32.reduceToInt] at e_7)) | skip
  first | (have e_8 := m32 (x := (((((S.1 27 (Int32.toNatClampNeg x1)) + 1) - ((S.1 27 (Int32.toNatClampNeg x1)) + 1) / 1440 * 1440) - (((S.1 27 (Int32.toNatClampNeg x1)) + 1) - ((S.1 27 (Int32.toNatClampNeg x1)) + 1) / 1440 * 1440) / 60 * 60) / 15)) (y := 15) (by (try simp only [Int32.reduceToInt]); omega); (try simp only [Int32.reduceToInt] at e_8)) | skip
  first | (have e_9 := s32 (x := ((((S.1 27 (Int32.toNatClampNeg x1)) + 1) - ((S.1 27 (Int32.toNatClampNeg x1)) + 1) / 1440 * 1440) - (((S.1 27 (Int32.toNatClampNeg x1)) + 1) - ((S.1 27 (Int32.toNatClampNeg x1)) + 1) / 1440 * 1440) / 60 * 60)) (y := (((((S.1 27 (Int32.toNatClampNeg x1)) + 1) - ((S.1 27 (Int32.toNatClampNeg x1)) + 1) / 1440 * 1440) - (((S.1 27 (Int32.toNatClampNeg x1)) + 1) - ((S.1 27 (Int32.toNatClampNeg x1)) + 1) / 1440 * 1440) / 60 * 60) / 15 * 15)) (by (try simp only [Int32.reduceToInt]); omega); (try simp only [Int32.reduceToInt] at e_9)) | skip
  first | (have e_10 := m32 (x := 2) (y := x1) (by (try simp only [Int32.reduceToInt]); omega); (try simp only [Int32.reduceToInt] at e_10)) | skip
  first | (have e_11 := a32 (x := (2 * x1)) (y := 1) (by (try simp only [Int32.reduceToInt]); omega); (try simp only [Int32.reduceToInt] at e_11)) | skip
  try simp only [Int32.reduceToInt] at *
  omega
def m_stepOn_j109_s0 (S : MS) (x1 : Int32) : Int32 := (if (S.1 36 (Int32.toNatClampNeg ((2 * x1) + 1))) = 0 then (if (m_stepOn_j46_s0 S x1) = 0 then 0 else 1) else 1)
theorem m_stepOn_o16 (S : MS) (x1 : Int32) (ht : 0 ≤ x1 ∧ x1 < 4) (hI : MInv S) (c10 : ((m_stepOn_v27 S x1) - (m_stepOn_v27 S x1) / 15 * 15) = 10) : 0 ≤ (2 * x1) ∧ (2 * x1) < 8 := by 
  clear hI
  try simp only [m_stepOn_v27] at *
  try simp only [i_le, i_lt, i_eq, Int32.reduceToInt] at *
  first | (have e_0 := a32 (x := (S.1 27 (Int32.toNatClampNeg x1))) (y := 1) (by (try simp only [Int32.reduceToInt]); omega); (try simp only [Int32.reduceToInt] at e_0)) | skip
  first | (have e_1 := d32 (x := ((S.1 27 (Int32.toNatClampNeg x1)) + 1)) (y := 1440) (by (try simp only [Int32.reduceToInt]); omega); (try simp only [Int32.reduceToInt] at e_1)) | skip
  first | (have e_2 := m32 (x := (((S.1 27 (Int32.toNatClampNeg x1)) + 1) / 1440)) (y := 1440) (by (try simp only [Int32.reduceToInt]); omega); (try simp only [Int32.reduceToInt] at e_2)) | skip
  first | (have e_3 := s32 (x := ((S.1 27 (Int32.toNatClampNeg x1)) + 1)) (y := (((S.1 27 (Int32.toNatClampNeg x1)) + 1) / 1440 * 1440)) (by (try simp only [Int32.reduceToInt]); omega); (try simp only [Int32.reduceToInt] at e_3)) | skip
  first | (have e_4 := d32 (x := (((S.1 27 (Int32.toNatClampNeg x1)) + 1) - ((S.1 27 (Int32.toNatClampNeg x1)) + 1) / 1440 * 1440)) (y := 60) (by (try simp only [Int32.reduceToInt]); omega); (try simp only [Int32.reduceToInt] at e_4)) | skip
  first | (have e_5 := m32 (x := ((((S.1 27 (Int32.toNatClampNeg x1)) + 1) - ((S.1 27 (Int32.toNatClampNeg x1)) + 1) / 1440 * 1440) / 60)) (y := 60) (by (try simp only [Int32.reduceToInt]); omega); (try simp only [Int32.reduceToInt] at e_5)) | skip
  first | (have e_6 := s32 (x := (((S.1 27 (Int32.toNatClampNeg x1)) + 1) - ((S.1 27 (Int32.toNatClampNeg x1)) + 1) / 1440 * 1440)) (y := ((((S.1 27 (Int32.toNatClampNeg x1)) + 1) - ((S.1 27 (Int32.toNatClampNeg x1)) + 1) / 1440 * 1440) / 60 * 60)) (by (try simp only [Int32.reduceToInt]); omega); (try simp only [Int32.reduceToInt] at e_6)) | skip
  first | (have e_7 := d32 (x := ((((S.1 27 (Int32.toNatClampNeg x1)) + 1) - ((S.1 27 (Int32.toNatClampNeg x1)) + 1) / 1440 * 1440) - (((S.1 27 (Int32.toNatClampNeg x1)) + 1) - ((S.1 27 (Int32.toNatClampNeg x1)) + 1) / 1440 * 1440) / 60 * 60)) (y := 15) (by (try simp only [Int32.reduceToInt]); omega); (try simp only [Int32.reduceToInt] at e_7)) | skip
  first | (have e_8 := m32 (x := (((((S.1 27 (Int32.toNatClampNeg x1)) + 1) - ((S.1 27 (Int32.toNatClampNeg x1)) + 1) / 1440 * 1440) - (((S.1 27 (Int32.toNatClampNeg x1)) + 1) - ((S.1 27 (Int32.toNatClampNeg x1)) + 1) / 1440 * 1440) / 60 * 60) / 15)) (y := 15) (by (try simp only [Int32.reduceToInt]); omega); (try simp only [Int32.reduceToInt] at e_8)) | skip
  first | (have e_9 := s32 (x := ((((S.1 27 (Int32.toNatClampNeg x1)) + 1) - ((S.1 27 (Int32.toNatClampNeg x1)) + 1) / 1440 * 1440) - (((S.1 27 (Int32.toNatClampNeg x1)) + 1) - ((S.1 27 (Int32.toNatClampNeg x1)) + 1) / 1440 * 1440) / 60 * 60)) (y := (((((S.1 27 (Int32.toNatClampNeg x1)) + 1) - ((S.1 27 (Int32.toNatClampNeg x1)) + 1) / 1440 * 1440) - (((S.1 27 (Int32.toNatClampNeg x1)) + 1) - ((S.1 27 (Int32.toNatClampNeg x1)) + 1) / 1440 * 1440) / 60 * 60) / 15 * 15)) (by (try simp only [Int32.reduceToInt]); omega); (try simp only [Int32.reduceToInt] at e_9)) | skip
  first | (have e_10 := m32 (x := 2) (y := x1) (by (try simp only [Int32.reduceToInt]); omega); (try simp only [Int32.reduceToInt] at e_10)) | skip
  try simp only [Int32.reduceToInt] at *
  omega
def m_stepOn_j144_s0 (S : MS) (x1 : Int32) : Int32 := (if ((mu (mu S 27 (Int32.toNatClampNeg x1) (((S.1 27 (Int32.toNatClampNeg x1)) + 1) - ((S.1 27 (Int32.toNatClampNeg x1)) + 1) / 1440 * 1440)) 36 (Int32.toNatClampNeg ((2 * x1) + 1)) (m_stepOn_j109_s0 S x1)).1 36 (Int32.toNatClampNeg (2 * x1))) = 0 then (if (m_stepOn_j67_s0 S x1) = 0 then 0 else (if (m_stepOn_v27 S x1) = 55 then 1 else 0)) else 1)
def m_stepOn_j145_S (S : MS) (x1 : Int32) : MS := (if ((m_stepOn_v27 S x1) - (m_stepOn_v27 S x1) / 15 * 15) = 10 then (mu (mu (mu S 27 (Int32.toNatClampNeg x1) (((S.1 27 (Int32.toNatClampNeg x1)) + 1) - ((S.1 27 (Int32.toNatClampNeg x1)) + 1) / 1440 * 1440)) 36 (Int32.toNatClampNeg ((2 * x1) + 1)) (m_stepOn_j109_s0 S x1)) 36 (Int32.toNatClampNeg (2 * x1)) (m_stepOn_j144_s0 S x1)) else (mu S 27 (Int32.toNatClampNeg x1) (((S.1 27 (Int32.toNatClampNeg x1)) + 1) - ((S.1 27 (Int32.toNatClampNeg x1)) + 1) / 1440 * 1440)))
def m_stepOn_j162_S (S : MS) (x1 : Int32) : MS := (if ((m_stepOn_v27 S x1) - (m_stepOn_v27 S x1) / 15 * 15) = 0 then (if (m_stepOn_j46_s0 S x1) = 0 then (m_stepOn_j145_S S x1) else (m_warnedGoes (m_stepOn_j145_S S x1) x1 1)) else (m_stepOn_j145_S S x1))
theorem m_stepOn_145 (S : MS) (x1 : Int32) (ht : 0 ≤ x1 ∧ x1 < 4) (hI : MInv S) : MInv (m_stepOn_j145_S S x1) ∧ (m_stepOn_j145_S S x1).1 35 = S.1 35 := by
  have h27 := MInv_27 hI (Int32.toNatClampNeg x1) _ (hand_b (S.1 27 (Int32.toNatClampNeg x1)) ⟨(mi_t hI ht).1, (mi_t hI ht).2.1⟩)
  unfold m_stepOn_j145_S
  split
  · exact ⟨MInv_mu (MInv_mu h27 _ _ _ (by decide)) _ _ _ (by decide), rfl⟩
  · exact ⟨h27, rfl⟩
theorem m_stepOn_g1 (S : MS) (x1 : Int32) (ht : 0 ≤ x1 ∧ x1 < 4) (hI : MInv S) (h : ¬ (m_stepOn_j46_s0 S x1) = 0) : 0 ≤ (m_stepOn_j145_S S x1).1 35 (Int32.toNatClampNeg (m_placeOf x1 1)) := by
  rw [(m_stepOn_145 S x1 ht hI).2, placeOf_1]
  unfold m_stepOn_j46_s0 at h
  split at h
  · exact absurd rfl h
  · rename_i h2; exact Int32.not_lt.mp h2
theorem m_stepOn_162 (S : MS) (x1 : Int32) (ht : 0 ≤ x1 ∧ x1 < 4) (hI : MInv S) : MInv (m_stepOn_j162_S S x1) ∧ (m_stepOn_j162_S S x1).1 35 = S.1 35 := by
  have h145 := m_stepOn_145 S x1 ht hI
  unfold m_stepOn_j162_S
  split
  · split
    · exact h145
    · rename_i h3
      exact ⟨m_warnedGoes_inv _ x1 1 ht (m_stepOn_g1 S x1 ht hI h3) h145.1, ((m_warnedGoes_eqx _ x1 1).1 35 (by decide)).trans h145.2⟩
  · exact h145
theorem m_stepOn_g0 (S : MS) (x1 : Int32) (ht : 0 ≤ x1 ∧ x1 < 4) (hI : MInv S) (h : ¬ (m_stepOn_j67_s0 S x1) = 0) : 0 ≤ (m_stepOn_j162_S S x1).1 35 (Int32.toNatClampNeg (m_placeOf x1 0)) := by
  rw [(m_stepOn_162 S x1 ht hI).2, placeOf_0]
  unfold m_stepOn_j67_s0 at h
  split at h
  · exact absurd rfl h
  · rename_i h2; exact Int32.not_lt.mp h2
def m_stepOn (S : MS) (x1 : Int32) : MS := (if (m_stepOn_v27 S x1) = 0 then (if (m_stepOn_j67_s0 S x1) = 0 then (m_stepOn_j162_S S x1) else (m_warnedGoes (m_stepOn_j162_S S x1) x1 0)) else (m_stepOn_j162_S S x1))
set_option maxHeartbeats 4000000 in
theorem mt_stepOn (l : Launch) (D : va_G) (d : Nat → ClassId) (A : Nat → Prop) (a : Nat → Nat) (S : MS) (x1 : Int32) (ht : 0 ≤ x1 ∧ x1 < 4) (hI : MInv S) : MV l yX1_stepOn cX1_stepOn 5 (rm_ 4) D d A a S [.int x1] (m_stepOn S x1) := by
  refine m_startV rfl (Nat.le_of_ble_eq_true rfl) ?_
  intro p e s m av below meth c ls Q X hrt hlk hl hR hQ
  have hx := X.1.1
  have hb := X.1.2.1
  have hown := X.1.2.2.2.1
  have hts := X.1.2.2.2.2
  have hS : va_S A s.heap s.heap [] := va_S.rf
  have hl : lv_has ls 5 [(0, .ref (a 0)), (1, .int x1)] := hl
  refine lv_aload_n hx hb dX1_stepOn_0 rfl (lv_at hl 0 rfl) ?_
  refine mg_a X hR 27 (by decide) (by decide) q1164 dX1_stepOn_1 ?_
  refine lv_iload_n hx hb dX1_stepOn_4 rfl (lv_at hl 1 rfl) ?_
  refine lv_aload_n hx hb dX1_stepOn_5 rfl (lv_at hl 0 rfl) ?_
  refine mg_a X hR 27 (by decide) (by decide) q1164 dX1_stepOn_6 ?_
  refine lv_iload_n hx hb dX1_stepOn_9 rfl (lv_at hl 1 rfl) ?_
  refine m_ld X hR ⟨by decide, rfl, by decide⟩ (ixl 4 4 (by decide) rfl (ht)) (v := S.1 27 (Int32.toNatClampNeg x1)) rfl dX1_stepOn_10 ?_
  refine lv_iconst (v := 1) hx hb dX1_stepOn_11 (by decide) ?_
  refine lv_iadd hx hb dX1_stepOn_12 ?_
  refine lv_sipush (v := 1440) hx hb dX1_stepOn_13 (by decide) ?_
  refine lv_irem hx hb dX1_stepOn_16 (by decide) ?_
  refine m_st X hR hS ⟨by decide, rfl, by decide⟩ (ixl 4 4 (by decide) rfl (ht)) dX1_stepOn_17 (fun H locs hR hS => ?_)
  refine lv_aload_n hx hb dX1_stepOn_18 rfl (lv_at hl 0 rfl) ?_
  refine mg_a X hR 27 (by decide) (by decide) q1164 dX1_stepOn_19 ?_
  refine lv_iload_n hx hb dX1_stepOn_22 rfl (lv_at hl 1 rfl) ?_
  refine m_ld X hR ⟨by decide, rfl, by decide⟩ (ixl 4 4 (by decide) rfl (ht)) (v := (((S.1 27 (Int32.toNatClampNeg x1)) + 1) - ((S.1 27 (Int32.toNatClampNeg x1)) + 1) / 1440 * 1440)) (mu_self _ _ _ _) dX1_stepOn_23 ?_
  refine lv_bipush (v := 60) hx hb dX1_stepOn_24 (by decide) ?_
  refine lv_irem hx hb dX1_stepOn_26 (by decide) ?_
  refine lv_istore_n (lv' := [(2, .int (m_stepOn_v27 S x1)), (0, .ref (a 0)), (1, .int x1)]) hx hb dX1_stepOn_27 rfl hl (by decide) rfl (fun ls hl => ?_)
  refine lv_aload_n hx hb dX1_stepOn_28 rfl (lv_at hl 1 rfl) ?_
  refine mg_a X hR 35 (by decide) (by decide) q1172 dX1_stepOn_29 ?_
  refine lv_iconst (v := 2) hx hb dX1_stepOn_32 (by decide) ?_
  refine lv_iload_n hx hb dX1_stepOn_33 rfl (lv_at hl 2 rfl) ?_
  refine lv_imul hx hb dX1_stepOn_34 ?_
  refine lv_iconst (v := 1) hx hb dX1_stepOn_35 (by decide) ?_
  refine lv_iadd hx hb dX1_stepOn_36 ?_
  refine m_ld X hR ⟨by decide, rfl, by decide⟩ (ixl 8 8 (by decide) rfl (m_stepOn_o1 S x1 ht hI)) (v := S.1 35 (Int32.toNatClampNeg ((2 * x1) + 1))) ((mu_k _ (by decide) _ _ _).trans rfl) dX1_stepOn_37 ?_
  have J4 : ∀ (w3 : Int32) (H : Heap) (locs : List Loc) (ls : Array Slot), w3 = (m_stepOn_j46_s0 S x1) → MR D d A a (mu S 27 (Int32.toNatClampNeg x1) (((S.1 27 (Int32.toNatClampNeg x1)) + 1) - ((S.1 27 (Int32.toNatClampNeg x1)) + 1) / 1440 * 1440)) H → va_S A s.heap H locs → lv_has ls 5 [(2, .int (m_stepOn_v27 S x1)), (0, .ref (a 0)), (1, .int x1)] → W p l e (rm_ 4) s m av below meth c H locs 0 0 Q (F0 m 46 ls [.int w3]) := by
    intro w3 H locs ls ew3 hR hS hl
    subst ew3
    refine lv_istore_n (lv' := [(3, .int (m_stepOn_j46_s0 S x1)), (2, .int (m_stepOn_v27 S x1)), (0, .ref (a 0)), (1, .int x1)]) hx hb dX1_stepOn_46 rfl hl (by decide) rfl (fun ls hl => ?_)
    refine lv_aload_n hx hb dX1_stepOn_47 rfl (lv_at hl 2 rfl) ?_
    refine mg_a X hR 35 (by decide) (by decide) q1172 dX1_stepOn_48 ?_
    refine lv_iconst (v := 2) hx hb dX1_stepOn_51 (by decide) ?_
    refine lv_iload_n hx hb dX1_stepOn_52 rfl (lv_at hl 3 rfl) ?_
    refine lv_imul hx hb dX1_stepOn_53 ?_
    refine m_ld X hR ⟨by decide, rfl, by decide⟩ (ixl 8 8 (by decide) rfl (m_stepOn_o5 S x1 ht hI)) (v := S.1 35 (Int32.toNatClampNeg (2 * x1))) ((mu_k _ (by decide) _ _ _).trans rfl) dX1_stepOn_54 ?_
    have J9 : ∀ (w8 : Int32) (H : Heap) (locs : List Loc) (ls : Array Slot), w8 = (m_stepOn_j67_s0 S x1) → MR D d A a (mu S 27 (Int32.toNatClampNeg x1) (((S.1 27 (Int32.toNatClampNeg x1)) + 1) - ((S.1 27 (Int32.toNatClampNeg x1)) + 1) / 1440 * 1440)) H → va_S A s.heap H locs → lv_has ls 5 [(3, .int (m_stepOn_j46_s0 S x1)), (2, .int (m_stepOn_v27 S x1)), (0, .ref (a 0)), (1, .int x1)] → W p l e (rm_ 4) s m av below meth c H locs 0 0 Q (F0 m 67 ls [.int w8]) := by
      intro w8 H locs ls ew8 hR hS hl
      subst ew8
      refine lv_istore (lv' := [(4, .int (m_stepOn_j67_s0 S x1)), (3, .int (m_stepOn_j46_s0 S x1)), (2, .int (m_stepOn_v27 S x1)), (0, .ref (a 0)), (1, .int x1)]) hx hb dX1_stepOn_67 hl (by decide) rfl (fun ls hl => ?_)
      refine lv_iload_n hx hb dX1_stepOn_69 rfl (lv_at hl 2 rfl) ?_
      refine lv_bipush (v := 15) hx hb dX1_stepOn_70 (by decide) ?_
      refine lv_irem hx hb dX1_stepOn_72 (by decide) ?_
      refine lv_bipush (v := 10) hx hb dX1_stepOn_73 (by decide) ?_
      have J23 : ∀ (w22 : MS) (H : Heap) (locs : List Loc) (ls : Array Slot), w22 = (m_stepOn_j145_S S x1) → MR D d A a w22 H → va_S A s.heap H locs → lv_has ls 5 [(4, .int (m_stepOn_j67_s0 S x1)), (3, .int (m_stepOn_j46_s0 S x1)), (2, .int (m_stepOn_v27 S x1)), (0, .ref (a 0)), (1, .int x1)] → W p l e (rm_ 4) s m av below meth c H locs 0 0 Q (F0 m 145 ls []) := by
        intro w22 H locs ls ew22 hR hS hl
        subst ew22
        refine lv_iload_n hx hb dX1_stepOn_145 rfl (lv_at hl 2 rfl) ?_
        refine lv_bipush (v := 15) hx hb dX1_stepOn_146 (by decide) ?_
        refine lv_irem hx hb dX1_stepOn_148 (by decide) ?_
        have J27 : ∀ (w26 : MS) (H : Heap) (locs : List Loc) (ls : Array Slot), w26 = (m_stepOn_j162_S S x1) → MR D d A a w26 H → va_S A s.heap H locs → lv_has ls 5 [(4, .int (m_stepOn_j67_s0 S x1)), (3, .int (m_stepOn_j46_s0 S x1)), (2, .int (m_stepOn_v27 S x1)), (0, .ref (a 0)), (1, .int x1)] → W p l e (rm_ 4) s m av below meth c H locs 0 0 Q (F0 m 162 ls []) := by
          intro w26 H locs ls ew26 hR hS hl
          subst ew26
          refine lv_iload_n hx hb dX1_stepOn_162 rfl (lv_at hl 2 rfl) ?_
          refine lv_if_ne (tgt := 177) hx hb dX1_stepOn_163 (by decide) (fun c28 => ?_) (fun c28 => ?_)
          · exact m_rv hx hb hrt hlk hR hS hQ (if_neg c28) dX1_stepOn_177
          · refine lv_iload hx hb dX1_stepOn_166 (lv_at hl 0 rfl) ?_
            refine lv_if_eq (tgt := 177) hx hb dX1_stepOn_168 (by decide) (fun c29 => ?_) (fun c29 => ?_)
            · exact m_rv hx hb hrt hlk hR hS hQ (Eq.trans (if_pos c28) (if_pos c29)) dX1_stepOn_177
            · refine lv_aload_n hx hb dX1_stepOn_171 rfl (lv_at hl 3 rfl) ?_
              refine lv_iload_n hx hb dX1_stepOn_172 rfl (lv_at hl 4 rfl) ?_
              refine lv_iconst (v := 0) hx hb dX1_stepOn_173 (by decide) ?_
              refine m_cv X hR hS (mt_warnedGoes l D d A a (m_stepOn_j162_S S x1) x1 0 (ht) (m_stepOn_g0 S x1 ht hI (by assumption)) ((m_stepOn_162 S x1 ht hI).1)) 2 (lw_V q1468 q1470 qs37 q59 q1471) ⟨rfl, rfl⟩ (by decide +kernel) ⟨by decide, by decide⟩ ⟨by decide, by decide⟩ rfl hl.1 rfl (Nat.le_of_ble_eq_true rfl) dX1_stepOn_174 (fun H locs hR hS => ?_)
              exact m_rv hx hb hrt hlk hR hS hQ (Eq.trans (if_pos c28) (if_neg c29)) dX1_stepOn_177
        refine lv_if_ne (tgt := 162) hx hb dX1_stepOn_149 (by decide) (fun c24 => ?_) (fun c24 => ?_)
        · exact J27 _ _ _  _ (Eq.symm (if_neg c24)) hR hS  (lv_sub hl [0, 1, 2, 3, 4] rfl)
        · refine lv_iload_n hx hb dX1_stepOn_152 rfl (lv_at hl 1 rfl) ?_
          refine lv_if_eq (tgt := 162) hx hb dX1_stepOn_153 (by decide) (fun c25 => ?_) (fun c25 => ?_)
          · exact J27 _ _ _  _ (Eq.symm (Eq.trans (if_pos c24) (if_pos c25))) hR hS  (lv_sub hl [0, 1, 2, 3, 4] rfl)
          · refine lv_aload_n hx hb dX1_stepOn_156 rfl (lv_at hl 3 rfl) ?_
            refine lv_iload_n hx hb dX1_stepOn_157 rfl (lv_at hl 4 rfl) ?_
            refine lv_iconst (v := 1) hx hb dX1_stepOn_158 (by decide) ?_
            refine m_cv X hR hS (mt_warnedGoes l D d A a (m_stepOn_j145_S S x1) x1 1 (ht) (m_stepOn_g1 S x1 ht hI (by assumption)) ((m_stepOn_145 S x1 ht hI).1)) 2 (lw_V q1468 q1470 qs37 q59 q1471) ⟨rfl, rfl⟩ (by decide +kernel) ⟨by decide, by decide⟩ ⟨by decide, by decide⟩ rfl hl.1 rfl (Nat.le_of_ble_eq_true rfl) dX1_stepOn_159 (fun H locs hR hS => ?_)
            exact J27 _ _ _  _ (Eq.symm (Eq.trans (if_pos c24) (if_neg c25))) hR hS  (lv_sub hl [0, 1, 2, 3, 4] rfl)
      refine lv_icmp_ne (tgt := 145) hx hb dX1_stepOn_75 (by decide) (fun c10 => ?_) (fun c10 => ?_)
      · exact J23 _ _ _  _ (Eq.symm (if_neg c10)) hR hS  (lv_sub hl [0, 1, 2, 3, 4] rfl)
      · refine lv_aload_n hx hb dX1_stepOn_78 rfl (lv_at hl 3 rfl) ?_
        refine mg_a X hR 36 (by decide) (by decide) q1173 dX1_stepOn_79 ?_
        refine lv_iconst (v := 2) hx hb dX1_stepOn_82 (by decide) ?_
        refine lv_iload_n hx hb dX1_stepOn_83 rfl (lv_at hl 4 rfl) ?_
        refine lv_imul hx hb dX1_stepOn_84 ?_
        refine lv_iconst (v := 1) hx hb dX1_stepOn_85 (by decide) ?_
        refine lv_iadd hx hb dX1_stepOn_86 ?_
        refine lv_aload_n hx hb dX1_stepOn_87 rfl (lv_at hl 3 rfl) ?_
        refine mg_a X hR 36 (by decide) (by decide) q1173 dX1_stepOn_88 ?_
        refine lv_iconst (v := 2) hx hb dX1_stepOn_91 (by decide) ?_
        refine lv_iload_n hx hb dX1_stepOn_92 rfl (lv_at hl 4 rfl) ?_
        refine lv_imul hx hb dX1_stepOn_93 ?_
        refine lv_iconst (v := 1) hx hb dX1_stepOn_94 (by decide) ?_
        refine lv_iadd hx hb dX1_stepOn_95 ?_
        refine m_zld X hR ⟨by decide, rfl, by decide⟩ (ixl 8 8 (by decide) rfl (m_stepOn_o11 S x1 ht hI c10)) (v := S.1 36 (Int32.toNatClampNeg ((2 * x1) + 1))) ((mu_k _ (by decide) _ _ _).trans rfl) dX1_stepOn_96 ?_
        have J15 : ∀ (w14 : Int32) (H : Heap) (locs : List Loc) (ls : Array Slot), w14 = (m_stepOn_j109_s0 S x1) → MR D d A a (mu S 27 (Int32.toNatClampNeg x1) (((S.1 27 (Int32.toNatClampNeg x1)) + 1) - ((S.1 27 (Int32.toNatClampNeg x1)) + 1) / 1440 * 1440)) H → va_S A s.heap H locs → lv_has ls 5 [(4, .int (m_stepOn_j67_s0 S x1)), (3, .int (m_stepOn_j46_s0 S x1)), (2, .int (m_stepOn_v27 S x1)), (0, .ref (a 0)), (1, .int x1)] → W p l e (rm_ 4) s m av below meth c H locs 0 0 Q (F0 m 109 ls [.int w14, .int ((2 * x1) + 1), .ref (a 36)]) := by
          intro w14 H locs ls ew14 hR hS hl
          subst ew14
          refine m_zst X hR hS ⟨by decide, rfl, by decide⟩ (ixl 8 8 (by decide) rfl (m_stepOn_o11 S x1 ht hI c10)) (by unfold m_stepOn_j109_s0; (repeat' split) <;> simp) dX1_stepOn_109 (fun H locs hR hS => ?_)
          refine lv_aload_n hx hb dX1_stepOn_110 rfl (lv_at hl 3 rfl) ?_
          refine mg_a X hR 36 (by decide) (by decide) q1173 dX1_stepOn_111 ?_
          refine lv_iconst (v := 2) hx hb dX1_stepOn_114 (by decide) ?_
          refine lv_iload_n hx hb dX1_stepOn_115 rfl (lv_at hl 4 rfl) ?_
          refine lv_imul hx hb dX1_stepOn_116 ?_
          refine lv_aload_n hx hb dX1_stepOn_117 rfl (lv_at hl 3 rfl) ?_
          refine mg_a X hR 36 (by decide) (by decide) q1173 dX1_stepOn_118 ?_
          refine lv_iconst (v := 2) hx hb dX1_stepOn_121 (by decide) ?_
          refine lv_iload_n hx hb dX1_stepOn_122 rfl (lv_at hl 4 rfl) ?_
          refine lv_imul hx hb dX1_stepOn_123 ?_
          refine m_zld X hR ⟨by decide, rfl, by decide⟩ (ixl 8 8 (by decide) rfl (m_stepOn_o16 S x1 ht hI c10)) (v := (mu (mu S 27 (Int32.toNatClampNeg x1) (((S.1 27 (Int32.toNatClampNeg x1)) + 1) - ((S.1 27 (Int32.toNatClampNeg x1)) + 1) / 1440 * 1440)) 36 (Int32.toNatClampNeg ((2 * x1) + 1)) (m_stepOn_j109_s0 S x1)).1 36 (Int32.toNatClampNeg (2 * x1))) rfl dX1_stepOn_124 ?_
          have J21 : ∀ (w20 : Int32) (H : Heap) (locs : List Loc) (ls : Array Slot), w20 = (m_stepOn_j144_s0 S x1) → MR D d A a (mu (mu S 27 (Int32.toNatClampNeg x1) (((S.1 27 (Int32.toNatClampNeg x1)) + 1) - ((S.1 27 (Int32.toNatClampNeg x1)) + 1) / 1440 * 1440)) 36 (Int32.toNatClampNeg ((2 * x1) + 1)) (m_stepOn_j109_s0 S x1)) H → va_S A s.heap H locs → lv_has ls 5 [(4, .int (m_stepOn_j67_s0 S x1)), (3, .int (m_stepOn_j46_s0 S x1)), (2, .int (m_stepOn_v27 S x1)), (0, .ref (a 0)), (1, .int x1)] → W p l e (rm_ 4) s m av below meth c H locs 0 0 Q (F0 m 144 ls [.int w20, .int (2 * x1), .ref (a 36)]) := by
            intro w20 H locs ls ew20 hR hS hl
            subst ew20
            refine m_zst X hR hS ⟨by decide, rfl, by decide⟩ (ixl 8 8 (by decide) rfl (m_stepOn_o16 S x1 ht hI c10)) (by unfold m_stepOn_j144_s0; (repeat' split) <;> simp) dX1_stepOn_144 (fun H locs hR hS => ?_)
            exact J23 _ _ _  _ (Eq.symm (if_pos c10)) hR hS  (lv_sub hl [0, 1, 2, 3, 4] rfl)
          refine lv_if_ne (tgt := 139) hx hb dX1_stepOn_125 (by decide) (fun c17 => ?_) (fun c17 => ?_)
          · refine lv_iconst (v := 1) hx hb dX1_stepOn_139 (by decide) ?_
            refine lv_goto (tgt := 144) hx hb dX1_stepOn_140 (by decide) ?_
            exact J21 _ _ _  _ (Eq.symm (if_neg c17)) hR hS  (lv_sub hl [0, 1, 2, 3, 4] rfl)
          · refine lv_iload hx hb dX1_stepOn_128 (lv_at hl 0 rfl) ?_
            refine lv_if_eq (tgt := 143) hx hb dX1_stepOn_130 (by decide) (fun c18 => ?_) (fun c18 => ?_)
            · refine lv_iconst (v := 0) hx hb dX1_stepOn_143 (by decide) ?_
              exact J21 _ _ _  _ (Eq.symm (Eq.trans (if_pos c17) (if_pos c18))) hR hS  (lv_sub hl [0, 1, 2, 3, 4] rfl)
            · refine lv_iload_n hx hb dX1_stepOn_133 rfl (lv_at hl 2 rfl) ?_
              refine lv_bipush (v := 55) hx hb dX1_stepOn_134 (by decide) ?_
              refine lv_icmp_ne (tgt := 143) hx hb dX1_stepOn_136 (by decide) (fun c19 => ?_) (fun c19 => ?_)
              · refine lv_iconst (v := 0) hx hb dX1_stepOn_143 (by decide) ?_
                exact J21 _ _ _  _ (Eq.symm (Eq.trans (if_pos c17) (Eq.trans (if_neg c18) (if_neg c19)))) hR hS  (lv_sub hl [0, 1, 2, 3, 4] rfl)
              · refine lv_iconst (v := 1) hx hb dX1_stepOn_139 (by decide) ?_
                refine lv_goto (tgt := 144) hx hb dX1_stepOn_140 (by decide) ?_
                exact J21 _ _ _  _ (Eq.symm (Eq.trans (if_pos c17) (Eq.trans (if_neg c18) (if_pos c19)))) hR hS  (lv_sub hl [0, 1, 2, 3, 4] rfl)
        refine lv_if_ne (tgt := 104) hx hb dX1_stepOn_97 (by decide) (fun c12 => ?_) (fun c12 => ?_)
        · refine lv_iconst (v := 1) hx hb dX1_stepOn_104 (by decide) ?_
          refine lv_goto (tgt := 109) hx hb dX1_stepOn_105 (by decide) ?_
          exact J15 _ _ _  _ (Eq.symm (if_neg c12)) hR hS  (lv_sub hl [0, 1, 2, 3, 4] rfl)
        · refine lv_iload_n hx hb dX1_stepOn_100 rfl (lv_at hl 1 rfl) ?_
          refine lv_if_eq (tgt := 108) hx hb dX1_stepOn_101 (by decide) (fun c13 => ?_) (fun c13 => ?_)
          · refine lv_iconst (v := 0) hx hb dX1_stepOn_108 (by decide) ?_
            exact J15 _ _ _  _ (Eq.symm (Eq.trans (if_pos c12) (if_pos c13))) hR hS  (lv_sub hl [0, 1, 2, 3, 4] rfl)
          · refine lv_iconst (v := 1) hx hb dX1_stepOn_104 (by decide) ?_
            refine lv_goto (tgt := 109) hx hb dX1_stepOn_105 (by decide) ?_
            exact J15 _ _ _  _ (Eq.symm (Eq.trans (if_pos c12) (if_neg c13))) hR hS  (lv_sub hl [0, 1, 2, 3, 4] rfl)
    refine lv_if_lt (tgt := 66) hx hb dX1_stepOn_55 (by decide) (fun c6 => ?_) (fun c6 => ?_)
    · refine lv_iconst (v := 0) hx hb dX1_stepOn_66 (by decide) ?_
      exact J9 _ _ _  _ (Eq.symm (if_pos c6)) hR hS  (lv_sub hl [0, 1, 2, 3] rfl)
    · refine lv_iload_n hx hb dX1_stepOn_58 rfl (lv_at hl 0 rfl) ?_
      refine lv_if_ne (tgt := 66) hx hb dX1_stepOn_59 (by decide) (fun c7 => ?_) (fun c7 => ?_)
      · refine lv_iconst (v := 0) hx hb dX1_stepOn_66 (by decide) ?_
        exact J9 _ _ _  _ (Eq.symm (Eq.trans (if_neg c6) (if_neg c7))) hR hS  (lv_sub hl [0, 1, 2, 3] rfl)
      · refine lv_iconst (v := 1) hx hb dX1_stepOn_62 (by decide) ?_
        refine lv_goto (tgt := 67) hx hb dX1_stepOn_63 (by decide) ?_
        exact J9 _ _ _  _ (Eq.symm (Eq.trans (if_neg c6) (if_pos c7))) hR hS  (lv_sub hl [0, 1, 2, 3] rfl)
  refine lv_if_lt (tgt := 45) hx hb dX1_stepOn_38 (by decide) (fun c2 => ?_) (fun c2 => ?_)
  · refine lv_iconst (v := 0) hx hb dX1_stepOn_45 (by decide) ?_
    exact J4 _ _ _  _ (Eq.symm (if_pos c2)) hR hS  (lv_sub hl [0, 1, 2] rfl)
  · refine lv_iconst (v := 1) hx hb dX1_stepOn_41 (by decide) ?_
    refine lv_goto (tgt := 46) hx hb dX1_stepOn_42 (by decide) ?_
    exact J4 _ _ _  _ (Eq.symm (if_neg c2)) hR hS  (lv_sub hl [0, 1, 2] rfl)
theorem m_stepOn_inv (S : MS) (x1 : Int32) (ht : 0 ≤ x1 ∧ x1 < 4) (hI : MInv S) : MInv (m_stepOn S x1) := by
  unfold m_stepOn
  split
  · split
    · exact (m_stepOn_162 S x1 ht hI).1
    · rename_i h3
      exact m_warnedGoes_inv _ x1 0 ht (m_stepOn_g0 S x1 ht hI h3) (m_stepOn_162 S x1 ht hI).1
  · exact (m_stepOn_162 S x1 ht hI).1
theorem m_stepOn_eqx (S : MS) (x1 : Int32) : eqx [27, 36, 25, 21, 14] S (m_stepOn S x1) := by
  have h1 : eqx [27, 36, 25, 21, 14] S (m_stepOn_j145_S S x1) := by
    unfold m_stepOn_j145_S
    (repeat' split) <;> (repeat refine eqx.up ?_ (by decide) _ _) <;> exact eqx.rf
  have h2 : eqx [27, 36, 25, 21, 14] S (m_stepOn_j162_S S x1) := by
    unfold m_stepOn_j162_S
    (repeat' split) <;> first
      | exact h1
      | exact h1.tr ((m_warnedGoes_eqx _ _ _).sub (by decide))
  unfold m_stepOn
  (repeat' split) <;> first
    | exact h2
    | exact h2.tr ((m_warnedGoes_eqx _ _ _).sub (by decide))
