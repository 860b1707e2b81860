/-! PRINTED by gen/run_m4.py -/
set_option maxRecDepth 100000
theorem m_tower_o2 (S : MS) (x1 : Int32) (hI : MInv S) (hh0 : 0 ≤ 2 * x1 ∧ 2 * x1 < 8 → S.1 35 (Int32.toNatClampNeg (2 * x1)) < 16) (hh1 : 0 ≤ 2 * x1 + 1 ∧ 2 * x1 + 1 < 8 → S.1 35 (Int32.toNatClampNeg (2 * x1 + 1)) < 16) (c1 : ¬ (m_isNumber x1) = 0) : 0 ≤ x1 ∧ x1 < 4 := by 
  clear hI
  try simp only [m_in_eq, m_isNumber_eq] at *
  try simp only [i_le, i_lt, i_eq, Int32.reduceToInt] at *
  first | (have e_0 := m32 (x := 2) (y := x1) (by (try simp only [Int32.reduceToInt]); omega); (try simp only [Int32.reduceToInt] at e_0)) | skip
  first | (have e_1 := a32 (x := (2 * x1)) (y := 1) (by (try simp only [Int32.reduceToInt]); omega); (try simp only [Int32.reduceToInt] at e_1)) | skip
  try simp only [Int32.reduceToInt] at *
  omega
def m_tower_j23_s0 (S : MS) (x1 : Int32) : Int32 := (if (S.1 26 (Int32.toNatClampNeg x1)) = 0 then 0 else 1)
theorem m_tower_o6 (S : MS) (x1 : Int32) (hI : MInv S) (hh0 : 0 ≤ 2 * x1 ∧ 2 * x1 < 8 → S.1 35 (Int32.toNatClampNeg (2 * x1)) < 16) (hh1 : 0 ≤ 2 * x1 + 1 ∧ 2 * x1 + 1 < 8 → S.1 35 (Int32.toNatClampNeg (2 * x1 + 1)) < 16) (c1 : ¬ (m_isNumber x1) = 0) : 0 ≤ (2 * x1) ∧ (2 * x1) < 8 := by 
  clear hI
  try simp only [m_in_eq, m_isNumber_eq] at *
  try simp only [i_le, i_lt, i_eq, Int32.reduceToInt] at *
  first | (have e_0 := m32 (x := 2) (y := x1) (by (try simp only [Int32.reduceToInt]); omega); (try simp only [Int32.reduceToInt] at e_0)) | skip
  first | (have e_1 := a32 (x := (2 * x1)) (y := 1) (by (try simp only [Int32.reduceToInt]); omega); (try simp only [Int32.reduceToInt] at e_1)) | skip
  try simp only [Int32.reduceToInt] at *
  omega
theorem m_tower_o7 (S : MS) (x1 : Int32) (hI : MInv S) (hh0 : 0 ≤ 2 * x1 ∧ 2 * x1 < 8 → S.1 35 (Int32.toNatClampNeg (2 * x1)) < 16) (hh1 : 0 ≤ 2 * x1 + 1 ∧ 2 * x1 + 1 < 8 → S.1 35 (Int32.toNatClampNeg (2 * x1 + 1)) < 16) (c1 : ¬ (m_isNumber x1) = 0) : (mu (mu (mu (mu (mu (mu (mu (mu (mu S 26 (Int32.toNatClampNeg x1) 1) 27 (Int32.toNatClampNeg x1) 0) 28 (Int32.toNatClampNeg x1) 0) 29 (Int32.toNatClampNeg x1) 20000) 30 (Int32.toNatClampNeg x1) 0) 31 (Int32.toNatClampNeg x1) 1) 32 (Int32.toNatClampNeg x1) 0) 33 (Int32.toNatClampNeg x1) 0) 37 (Int32.toNatClampNeg x1) 0).1 35 (Int32.toNatClampNeg (2 * x1)) < 16 := by 
  clear hI
  try simp only [mu, Nat.reduceEqDiff, false_and, true_and, and_self, ↓reduceIte] at *
  try simp only [m_in_eq, m_isNumber_eq] at *
  try simp only [i_le, i_lt, i_eq, Int32.reduceToInt] at *
  first | (have e_0 := m32 (x := 2) (y := x1) (by (try simp only [Int32.reduceToInt]); omega); (try simp only [Int32.reduceToInt] at e_0)) | skip
  first | (have e_1 := a32 (x := (2 * x1)) (y := 1) (by (try simp only [Int32.reduceToInt]); omega); (try simp only [Int32.reduceToInt] at e_1)) | skip
  try simp only [Int32.reduceToInt] at *
  omega
theorem m_tower_o8 (S : MS) (x1 : Int32) (hI : MInv S) (hh0 : 0 ≤ 2 * x1 ∧ 2 * x1 < 8 → S.1 35 (Int32.toNatClampNeg (2 * x1)) < 16) (hh1 : 0 ≤ 2 * x1 + 1 ∧ 2 * x1 + 1 < 8 → S.1 35 (Int32.toNatClampNeg (2 * x1 + 1)) < 16) (c1 : ¬ (m_isNumber x1) = 0) : 0 ≤ ((2 * x1) + 1) ∧ ((2 * x1) + 1) < 8 := by 
  clear hI
  try simp only [m_in_eq, m_isNumber_eq] at *
  try simp only [i_le, i_lt, i_eq, Int32.reduceToInt] at *
  first | (have e_0 := m32 (x := 2) (y := x1) (by (try simp only [Int32.reduceToInt]); omega); (try simp only [Int32.reduceToInt] at e_0)) | skip
  first | (have e_1 := a32 (x := (2 * x1)) (y := 1) (by (try simp only [Int32.reduceToInt]); omega); (try simp only [Int32.reduceToInt] at e_1)) | skip
  try simp only [Int32.reduceToInt] at *
  omega
def m_tower (S : MS) (x1 : Int32) : Int32 × MS := (if (m_isNumber x1) = 0 then ((-1), S) else ((m_tower_j23_s0 S x1), (m_free (m_free (mu (mu (mu (mu (mu (mu (mu (mu (mu S 26 (Int32.toNatClampNeg x1) 1) 27 (Int32.toNatClampNeg x1) 0) 28 (Int32.toNatClampNeg x1) 0) 29 (Int32.toNatClampNeg x1) 20000) 30 (Int32.toNatClampNeg x1) 0) 31 (Int32.toNatClampNeg x1) 1) 32 (Int32.toNatClampNeg x1) 0) 33 (Int32.toNatClampNeg x1) 0) 37 (Int32.toNatClampNeg x1) 0) (2 * x1)) ((2 * x1) + 1))))
set_option maxHeartbeats 4000000 in
theorem mt_tower (l : Launch) (D : va_G) (d : Nat → ClassId) (A : Nat → Prop) (a : Nat → Nat) (S : MS) (x1 : Int32) (hI : MInv S) : MI l yX1_tower cX1_tower 3 .int (rm_ 2) D d A a S [.int x1] (m_tower S x1) := by
  refine m_startI rfl (Nat.le_of_ble_eq_true rfl) ?_
  intro p e s m av below meth c ls Q X hrt hlk hl hR hQ
  have hx := X.1.1
  have hb := X.1.2.1
  have hown := X.1.2.2.2.1
  have hts := X.1.2.2.2.2
  have hS : va_S A s.heap s.heap [] := va_S.rf
  have hl : lv_has ls 3 [(0, .ref (a 0)), (1, .int x1)] := hl
  have hh0 : 0 ≤ 2 * x1 ∧ 2 * x1 < 8 → S.1 35 (Int32.toNatClampNeg (2 * x1)) < 16 := fun h => mi_hl hI h
  have hh1 : 0 ≤ 2 * x1 + 1 ∧ 2 * x1 + 1 < 8 → S.1 35 (Int32.toNatClampNeg (2 * x1 + 1)) < 16 := fun h => mi_hl hI h
  refine lv_iload_n hx hb dX1_tower_0 rfl (lv_at hl 1 rfl) ?_
  refine s_ci X.1 (st_m_isNumber l x1) 1 (lw_S q1430 q1431 q59 q1432) ⟨rfl, rfl⟩ (by decide +kernel) ⟨by decide, by decide⟩ ⟨by decide, by decide⟩ rfl hl.1 rfl (Nat.le_of_ble_eq_true rfl) dX1_tower_1 ?_
  refine lv_if_ne (tgt := 9) hx hb dX1_tower_4 (by decide) (fun c1 => ?_) (fun c1 => ?_)
  · refine lv_aload_n hx hb dX1_tower_9 rfl (lv_at hl 0 rfl) ?_
    refine mg_a X hR 26 (by decide) (by decide) q1163 dX1_tower_10 ?_
    refine lv_iload_n hx hb dX1_tower_13 rfl (lv_at hl 1 rfl) ?_
    refine m_zld X hR ⟨by decide, rfl, by decide⟩ (ixl 4 4 (by decide) rfl (m_tower_o2 S x1 hI hh0 hh1 c1)) (v := S.1 26 (Int32.toNatClampNeg x1)) rfl dX1_tower_14 ?_
    have J5 : ∀ (w4 : Int32) (H : Heap) (locs : List Loc) (ls : Array Slot), w4 = (m_tower_j23_s0 S x1) → MR D d A a S H → va_S A s.heap H locs → lv_has ls 3 [(0, .ref (a 0)), (1, .int x1)] → W p l e (rm_ 2) s m av below meth c H locs 0 0 Q (F0 m 23 ls [.int w4]) := by
      intro w4 H locs ls ew4 hR hS hl
      subst ew4
      refine lv_istore_n (lv' := [(2, .int (m_tower_j23_s0 S x1)), (0, .ref (a 0)), (1, .int x1)]) hx hb dX1_tower_23 rfl hl (by decide) rfl (fun ls hl => ?_)
      refine lv_aload_n hx hb dX1_tower_24 rfl (lv_at hl 1 rfl) ?_
      refine mg_a X hR 26 (by decide) (by decide) q1163 dX1_tower_25 ?_
      refine lv_iload_n hx hb dX1_tower_28 rfl (lv_at hl 2 rfl) ?_
      refine lv_iconst (v := 1) hx hb dX1_tower_29 (by decide) ?_
      refine m_zst X hR hS ⟨by decide, rfl, by decide⟩ (ixl 4 4 (by decide) rfl (m_tower_o2 S x1 hI hh0 hh1 c1)) (Or.inr rfl) dX1_tower_30 (fun H locs hR hS => ?_)
      refine lv_aload_n hx hb dX1_tower_31 rfl (lv_at hl 1 rfl) ?_
      refine mg_a X hR 27 (by decide) (by decide) q1164 dX1_tower_32 ?_
      refine lv_iload_n hx hb dX1_tower_35 rfl (lv_at hl 2 rfl) ?_
      refine lv_iconst (v := 0) hx hb dX1_tower_36 (by decide) ?_
      refine m_st X hR hS ⟨by decide, rfl, by decide⟩ (ixl 4 4 (by decide) rfl (m_tower_o2 S x1 hI hh0 hh1 c1)) dX1_tower_37 (fun H locs hR hS => ?_)
      refine lv_aload_n hx hb dX1_tower_38 rfl (lv_at hl 1 rfl) ?_
      refine mg_a X hR 28 (by decide) (by decide) q1165 dX1_tower_39 ?_
      refine lv_iload_n hx hb dX1_tower_42 rfl (lv_at hl 2 rfl) ?_
      refine lv_iconst (v := 0) hx hb dX1_tower_43 (by decide) ?_
      refine m_st X hR hS ⟨by decide, rfl, by decide⟩ (ixl 4 4 (by decide) rfl (m_tower_o2 S x1 hI hh0 hh1 c1)) dX1_tower_44 (fun H locs hR hS => ?_)
      refine lv_aload_n hx hb dX1_tower_45 rfl (lv_at hl 1 rfl) ?_
      refine mg_a X hR 29 (by decide) (by decide) q1166 dX1_tower_46 ?_
      refine lv_iload_n hx hb dX1_tower_49 rfl (lv_at hl 2 rfl) ?_
      refine lv_sipush (v := 20000) hx hb dX1_tower_50 (by decide) ?_
      refine m_st X hR hS ⟨by decide, rfl, by decide⟩ (ixl 4 4 (by decide) rfl (m_tower_o2 S x1 hI hh0 hh1 c1)) dX1_tower_53 (fun H locs hR hS => ?_)
      refine lv_aload_n hx hb dX1_tower_54 rfl (lv_at hl 1 rfl) ?_
      refine mg_a X hR 30 (by decide) (by decide) q1167 dX1_tower_55 ?_
      refine lv_iload_n hx hb dX1_tower_58 rfl (lv_at hl 2 rfl) ?_
      refine lv_iconst (v := 0) hx hb dX1_tower_59 (by decide) ?_
      refine m_st X hR hS ⟨by decide, rfl, by decide⟩ (ixl 4 4 (by decide) rfl (m_tower_o2 S x1 hI hh0 hh1 c1)) dX1_tower_60 (fun H locs hR hS => ?_)
      refine lv_aload_n hx hb dX1_tower_61 rfl (lv_at hl 1 rfl) ?_
      refine mg_a X hR 31 (by decide) (by decide) q1168 dX1_tower_62 ?_
      refine lv_iload_n hx hb dX1_tower_65 rfl (lv_at hl 2 rfl) ?_
      refine lv_iconst (v := 1) hx hb dX1_tower_66 (by decide) ?_
      refine m_zst X hR hS ⟨by decide, rfl, by decide⟩ (ixl 4 4 (by decide) rfl (m_tower_o2 S x1 hI hh0 hh1 c1)) (Or.inr rfl) dX1_tower_67 (fun H locs hR hS => ?_)
      refine lv_aload_n hx hb dX1_tower_68 rfl (lv_at hl 1 rfl) ?_
      refine mg_a X hR 32 (by decide) (by decide) q1169 dX1_tower_69 ?_
      refine lv_iload_n hx hb dX1_tower_72 rfl (lv_at hl 2 rfl) ?_
      refine lv_iconst (v := 0) hx hb dX1_tower_73 (by decide) ?_
      refine m_st X hR hS ⟨by decide, rfl, by decide⟩ (ixl 4 4 (by decide) rfl (m_tower_o2 S x1 hI hh0 hh1 c1)) dX1_tower_74 (fun H locs hR hS => ?_)
      refine lv_aload_n hx hb dX1_tower_75 rfl (lv_at hl 1 rfl) ?_
      refine mg_a X hR 33 (by decide) (by decide) q1170 dX1_tower_76 ?_
      refine lv_iload_n hx hb dX1_tower_79 rfl (lv_at hl 2 rfl) ?_
      refine lv_iconst (v := 0) hx hb dX1_tower_80 (by decide) ?_
      refine m_st X hR hS ⟨by decide, rfl, by decide⟩ (ixl 4 4 (by decide) rfl (m_tower_o2 S x1 hI hh0 hh1 c1)) dX1_tower_81 (fun H locs hR hS => ?_)
      refine lv_aload_n hx hb dX1_tower_82 rfl (lv_at hl 1 rfl) ?_
      refine mg_a X hR 37 (by decide) (by decide) q1174 dX1_tower_83 ?_
      refine lv_iload_n hx hb dX1_tower_86 rfl (lv_at hl 2 rfl) ?_
      refine lv_iconst (v := 0) hx hb dX1_tower_87 (by decide) ?_
      refine m_st X hR hS ⟨by decide, rfl, by decide⟩ (ixl 4 4 (by decide) rfl (m_tower_o2 S x1 hI hh0 hh1 c1)) dX1_tower_88 (fun H locs hR hS => ?_)
      refine lv_aload_n hx hb dX1_tower_89 rfl (lv_at hl 1 rfl) ?_
      refine lv_iconst (v := 2) hx hb dX1_tower_90 (by decide) ?_
      refine lv_iload_n hx hb dX1_tower_91 rfl (lv_at hl 2 rfl) ?_
      refine lv_imul hx hb dX1_tower_92 ?_
      refine m_cv X hR hS (mt_free l D d A a (mu (mu (mu (mu (mu (mu (mu (mu (mu S 26 (Int32.toNatClampNeg x1) 1) 27 (Int32.toNatClampNeg x1) 0) 28 (Int32.toNatClampNeg x1) 0) 29 (Int32.toNatClampNeg x1) 20000) 30 (Int32.toNatClampNeg x1) 0) 31 (Int32.toNatClampNeg x1) 1) 32 (Int32.toNatClampNeg x1) 0) 33 (Int32.toNatClampNeg x1) 0) 37 (Int32.toNatClampNeg x1) 0) (2 * x1) (m_tower_o6 S x1 hI hh0 hh1 c1) (m_tower_o7 S x1 hI hh0 hh1 c1)) 1 (lw_V q1433 q1435 qs33 q59 q1436) ⟨rfl, rfl⟩ (by decide +kernel) ⟨by decide, by decide⟩ ⟨by decide, by decide⟩ rfl hl.1 rfl (Nat.le_of_ble_eq_true rfl) dX1_tower_93 (fun H locs hR hS => ?_)
      refine lv_aload_n hx hb dX1_tower_96 rfl (lv_at hl 1 rfl) ?_
      refine lv_iconst (v := 2) hx hb dX1_tower_97 (by decide) ?_
      refine lv_iload_n hx hb dX1_tower_98 rfl (lv_at hl 2 rfl) ?_
      refine lv_imul hx hb dX1_tower_99 ?_
      refine lv_iconst (v := 1) hx hb dX1_tower_100 (by decide) ?_
      refine lv_iadd hx hb dX1_tower_101 ?_
      refine m_cv X hR hS (mt_free l D d A a (m_free (mu (mu (mu (mu (mu (mu (mu (mu (mu S 26 (Int32.toNatClampNeg x1) 1) 27 (Int32.toNatClampNeg x1) 0) 28 (Int32.toNatClampNeg x1) 0) 29 (Int32.toNatClampNeg x1) 20000) 30 (Int32.toNatClampNeg x1) 0) 31 (Int32.toNatClampNeg x1) 1) 32 (Int32.toNatClampNeg x1) 0) 33 (Int32.toNatClampNeg x1) 0) 37 (Int32.toNatClampNeg x1) 0) (2 * x1)) ((2 * x1) + 1) (m_tower_o8 S x1 hI hh0 hh1 c1) (m_free_lt _ _ _ (hh1 (m_tower_hh x1 c1)))) 1 (lw_V q1433 q1435 qs33 q59 q1436) ⟨rfl, rfl⟩ (by decide +kernel) ⟨by decide, by decide⟩ ⟨by decide, by decide⟩ rfl hl.1 rfl (Nat.le_of_ble_eq_true rfl) dX1_tower_102 (fun H locs hR hS => ?_)
      refine lv_iload_n hx hb dX1_tower_105 rfl (lv_at hl 0 rfl) ?_
      exact m_ri hx hb hrt (rfl) hlk hR hS hQ (if_neg c1) dX1_tower_106
    refine lv_if_eq (tgt := 22) hx hb dX1_tower_15 (by decide) (fun c3 => ?_) (fun c3 => ?_)
    · refine lv_iconst (v := 0) hx hb dX1_tower_22 (by decide) ?_
      exact J5 _ _ _  _ (Eq.symm (if_pos c3)) hR hS  (lv_sub hl [0, 1] rfl)
    · refine lv_iconst (v := 1) hx hb dX1_tower_18 (by decide) ?_
      refine lv_goto (tgt := 23) hx hb dX1_tower_19 (by decide) ?_
      exact J5 _ _ _  _ (Eq.symm (if_neg c3)) hR hS  (lv_sub hl [0, 1] rfl)
  · refine lv_iconst (v := (-1)) hx hb dX1_tower_7 (by decide) ?_
    exact m_ri hx hb hrt (rfl) hlk hR hS hQ (if_pos c1) dX1_tower_8
