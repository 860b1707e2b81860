/-! PRINTED by gen/run_m5.py -/
set_option maxRecDepth 100000
theorem m_hang_o3 (S : MS) (x1 : Int32) (x2 : Int32) (x3 : Int32) (hI : MInv S) (hpl : 0 ≤ x1 ∧ x1 < 4 → 0 ≤ (m_placeOf x1 x3) ∧ (m_placeOf x1 x3) < 8) (hhl : 0 ≤ x1 ∧ x1 < 4 → S.1 35 (Int32.toNatClampNeg (m_placeOf x1 x3)) < 16) (hn2 : ¬ (m_isTrain S x2) = 0 → 0 ≤ x2 ∧ x2 < 16) (c1 : ¬ (m_isNumber x1) = 0) (c2 : ¬ (m_isTrain S x2) = 0) : 0 ≤ x1 ∧ x1 < 4 := by 
  clear hI
  try simp only [m_in_eq, m_isNumber_eq] at *
  try simp only [i_le, i_lt, i_eq, Int32.reduceToInt] at *
  try simp only [Int32.reduceToInt] at *
  omega
theorem m_hang_o5 (S : MS) (x1 : Int32) (x2 : Int32) (x3 : Int32) (hI : MInv S) (hpl : 0 ≤ x1 ∧ x1 < 4 → 0 ≤ (m_placeOf x1 x3) ∧ (m_placeOf x1 x3) < 8) (hhl : 0 ≤ x1 ∧ x1 < 4 → S.1 35 (Int32.toNatClampNeg (m_placeOf x1 x3)) < 16) (hn2 : ¬ (m_isTrain S x2) = 0 → 0 ≤ x2 ∧ x2 < 16) (c1 : ¬ (m_isNumber x1) = 0) (c2 : ¬ (m_isTrain S x2) = 0) (c4 : ¬ (S.1 26 (Int32.toNatClampNeg x1)) = 0) : 0 ≤ x2 ∧ x2 < 16 := by 
  clear hI
  try simp only [m_in_eq, m_isNumber_eq] at *
  try simp only [i_le, i_lt, i_eq, Int32.reduceToInt] at *
  try simp only [Int32.reduceToInt] at *
  omega
theorem m_hang_o7 (S : MS) (x1 : Int32) (x2 : Int32) (x3 : Int32) (hI : MInv S) (hpl : 0 ≤ x1 ∧ x1 < 4 → 0 ≤ (m_placeOf x1 x3) ∧ (m_placeOf x1 x3) < 8) (hhl : 0 ≤ x1 ∧ x1 < 4 → S.1 35 (Int32.toNatClampNeg (m_placeOf x1 x3)) < 16) (hn2 : ¬ (m_isTrain S x2) = 0 → 0 ≤ x2 ∧ x2 < 16) (c1 : ¬ (m_isNumber x1) = 0) (c2 : ¬ (m_isTrain S x2) = 0) (c4 : ¬ (S.1 26 (Int32.toNatClampNeg x1)) = 0) (c6 : (S.1 22 (Int32.toNatClampNeg x2)) < 0) : 0 ≤ (m_placeOf x1 x3) ∧ (m_placeOf x1 x3) < 8 := by 
  clear hI
  try simp only [m_in_eq, m_isNumber_eq] at *
  try simp only [i_le, i_lt, i_eq, Int32.reduceToInt] at *
  try simp only [Int32.reduceToInt] at *
  omega
def m_hang_v58 (S : MS) (x1 : Int32) (x3 : Int32) : Int32 := (S.1 35 (Int32.toNatClampNeg (m_placeOf x1 x3)))
theorem m_hang_o8 (S : MS) (x1 : Int32) (x2 : Int32) (x3 : Int32) (hI : MInv S) (hpl : 0 ≤ x1 ∧ x1 < 4 → 0 ≤ (m_placeOf x1 x3) ∧ (m_placeOf x1 x3) < 8) (hhl : 0 ≤ x1 ∧ x1 < 4 → S.1 35 (Int32.toNatClampNeg (m_placeOf x1 x3)) < 16) (hn2 : ¬ (m_isTrain S x2) = 0 → 0 ≤ x2 ∧ x2 < 16) (c1 : ¬ (m_isNumber x1) = 0) (c2 : ¬ (m_isTrain S x2) = 0) (c4 : ¬ (S.1 26 (Int32.toNatClampNeg x1)) = 0) (c6 : (S.1 22 (Int32.toNatClampNeg x2)) < 0) : S.1 35 (Int32.toNatClampNeg (m_placeOf x1 x3)) < 16 := by 
  clear hI
  try simp only [m_in_eq, m_isNumber_eq] at *
  try simp only [i_le, i_lt, i_eq, Int32.reduceToInt] at *
  try simp only [Int32.reduceToInt] at *
  omega
theorem m_hang_o9 (S : MS) (x1 : Int32) (x2 : Int32) (x3 : Int32) (hI : MInv S) (hpl : 0 ≤ x1 ∧ x1 < 4 → 0 ≤ (m_placeOf x1 x3) ∧ (m_placeOf x1 x3) < 8) (hhl : 0 ≤ x1 ∧ x1 < 4 → S.1 35 (Int32.toNatClampNeg (m_placeOf x1 x3)) < 16) (hn2 : ¬ (m_isTrain S x2) = 0 → 0 ≤ x2 ∧ x2 < 16) (c1 : ¬ (m_isNumber x1) = 0) (c2 : ¬ (m_isTrain S x2) = 0) (c4 : ¬ (S.1 26 (Int32.toNatClampNeg x1)) = 0) (c6 : (S.1 22 (Int32.toNatClampNeg x2)) < 0) : 0 ≤ x2 ∧ x2 < 16 := by 
  clear hI
  try simp only [m_in_eq, m_isNumber_eq] at *
  try simp only [i_le, i_lt, i_eq, Int32.reduceToInt] at *
  try simp only [Int32.reduceToInt] at *
  omega
def m_hang (S : MS) (x1 : Int32) (x2 : Int32) (x3 : Int32) : Int32 × MS := (if (m_isNumber x1) = 0 then ((-1), S) else (if (m_isTrain S x2) = 0 then ((-1), S) else (if (S.1 26 (Int32.toNatClampNeg x1)) = 0 then ((m_meets S 1).1, (m_meets S 1).2) else (if (S.1 22 (Int32.toNatClampNeg x2)) < 0 then ((m_hang_v58 S x1 x3), (mu (mu (mu (m_free S (m_placeOf x1 x3)) 35 (Int32.toNatClampNeg (m_placeOf x1 x3)) x2) 22 (Int32.toNatClampNeg x2) (m_placeOf x1 x3)) 21 (Int32.toNatClampNeg x2) 0)) else ((-4), S)))))
set_option maxHeartbeats 4000000 in
theorem mt_hang (l : Launch) (D : va_G) (d : Nat → ClassId) (A : Nat → Prop) (a : Nat → Nat) (S : MS) (x1 : Int32) (x2 : Int32) (x3 : Int32) (hI : MInv S) : MI l yX1_hang cX1_hang 6 .int (rm_ 2) D d A a S [.int x1, .int x2, .int x3] (m_hang S x1 x2 x3) := by
  refine m_startI rfl (Nat.le_of_ble_eq_true rfl) ?_
  intro p e s m av below meth c ls Q X hrt hlk hl hR hQ
  have hx := X.1.1
  have hb := X.1.2.1
  have hown := X.1.2.2.2.1
  have hts := X.1.2.2.2.2
  have hS : va_S A s.heap s.heap [] := va_S.rf
  have hl : lv_has ls 6 [(0, .ref (a 0)), (1, .int x1), (2, .int x2), (3, .int x3)] := hl
  have hpl : 0 ≤ x1 ∧ x1 < 4 → 0 ≤ (m_placeOf x1 x3) ∧ (m_placeOf x1 x3) < 8 := m_placeOf_ok
  have hhl : 0 ≤ x1 ∧ x1 < 4 → S.1 35 (Int32.toNatClampNeg (m_placeOf x1 x3)) < 16 := fun h => mi_hl hI (m_placeOf_ok h)
  have hn2 : ¬ (m_isTrain S x2) = 0 → 0 ≤ x2 ∧ x2 < 16 := isTrain_ok hI
  refine lv_iload_n hx hb dX1_hang_0 rfl (lv_at hl 1 rfl) ?_
  refine s_ci X.1 (st_m_isNumber l x1) 1 (lw_S q1430 q1431 q59 q1432) ⟨rfl, rfl⟩ (by decide +kernel) ⟨by decide, by decide⟩ ⟨by decide, by decide⟩ rfl hl.1 rfl (Nat.le_of_ble_eq_true rfl) dX1_hang_1 ?_
  refine lv_if_eq (tgt := 15) hx hb dX1_hang_4 (by decide) (fun c1 => ?_) (fun c1 => ?_)
  · refine lv_iconst (v := (-1)) hx hb dX1_hang_15 (by decide) ?_
    exact m_ri hx hb hrt (rfl) hlk hR hS hQ (if_pos c1) dX1_hang_16
  · refine lv_aload_n hx hb dX1_hang_7 rfl (lv_at hl 0 rfl) ?_
    refine lv_iload_n hx hb dX1_hang_8 rfl (lv_at hl 2 rfl) ?_
    refine m_cr X hR hS (mt_isTrain l D d A a S x2) 1 (lw_V q1373 q1375 qs28 q59 q1376) ⟨rfl, rfl⟩ (by decide +kernel) ⟨by decide, by decide⟩ ⟨by decide, by decide⟩ rfl hl.1 rfl (Nat.le_of_ble_eq_true rfl) dX1_hang_9 (fun H locs hR hS => ?_)
    refine lv_if_ne (tgt := 17) hx hb dX1_hang_12 (by decide) (fun c2 => ?_) (fun c2 => ?_)
    · refine lv_aload_n hx hb dX1_hang_17 rfl (lv_at hl 0 rfl) ?_
      refine mg_a X hR 26 (by decide) (by decide) q1163 dX1_hang_18 ?_
      refine lv_iload_n hx hb dX1_hang_21 rfl (lv_at hl 1 rfl) ?_
      refine m_zld X hR ⟨by decide, rfl, by decide⟩ (ixl 4 4 (by decide) rfl (m_hang_o3 S x1 x2 x3 hI hpl hhl hn2 c1 c2)) (v := S.1 26 (Int32.toNatClampNeg x1)) rfl dX1_hang_22 ?_
      refine lv_if_ne (tgt := 32) hx hb dX1_hang_23 (by decide) (fun c4 => ?_) (fun c4 => ?_)
      · refine lv_aload_n hx hb dX1_hang_32 rfl (lv_at hl 0 rfl) ?_
        refine mg_a X hR 22 (by decide) (by decide) q1159 dX1_hang_33 ?_
        refine lv_iload_n hx hb dX1_hang_36 rfl (lv_at hl 2 rfl) ?_
        refine m_ld X hR ⟨by decide, rfl, by decide⟩ (ixl 16 16 (by decide) rfl (m_hang_o5 S x1 x2 x3 hI hpl hhl hn2 c1 c2 c4)) (v := S.1 22 (Int32.toNatClampNeg x2)) rfl dX1_hang_37 ?_
        refine lv_if_lt (tgt := 44) hx hb dX1_hang_38 (by decide) (fun c6 => ?_) (fun c6 => ?_)
        · refine lv_iload_n hx hb dX1_hang_44 rfl (lv_at hl 1 rfl) ?_
          refine lv_iload_n hx hb dX1_hang_45 rfl (lv_at hl 3 rfl) ?_
          refine s_ci X.1 (st_m_placeOf l x1 x3) 2 (lw_S q1441 q1442 q59 q1443) ⟨rfl, rfl⟩ (by decide +kernel) ⟨by decide, by decide⟩ ⟨by decide, by decide⟩ rfl hl.1 rfl (Nat.le_of_ble_eq_true rfl) dX1_hang_46 ?_
          refine lv_istore (lv' := [(4, .int (m_placeOf x1 x3)), (0, .ref (a 0)), (1, .int x1), (2, .int x2), (3, .int x3)]) hx hb dX1_hang_49 hl (by decide) rfl (fun ls hl => ?_)
          refine lv_aload_n hx hb dX1_hang_51 rfl (lv_at hl 1 rfl) ?_
          refine mg_a X hR 35 (by decide) (by decide) q1172 dX1_hang_52 ?_
          refine lv_iload hx hb dX1_hang_55 (lv_at hl 0 rfl) ?_
          refine m_ld X hR ⟨by decide, rfl, by decide⟩ (ixl 8 8 (by decide) rfl (m_hang_o7 S x1 x2 x3 hI hpl hhl hn2 c1 c2 c4 c6)) (v := S.1 35 (Int32.toNatClampNeg (m_placeOf x1 x3))) rfl dX1_hang_57 ?_
          refine lv_istore (lv' := [(5, .int (m_hang_v58 S x1 x3)), (4, .int (m_placeOf x1 x3)), (0, .ref (a 0)), (1, .int x1), (2, .int x2), (3, .int x3)]) hx hb dX1_hang_58 hl (by decide) rfl (fun ls hl => ?_)
          refine lv_aload_n hx hb dX1_hang_60 rfl (lv_at hl 2 rfl) ?_
          refine lv_iload hx hb dX1_hang_61 (lv_at hl 1 rfl) ?_
          refine m_cv X hR hS (mt_free l D d A a S (m_placeOf x1 x3) (m_hang_o7 S x1 x2 x3 hI hpl hhl hn2 c1 c2 c4 c6) (m_hang_o8 S x1 x2 x3 hI hpl hhl hn2 c1 c2 c4 c6)) 1 (lw_V q1433 q1435 qs33 q59 q1436) ⟨rfl, rfl⟩ (by decide +kernel) ⟨by decide, by decide⟩ ⟨by decide, by decide⟩ rfl hl.1 rfl (Nat.le_of_ble_eq_true rfl) dX1_hang_63 (fun H locs hR hS => ?_)
          refine lv_aload_n hx hb dX1_hang_66 rfl (lv_at hl 2 rfl) ?_
          refine mg_a X hR 35 (by decide) (by decide) q1172 dX1_hang_67 ?_
          refine lv_iload hx hb dX1_hang_70 (lv_at hl 1 rfl) ?_
          refine lv_iload_n hx hb dX1_hang_72 rfl (lv_at hl 4 rfl) ?_
          refine m_st X hR hS ⟨by decide, rfl, by decide⟩ (ixl 8 8 (by decide) rfl (m_hang_o7 S x1 x2 x3 hI hpl hhl hn2 c1 c2 c4 c6)) dX1_hang_73 (fun H locs hR hS => ?_)
          refine lv_aload_n hx hb dX1_hang_74 rfl (lv_at hl 2 rfl) ?_
          refine mg_a X hR 22 (by decide) (by decide) q1159 dX1_hang_75 ?_
          refine lv_iload_n hx hb dX1_hang_78 rfl (lv_at hl 4 rfl) ?_
          refine lv_iload hx hb dX1_hang_79 (lv_at hl 1 rfl) ?_
          refine m_st X hR hS ⟨by decide, rfl, by decide⟩ (ixl 16 16 (by decide) rfl (m_hang_o9 S x1 x2 x3 hI hpl hhl hn2 c1 c2 c4 c6)) dX1_hang_81 (fun H locs hR hS => ?_)
          refine lv_aload_n hx hb dX1_hang_82 rfl (lv_at hl 2 rfl) ?_
          refine mg_a X hR 21 (by decide) (by decide) q1158 dX1_hang_83 ?_
          refine lv_iload_n hx hb dX1_hang_86 rfl (lv_at hl 4 rfl) ?_
          refine lv_iconst (v := 0) hx hb dX1_hang_87 (by decide) ?_
          refine m_st X hR hS ⟨by decide, rfl, by decide⟩ (ixl 16 16 (by decide) rfl (m_hang_o9 S x1 x2 x3 hI hpl hhl hn2 c1 c2 c4 c6)) dX1_hang_88 (fun H locs hR hS => ?_)
          refine lv_iload hx hb dX1_hang_89 (lv_at hl 0 rfl) ?_
          exact m_ri hx hb hrt (rfl) hlk hR hS hQ (Eq.trans (if_neg c1) (Eq.trans (if_neg c2) (Eq.trans (if_neg c4) (if_pos c6)))) dX1_hang_91
        · refine lv_bipush (v := (-4)) hx hb dX1_hang_41 (by decide) ?_
          exact m_ri hx hb hrt (rfl) hlk hR hS hQ (Eq.trans (if_neg c1) (Eq.trans (if_neg c2) (Eq.trans (if_neg c4) (if_neg c6)))) dX1_hang_43
      · refine lv_aload_n hx hb dX1_hang_26 rfl (lv_at hl 0 rfl) ?_
        refine lv_iconst (v := 1) hx hb dX1_hang_27 (by decide) ?_
        refine m_ci X hR hS (mt_meets l D d A a S 1 (by decide)) 1 (lw_V q1317 q1319 qs22 q59 q1320) ⟨rfl, rfl⟩ (by decide +kernel) ⟨by decide, by decide⟩ ⟨by decide, by decide⟩ rfl hl.1 rfl (Nat.le_of_ble_eq_true rfl) dX1_hang_28 (fun H locs hR hS => ?_)
        exact m_ri hx hb hrt (rfl) hlk hR hS hQ (Eq.trans (if_neg c1) (Eq.trans (if_neg c2) (if_pos c4))) dX1_hang_31
    · refine lv_iconst (v := (-1)) hx hb dX1_hang_15 (by decide) ?_
      exact m_ri hx hb hrt (rfl) hlk hR hS hQ (Eq.trans (if_neg c1) (if_pos c2)) dX1_hang_16
theorem m_askedPlace_o2 (S : MS) (x1 : Int32) (x2 : Int32) (hpl : 0 ≤ x1 ∧ x1 < 4 → 0 ≤ (m_placeOf x1 x2) ∧ (m_placeOf x1 x2) < 8) (c1 : 0 ≤ (m_askedFor S x1).1) (okc1_0 : 0 ≤ x1 ∧ x1 < 4) : 0 ≤ (m_placeOf x1 x2) ∧ (m_placeOf x1 x2) < 8 := by 
  try simp only [i_le, i_lt, i_eq, Int32.reduceToInt] at *
  try simp only [Int32.reduceToInt] at *
  omega
def m_askedPlace (S : MS) (x1 : Int32) (x2 : Int32) : Int32 × MS := (if 0 ≤ (m_askedFor S x1).1 then (if 0 ≤ (S.1 35 (Int32.toNatClampNeg (m_placeOf x1 x2))) then (0, S) else ((m_meets S 1).1, (m_meets S 1).2)) else ((m_askedFor S x1).1, (m_askedFor S x1).2))
set_option maxHeartbeats 4000000 in
theorem mt_askedPlace (l : Launch) (D : va_G) (d : Nat → ClassId) (A : Nat → Prop) (a : Nat → Nat) (S : MS) (x1 : Int32) (x2 : Int32) : MI l yX1_askedPlace cX1_askedPlace 4 .int (rm_ 3) D d A a S [.int x1, .int x2] (m_askedPlace S x1 x2) := by
  refine m_startI rfl (Nat.le_of_ble_eq_true rfl) ?_
  intro p e s m av below meth c ls Q X hrt hlk hl hR hQ
  have hx := X.1.1
  have hb := X.1.2.1
  have hown := X.1.2.2.2.1
  have hts := X.1.2.2.2.2
  have hS : va_S A s.heap s.heap [] := va_S.rf
  have hl : lv_has ls 4 [(0, .ref (a 0)), (1, .int x1), (2, .int x2)] := hl
  have hpl : 0 ≤ x1 ∧ x1 < 4 → 0 ≤ (m_placeOf x1 x2) ∧ (m_placeOf x1 x2) < 8 := m_placeOf_ok
  refine lv_aload_n hx hb dX1_askedPlace_0 rfl (lv_at hl 0 rfl) ?_
  refine lv_iload_n hx hb dX1_askedPlace_1 rfl (lv_at hl 1 rfl) ?_
  refine m_ci X hR hS (mt_askedFor l D d A a S x1) 1 (lw_V q1452 q1454 qs35 q59 q1455) ⟨rfl, rfl⟩ (by decide +kernel) ⟨by decide, by decide⟩ ⟨by decide, by decide⟩ rfl hl.1 rfl (Nat.le_of_ble_eq_true rfl) dX1_askedPlace_2 (fun H locs hR hS => ?_)
  refine lv_istore_n (lv' := [(3, .int ((m_askedFor S x1).1)), (0, .ref (a 0)), (1, .int x1), (2, .int x2)]) hx hb dX1_askedPlace_5 rfl hl (by decide) rfl (fun ls hl => ?_)
  refine lv_iload_n hx hb dX1_askedPlace_6 rfl (lv_at hl 0 rfl) ?_
  refine lv_if_ge (tgt := 14) hx hb dX1_askedPlace_7 (by decide) (fun c1 => ?_) (fun c1 => ?_)
  · have okc1 := m_askedFor_ok S x1 c1
    have hR : MR D d A a S H := okc1.1 ▸ hR
    have okc1_0 : 0 ≤ x1 ∧ x1 < 4 := okc1.2.1
    refine lv_aload_n hx hb dX1_askedPlace_14 rfl (lv_at hl 1 rfl) ?_
    refine mg_a X hR 35 (by decide) (by decide) q1172 dX1_askedPlace_15 ?_
    refine lv_iload_n hx hb dX1_askedPlace_18 rfl (lv_at hl 2 rfl) ?_
    refine lv_iload_n hx hb dX1_askedPlace_19 rfl (lv_at hl 3 rfl) ?_
    refine s_ci X.1 (st_m_placeOf l x1 x2) 2 (lw_S q1441 q1442 q59 q1443) ⟨rfl, rfl⟩ (by decide +kernel) ⟨by decide, by decide⟩ ⟨by decide, by decide⟩ rfl hl.1 rfl (Nat.le_of_ble_eq_true rfl) dX1_askedPlace_20 ?_
    refine m_ld X hR ⟨by decide, rfl, by decide⟩ (ixl 8 8 (by decide) rfl (m_askedPlace_o2 S x1 x2 hpl c1 okc1_0)) (v := S.1 35 (Int32.toNatClampNeg (m_placeOf x1 x2))) rfl dX1_askedPlace_23 ?_
    refine lv_if_ge (tgt := 35) hx hb dX1_askedPlace_24 (by decide) (fun c3 => ?_) (fun c3 => ?_)
    · refine lv_iconst (v := 0) hx hb dX1_askedPlace_35 (by decide) ?_
      exact m_ri hx hb hrt (rfl) hlk hR hS hQ (Eq.trans (if_pos c1) (if_pos c3)) dX1_askedPlace_36
    · refine lv_aload_n hx hb dX1_askedPlace_27 rfl (lv_at hl 1 rfl) ?_
      refine lv_iconst (v := 1) hx hb dX1_askedPlace_28 (by decide) ?_
      refine m_ci X hR hS (mt_meets l D d A a S 1 (by decide)) 1 (lw_V q1317 q1319 qs22 q59 q1320) ⟨rfl, rfl⟩ (by decide +kernel) ⟨by decide, by decide⟩ ⟨by decide, by decide⟩ rfl hl.1 rfl (Nat.le_of_ble_eq_true rfl) dX1_askedPlace_29 (fun H locs hR hS => ?_)
      refine lv_goto (tgt := 36) hx hb dX1_askedPlace_32 (by decide) ?_
      exact m_ri hx hb hrt (rfl) hlk hR hS hQ (Eq.trans (if_pos c1) (if_neg c3)) dX1_askedPlace_36
  · refine lv_iload_n hx hb dX1_askedPlace_10 rfl (lv_at hl 0 rfl) ?_
    refine lv_goto (tgt := 36) hx hb dX1_askedPlace_11 (by decide) ?_
    exact m_ri hx hb hrt (rfl) hlk hR hS hQ (if_neg c1) dX1_askedPlace_36
