/-! PRINTED by gen/run_m5.py -/
set_option maxRecDepth 100000
theorem m_unhang_o2 (S : MS) (x1 : Int32) (x2 : Int32) (hI : MInv S) (hpl : 0 ≤ x1 ∧ x1 < 4 → 0 ≤ (m_placeOf x1 x2) ∧ (m_placeOf x1 x2) < 8) (hhl : 0 ≤ x1 ∧ x1 < 4 → S.1 35 (Int32.toNatClampNeg (m_placeOf x1 x2)) < 16) (c1 : 0 ≤ (m_askedPlace S x1 x2).1) (okc1_0 : 0 ≤ x1 ∧ x1 < 4) (okc1_1 : 0 ≤ S.1 35 (Int32.toNatClampNeg (m_placeOf x1 x2))) : 0 ≤ (m_placeOf x1 x2) ∧ (m_placeOf x1 x2) < 8 := by 
  clear hI
  try simp only [i_le, i_lt, i_eq, Int32.reduceToInt] at *
  try simp only [Int32.reduceToInt] at *
  omega
def m_unhang_v23 (S : MS) (x1 : Int32) (x2 : Int32) : Int32 := (S.1 35 (Int32.toNatClampNeg (m_placeOf x1 x2)))
theorem m_unhang_o3 (S : MS) (x1 : Int32) (x2 : Int32) (hI : MInv S) (hpl : 0 ≤ x1 ∧ x1 < 4 → 0 ≤ (m_placeOf x1 x2) ∧ (m_placeOf x1 x2) < 8) (hhl : 0 ≤ x1 ∧ x1 < 4 → S.1 35 (Int32.toNatClampNeg (m_placeOf x1 x2)) < 16) (c1 : 0 ≤ (m_askedPlace S x1 x2).1) (okc1_0 : 0 ≤ x1 ∧ x1 < 4) (okc1_1 : 0 ≤ S.1 35 (Int32.toNatClampNeg (m_placeOf x1 x2))) : S.1 35 (Int32.toNatClampNeg (m_placeOf x1 x2)) < 16 := by 
  clear hI
  try simp only [i_le, i_lt, i_eq, Int32.reduceToInt] at *
  try simp only [Int32.reduceToInt] at *
  omega
def m_unhang (S : MS) (x1 : Int32) (x2 : Int32) : Int32 × MS := (if 0 ≤ (m_askedPlace S x1 x2).1 then ((m_unhang_v23 S x1 x2), (m_free S (m_placeOf x1 x2))) else ((m_askedPlace S x1 x2).1, (m_askedPlace S x1 x2).2))
set_option maxHeartbeats 4000000 in
theorem mt_unhang (l : Launch) (D : va_G) (d : Nat → ClassId) (A : Nat → Prop) (a : Nat → Nat) (S : MS) (x1 : Int32) (x2 : Int32) (hI : MInv S) : MI l yX1_unhang cX1_unhang 5 .int (rm_ 4) D d A a S [.int x1, .int x2] (m_unhang S x1 x2) := by
  refine m_startI rfl (Nat.le_of_ble_eq_true rfl) ?_
  intro p e s m av below meth c ls Q X hrt hlk hl hR hQ
  have hx := X.1.1
  have hb := X.1.2.1
  have hown := X.1.2.2.2.1
  have hts := X.1.2.2.2.2
  have hS : va_S A s.heap s.heap [] := va_S.rf
  have hl : lv_has ls 5 [(0, .ref (a 0)), (1, .int x1), (2, .int x2)] := hl
  have hpl : 0 ≤ x1 ∧ x1 < 4 → 0 ≤ (m_placeOf x1 x2) ∧ (m_placeOf x1 x2) < 8 := m_placeOf_ok
  have hhl : 0 ≤ x1 ∧ x1 < 4 → S.1 35 (Int32.toNatClampNeg (m_placeOf x1 x2)) < 16 := fun h => mi_hl hI (m_placeOf_ok h)
  refine lv_aload_n hx hb dX1_unhang_0 rfl (lv_at hl 0 rfl) ?_
  refine lv_iload_n hx hb dX1_unhang_1 rfl (lv_at hl 1 rfl) ?_
  refine lv_iload_n hx hb dX1_unhang_2 rfl (lv_at hl 2 rfl) ?_
  refine m_ci X hR hS (mt_askedPlace l D d A a S x1 x2) 2 (lw_V q1448 q1450 qs34 q59 q1451) ⟨rfl, rfl⟩ (by decide +kernel) ⟨by decide, by decide⟩ ⟨by decide, by decide⟩ rfl hl.1 rfl (Nat.le_of_ble_eq_true rfl) dX1_unhang_3 (fun H locs hR hS => ?_)
  refine lv_istore_n (lv' := [(3, .int ((m_askedPlace S x1 x2).1)), (0, .ref (a 0)), (1, .int x1), (2, .int x2)]) hx hb dX1_unhang_6 rfl hl (by decide) rfl (fun ls hl => ?_)
  refine lv_iload_n hx hb dX1_unhang_7 rfl (lv_at hl 0 rfl) ?_
  refine lv_if_ge (tgt := 13) hx hb dX1_unhang_8 (by decide) (fun c1 => ?_) (fun c1 => ?_)
  · have okc1 := m_askedPlace_ok S x1 x2 c1
    have hR : MR D d A a S H := okc1.1 ▸ hR
    have okc1_0 : 0 ≤ x1 ∧ x1 < 4 := okc1.2.1
    have okc1_1 : 0 ≤ S.1 35 (Int32.toNatClampNeg (m_placeOf x1 x2)) := okc1.2.2.2
    refine lv_aload_n hx hb dX1_unhang_13 rfl (lv_at hl 1 rfl) ?_
    refine mg_a X hR 35 (by decide) (by decide) q1172 dX1_unhang_14 ?_
    refine lv_iload_n hx hb dX1_unhang_17 rfl (lv_at hl 2 rfl) ?_
    refine lv_iload_n hx hb dX1_unhang_18 rfl (lv_at hl 3 rfl) ?_
    refine s_ci X.1 (st_m_placeOf l x1 x2) 2 (lw_S q1441 q1442 q59 q1443) ⟨rfl, rfl⟩ (by decide +kernel) ⟨by decide, by decide⟩ ⟨by decide, by decide⟩ rfl hl.1 rfl (Nat.le_of_ble_eq_true rfl) dX1_unhang_19 ?_
    refine m_ld X hR ⟨by decide, rfl, by decide⟩ (ixl 8 8 (by decide) rfl (m_unhang_o2 S x1 x2 hI hpl hhl c1 okc1_0 okc1_1)) (v := S.1 35 (Int32.toNatClampNeg (m_placeOf x1 x2))) rfl dX1_unhang_22 ?_
    refine lv_istore (lv' := [(4, .int (m_unhang_v23 S x1 x2)), (3, .int ((m_askedPlace S x1 x2).1)), (0, .ref (a 0)), (1, .int x1), (2, .int x2)]) hx hb dX1_unhang_23 hl (by decide) rfl (fun ls hl => ?_)
    refine lv_aload_n hx hb dX1_unhang_25 rfl (lv_at hl 2 rfl) ?_
    refine lv_iload_n hx hb dX1_unhang_26 rfl (lv_at hl 3 rfl) ?_
    refine lv_iload_n hx hb dX1_unhang_27 rfl (lv_at hl 4 rfl) ?_
    refine s_ci X.1 (st_m_placeOf l x1 x2) 2 (lw_S q1441 q1442 q59 q1443) ⟨rfl, rfl⟩ (by decide +kernel) ⟨by decide, by decide⟩ ⟨by decide, by decide⟩ rfl hl.1 rfl (Nat.le_of_ble_eq_true rfl) dX1_unhang_28 ?_
    refine m_cv X hR hS (mt_free l D d A a S (m_placeOf x1 x2) (m_unhang_o2 S x1 x2 hI hpl hhl c1 okc1_0 okc1_1) (m_unhang_o3 S x1 x2 hI hpl hhl c1 okc1_0 okc1_1)) 1 (lw_V q1433 q1435 qs33 q59 q1436) ⟨rfl, rfl⟩ (by decide +kernel) ⟨by decide, by decide⟩ ⟨by decide, by decide⟩ rfl hl.1 rfl (Nat.le_of_ble_eq_true rfl) dX1_unhang_31 (fun H locs hR hS => ?_)
    refine lv_iload hx hb dX1_unhang_34 (lv_at hl 0 rfl) ?_
    exact m_ri hx hb hrt (rfl) hlk hR hS hQ (if_pos c1) dX1_unhang_36
  · refine lv_iload_n hx hb dX1_unhang_11 rfl (lv_at hl 0 rfl) ?_
    exact m_ri hx hb hrt (rfl) hlk hR hS hQ (if_neg c1) dX1_unhang_12
def m_hands_v31 (S : MS) (x1 : Int32) : Int32 := (S.1 27 (Int32.toNatClampNeg x1))
def m_hands (S : MS) (x1 : Int32) (x2 : Int32) : Int32 × MS := (if (m_in x2 0 1439) = 0 then ((-1), S) else (if 0 ≤ (m_askedFor S x1).1 then ((m_hands_v31 S x1), (mu S 27 (Int32.toNatClampNeg x1) x2)) else ((m_askedFor S x1).1, (m_askedFor S x1).2)))
set_option maxHeartbeats 4000000 in
theorem mt_hands (l : Launch) (D : va_G) (d : Nat → ClassId) (A : Nat → Prop) (a : Nat → Nat) (S : MS) (x1 : Int32) (x2 : Int32) : MI l yX1_hands cX1_hands 5 .int (rm_ 3) D d A a S [.int x1, .int x2] (m_hands S x1 x2) := by
  refine m_startI rfl (Nat.le_of_ble_eq_true rfl) ?_
  intro p e s m av below meth c ls Q X hrt hlk hl hR hQ
  have hx := X.1.1
  have hb := X.1.2.1
  have hown := X.1.2.2.2.1
  have hts := X.1.2.2.2.2
  have hS : va_S A s.heap s.heap [] := va_S.rf
  have hl : lv_has ls 5 [(0, .ref (a 0)), (1, .int x1), (2, .int x2)] := hl
  refine lv_iload_n hx hb dX1_hands_0 rfl (lv_at hl 2 rfl) ?_
  refine lv_iconst (v := 0) hx hb dX1_hands_1 (by decide) ?_
  refine lv_sipush (v := 1439) hx hb dX1_hands_2 (by decide) ?_
  refine s_ci X.1 (st_m_in l x2 0 1439) 3 (lw_S q1314 q1315 q59 q1316) ⟨rfl, rfl⟩ (by decide +kernel) ⟨by decide, by decide⟩ ⟨by decide, by decide⟩ rfl hl.1 rfl (Nat.le_of_ble_eq_true rfl) dX1_hands_5 ?_
  refine lv_if_ne (tgt := 13) hx hb dX1_hands_8 (by decide) (fun c1 => ?_) (fun c1 => ?_)
  · refine lv_aload_n hx hb dX1_hands_13 rfl (lv_at hl 0 rfl) ?_
    refine lv_iload_n hx hb dX1_hands_14 rfl (lv_at hl 1 rfl) ?_
    refine m_ci X hR hS (mt_askedFor l D d A a S x1) 1 (lw_V q1452 q1454 qs35 q59 q1455) ⟨rfl, rfl⟩ (by decide +kernel) ⟨by decide, by decide⟩ ⟨by decide, by decide⟩ rfl hl.1 rfl (Nat.le_of_ble_eq_true rfl) dX1_hands_15 (fun H locs hR hS => ?_)
    refine lv_istore_n (lv' := [(3, .int ((m_askedFor S x1).1)), (0, .ref (a 0)), (1, .int x1), (2, .int x2)]) hx hb dX1_hands_18 rfl hl (by decide) rfl (fun ls hl => ?_)
    refine lv_iload_n hx hb dX1_hands_19 rfl (lv_at hl 0 rfl) ?_
    refine lv_if_ge (tgt := 25) hx hb dX1_hands_20 (by decide) (fun c2 => ?_) (fun c2 => ?_)
    · have okc2 := m_askedFor_ok S x1 c2
      have hR : MR D d A a S H := okc2.1 ▸ hR
      have okc2_0 : 0 ≤ x1 ∧ x1 < 4 := okc2.2.1
      refine lv_aload_n hx hb dX1_hands_25 rfl (lv_at hl 1 rfl) ?_
      refine mg_a X hR 27 (by decide) (by decide) q1164 dX1_hands_26 ?_
      refine lv_iload_n hx hb dX1_hands_29 rfl (lv_at hl 2 rfl) ?_
      refine m_ld X hR ⟨by decide, rfl, by decide⟩ (ixl 4 4 (by decide) rfl (okc2_0)) (v := S.1 27 (Int32.toNatClampNeg x1)) rfl dX1_hands_30 ?_
      refine lv_istore (lv' := [(4, .int (m_hands_v31 S x1)), (3, .int ((m_askedFor S x1).1)), (0, .ref (a 0)), (1, .int x1), (2, .int x2)]) hx hb dX1_hands_31 hl (by decide) rfl (fun ls hl => ?_)
      refine lv_aload_n hx hb dX1_hands_33 rfl (lv_at hl 2 rfl) ?_
      refine mg_a X hR 27 (by decide) (by decide) q1164 dX1_hands_34 ?_
      refine lv_iload_n hx hb dX1_hands_37 rfl (lv_at hl 3 rfl) ?_
      refine lv_iload_n hx hb dX1_hands_38 rfl (lv_at hl 4 rfl) ?_
      refine m_st X hR hS ⟨by decide, rfl, by decide⟩ (ixl 4 4 (by decide) rfl (okc2_0)) dX1_hands_39 (fun H locs hR hS => ?_)
      refine lv_iload hx hb dX1_hands_40 (lv_at hl 0 rfl) ?_
      exact m_ri hx hb hrt (rfl) hlk hR hS hQ (Eq.trans (if_neg c1) (if_pos c2)) dX1_hands_42
    · refine lv_iload_n hx hb dX1_hands_23 rfl (lv_at hl 0 rfl) ?_
      exact m_ri hx hb hrt (rfl) hlk hR hS hQ (Eq.trans (if_neg c1) (if_neg c2)) dX1_hands_24
  · refine lv_iconst (v := (-1)) hx hb dX1_hands_11 (by decide) ?_
    exact m_ri hx hb hrt (rfl) hlk hR hS hQ (if_pos c1) dX1_hands_12
def m_back (S : MS) (x1 : Int32) (x2 : Int32) : Int32 × MS := (if (m_in x2 0 1500) = 0 then ((-1), S) else (if 0 ≤ (m_askedFor S x1).1 then (((((S.1 27 (Int32.toNatClampNeg x1)) + 2880) - x2) - (((S.1 27 (Int32.toNatClampNeg x1)) + 2880) - x2) / 1440 * 1440), (mu S 27 (Int32.toNatClampNeg x1) ((((S.1 27 (Int32.toNatClampNeg x1)) + 2880) - x2) - (((S.1 27 (Int32.toNatClampNeg x1)) + 2880) - x2) / 1440 * 1440))) else ((m_askedFor S x1).1, (m_askedFor S x1).2)))
set_option maxHeartbeats 4000000 in
theorem mt_back (l : Launch) (D : va_G) (d : Nat → ClassId) (A : Nat → Prop) (a : Nat → Nat) (S : MS) (x1 : Int32) (x2 : Int32) : MI l yX1_back cX1_back 4 .int (rm_ 3) D d A a S [.int x1, .int x2] (m_back S x1 x2) := by
  refine m_startI rfl (Nat.le_of_ble_eq_true rfl) ?_
  intro p e s m av below meth c ls Q X hrt hlk hl hR hQ
  have hx := X.1.1
  have hb := X.1.2.1
  have hown := X.1.2.2.2.1
  have hts := X.1.2.2.2.2
  have hS : va_S A s.heap s.heap [] := va_S.rf
  have hl : lv_has ls 4 [(0, .ref (a 0)), (1, .int x1), (2, .int x2)] := hl
  refine lv_iload_n hx hb dX1_back_0 rfl (lv_at hl 2 rfl) ?_
  refine lv_iconst (v := 0) hx hb dX1_back_1 (by decide) ?_
  refine lv_sipush (v := 1500) hx hb dX1_back_2 (by decide) ?_
  refine s_ci X.1 (st_m_in l x2 0 1500) 3 (lw_S q1314 q1315 q59 q1316) ⟨rfl, rfl⟩ (by decide +kernel) ⟨by decide, by decide⟩ ⟨by decide, by decide⟩ rfl hl.1 rfl (Nat.le_of_ble_eq_true rfl) dX1_back_5 ?_
  refine lv_if_ne (tgt := 13) hx hb dX1_back_8 (by decide) (fun c1 => ?_) (fun c1 => ?_)
  · refine lv_aload_n hx hb dX1_back_13 rfl (lv_at hl 0 rfl) ?_
    refine lv_iload_n hx hb dX1_back_14 rfl (lv_at hl 1 rfl) ?_
    refine m_ci X hR hS (mt_askedFor l D d A a S x1) 1 (lw_V q1452 q1454 qs35 q59 q1455) ⟨rfl, rfl⟩ (by decide +kernel) ⟨by decide, by decide⟩ ⟨by decide, by decide⟩ rfl hl.1 rfl (Nat.le_of_ble_eq_true rfl) dX1_back_15 (fun H locs hR hS => ?_)
    refine lv_istore_n (lv' := [(3, .int ((m_askedFor S x1).1)), (0, .ref (a 0)), (1, .int x1), (2, .int x2)]) hx hb dX1_back_18 rfl hl (by decide) rfl (fun ls hl => ?_)
    refine lv_iload_n hx hb dX1_back_19 rfl (lv_at hl 0 rfl) ?_
    refine lv_if_ge (tgt := 25) hx hb dX1_back_20 (by decide) (fun c2 => ?_) (fun c2 => ?_)
    · have okc2 := m_askedFor_ok S x1 c2
      have hR : MR D d A a S H := okc2.1 ▸ hR
      have okc2_0 : 0 ≤ x1 ∧ x1 < 4 := okc2.2.1
      refine lv_aload_n hx hb dX1_back_25 rfl (lv_at hl 1 rfl) ?_
      refine mg_a X hR 27 (by decide) (by decide) q1164 dX1_back_26 ?_
      refine lv_iload_n hx hb dX1_back_29 rfl (lv_at hl 2 rfl) ?_
      refine lv_aload_n hx hb dX1_back_30 rfl (lv_at hl 1 rfl) ?_
      refine mg_a X hR 27 (by decide) (by decide) q1164 dX1_back_31 ?_
      refine lv_iload_n hx hb dX1_back_34 rfl (lv_at hl 2 rfl) ?_
      refine m_ld X hR ⟨by decide, rfl, by decide⟩ (ixl 4 4 (by decide) rfl (okc2_0)) (v := S.1 27 (Int32.toNatClampNeg x1)) rfl dX1_back_35 ?_
      refine lv_sipush (v := 2880) hx hb dX1_back_36 (by decide) ?_
      refine lv_iadd hx hb dX1_back_39 ?_
      refine lv_iload_n hx hb dX1_back_40 rfl (lv_at hl 3 rfl) ?_
      refine lv_isub hx hb dX1_back_41 ?_
      refine lv_sipush (v := 1440) hx hb dX1_back_42 (by decide) ?_
      refine lv_irem hx hb dX1_back_45 (by decide) ?_
      refine m_st X hR hS ⟨by decide, rfl, by decide⟩ (ixl 4 4 (by decide) rfl (okc2_0)) dX1_back_46 (fun H locs hR hS => ?_)
      refine lv_aload_n hx hb dX1_back_47 rfl (lv_at hl 1 rfl) ?_
      refine mg_a X hR 27 (by decide) (by decide) q1164 dX1_back_48 ?_
      refine lv_iload_n hx hb dX1_back_51 rfl (lv_at hl 2 rfl) ?_
      refine m_ld X hR ⟨by decide, rfl, by decide⟩ (ixl 4 4 (by decide) rfl (okc2_0)) (v := ((((S.1 27 (Int32.toNatClampNeg x1)) + 2880) - x2) - (((S.1 27 (Int32.toNatClampNeg x1)) + 2880) - x2) / 1440 * 1440)) (mu_self _ _ _ _) dX1_back_52 ?_
      exact m_ri hx hb hrt (rfl) hlk hR hS hQ (Eq.trans (if_neg c1) (if_pos c2)) dX1_back_53
    · refine lv_iload_n hx hb dX1_back_23 rfl (lv_at hl 0 rfl) ?_
      exact m_ri hx hb hrt (rfl) hlk hR hS hQ (Eq.trans (if_neg c1) (if_neg c2)) dX1_back_24
  · refine lv_iconst (v := (-1)) hx hb dX1_back_11 (by decide) ?_
    exact m_ri hx hb hrt (rfl) hlk hR hS hQ (if_pos c1) dX1_back_12
def m_rate_v33 (S : MS) (x1 : Int32) : Int32 := (S.1 28 (Int32.toNatClampNeg x1))
def m_rate (S : MS) (x1 : Int32) (x2 : Int32) : Int32 × MS := (if (m_in x2 (-3600) 3600) = 0 then ((-1), S) else (if 0 ≤ (m_askedFor S x1).1 then ((m_rate_v33 S x1), (mu S 28 (Int32.toNatClampNeg x1) x2)) else ((m_askedFor S x1).1, (m_askedFor S x1).2)))
set_option maxHeartbeats 4000000 in
theorem mt_rate (l : Launch) (D : va_G) (d : Nat → ClassId) (A : Nat → Prop) (a : Nat → Nat) (S : MS) (x1 : Int32) (x2 : Int32) : MI l yX1_rate cX1_rate 5 .int (rm_ 3) D d A a S [.int x1, .int x2] (m_rate S x1 x2) := by
  refine m_startI rfl (Nat.le_of_ble_eq_true rfl) ?_
  intro p e s m av below meth c ls Q X hrt hlk hl hR hQ
  have hx := X.1.1
  have hb := X.1.2.1
  have hown := X.1.2.2.2.1
  have hts := X.1.2.2.2.2
  have hS : va_S A s.heap s.heap [] := va_S.rf
  have hl : lv_has ls 5 [(0, .ref (a 0)), (1, .int x1), (2, .int x2)] := hl
  refine lv_iload_n hx hb dX1_rate_0 rfl (lv_at hl 2 rfl) ?_
  refine lv_sipush (v := (-3600)) hx hb dX1_rate_1 (by decide) ?_
  refine lv_sipush (v := 3600) hx hb dX1_rate_4 (by decide) ?_
  refine s_ci X.1 (st_m_in l x2 (-3600) 3600) 3 (lw_S q1314 q1315 q59 q1316) ⟨rfl, rfl⟩ (by decide +kernel) ⟨by decide, by decide⟩ ⟨by decide, by decide⟩ rfl hl.1 rfl (Nat.le_of_ble_eq_true rfl) dX1_rate_7 ?_
  refine lv_if_ne (tgt := 15) hx hb dX1_rate_10 (by decide) (fun c1 => ?_) (fun c1 => ?_)
  · refine lv_aload_n hx hb dX1_rate_15 rfl (lv_at hl 0 rfl) ?_
    refine lv_iload_n hx hb dX1_rate_16 rfl (lv_at hl 1 rfl) ?_
    refine m_ci X hR hS (mt_askedFor l D d A a S x1) 1 (lw_V q1452 q1454 qs35 q59 q1455) ⟨rfl, rfl⟩ (by decide +kernel) ⟨by decide, by decide⟩ ⟨by decide, by decide⟩ rfl hl.1 rfl (Nat.le_of_ble_eq_true rfl) dX1_rate_17 (fun H locs hR hS => ?_)
    refine lv_istore_n (lv' := [(3, .int ((m_askedFor S x1).1)), (0, .ref (a 0)), (1, .int x1), (2, .int x2)]) hx hb dX1_rate_20 rfl hl (by decide) rfl (fun ls hl => ?_)
    refine lv_iload_n hx hb dX1_rate_21 rfl (lv_at hl 0 rfl) ?_
    refine lv_if_ge (tgt := 27) hx hb dX1_rate_22 (by decide) (fun c2 => ?_) (fun c2 => ?_)
    · have okc2 := m_askedFor_ok S x1 c2
      have hR : MR D d A a S H := okc2.1 ▸ hR
      have okc2_0 : 0 ≤ x1 ∧ x1 < 4 := okc2.2.1
      refine lv_aload_n hx hb dX1_rate_27 rfl (lv_at hl 1 rfl) ?_
      refine mg_a X hR 28 (by decide) (by decide) q1165 dX1_rate_28 ?_
      refine lv_iload_n hx hb dX1_rate_31 rfl (lv_at hl 2 rfl) ?_
      refine m_ld X hR ⟨by decide, rfl, by decide⟩ (ixl 4 4 (by decide) rfl (okc2_0)) (v := S.1 28 (Int32.toNatClampNeg x1)) rfl dX1_rate_32 ?_
      refine lv_istore (lv' := [(4, .int (m_rate_v33 S x1)), (3, .int ((m_askedFor S x1).1)), (0, .ref (a 0)), (1, .int x1), (2, .int x2)]) hx hb dX1_rate_33 hl (by decide) rfl (fun ls hl => ?_)
      refine lv_aload_n hx hb dX1_rate_35 rfl (lv_at hl 2 rfl) ?_
      refine mg_a X hR 28 (by decide) (by decide) q1165 dX1_rate_36 ?_
      refine lv_iload_n hx hb dX1_rate_39 rfl (lv_at hl 3 rfl) ?_
      refine lv_iload_n hx hb dX1_rate_40 rfl (lv_at hl 4 rfl) ?_
      refine m_st X hR hS ⟨by decide, rfl, by decide⟩ (ixl 4 4 (by decide) rfl (okc2_0)) dX1_rate_41 (fun H locs hR hS => ?_)
      refine lv_iload hx hb dX1_rate_42 (lv_at hl 0 rfl) ?_
      exact m_ri hx hb hrt (rfl) hlk hR hS hQ (Eq.trans (if_neg c1) (if_pos c2)) dX1_rate_44
    · refine lv_iload_n hx hb dX1_rate_25 rfl (lv_at hl 0 rfl) ?_
      exact m_ri hx hb hrt (rfl) hlk hR hS hQ (Eq.trans (if_neg c1) (if_neg c2)) dX1_rate_26
  · refine lv_iconst (v := (-1)) hx hb dX1_rate_13 (by decide) ?_
    exact m_ri hx hb hrt (rfl) hlk hR hS hQ (if_pos c1) dX1_rate_14
def m_windGoing_v30 (S : MS) (x1 : Int32) : Int32 := (S.1 29 (Int32.toNatClampNeg x1))
def m_windGoing (S : MS) (x1 : Int32) (x2 : Int32) : Int32 × MS := (if (m_in x2 0 100000) = 0 then ((-1), S) else (if 0 ≤ (m_askedFor S x1).1 then ((m_windGoing_v30 S x1), (mu S 29 (Int32.toNatClampNeg x1) x2)) else ((m_askedFor S x1).1, (m_askedFor S x1).2)))
set_option maxHeartbeats 4000000 in
theorem mt_windGoing (l : Launch) (D : va_G) (d : Nat → ClassId) (A : Nat → Prop) (a : Nat → Nat) (S : MS) (x1 : Int32) (x2 : Int32) : MI l yX1_windGoing cX1_windGoing 5 .int (rm_ 3) D d A a S [.int x1, .int x2] (m_windGoing S x1 x2) := by
  refine m_startI rfl (Nat.le_of_ble_eq_true rfl) ?_
  intro p e s m av below meth c ls Q X hrt hlk hl hR hQ
  have hx := X.1.1
  have hb := X.1.2.1
  have hown := X.1.2.2.2.1
  have hts := X.1.2.2.2.2
  have hS : va_S A s.heap s.heap [] := va_S.rf
  have hl : lv_has ls 5 [(0, .ref (a 0)), (1, .int x1), (2, .int x2)] := hl
  refine lv_iload_n hx hb dX1_windGoing_0 rfl (lv_at hl 2 rfl) ?_
  refine lv_iconst (v := 0) hx hb dX1_windGoing_1 (by decide) ?_
  refine lv_ldc hx hb hown (hts _ q1377) dX1_windGoing_2 ?_
  refine s_ci X.1 (st_m_in l x2 0 100000) 3 (lw_S q1314 q1315 q59 q1316) ⟨rfl, rfl⟩ (by decide +kernel) ⟨by decide, by decide⟩ ⟨by decide, by decide⟩ rfl hl.1 rfl (Nat.le_of_ble_eq_true rfl) dX1_windGoing_4 ?_
  refine lv_if_ne (tgt := 12) hx hb dX1_windGoing_7 (by decide) (fun c1 => ?_) (fun c1 => ?_)
  · refine lv_aload_n hx hb dX1_windGoing_12 rfl (lv_at hl 0 rfl) ?_
    refine lv_iload_n hx hb dX1_windGoing_13 rfl (lv_at hl 1 rfl) ?_
    refine m_ci X hR hS (mt_askedFor l D d A a S x1) 1 (lw_V q1452 q1454 qs35 q59 q1455) ⟨rfl, rfl⟩ (by decide +kernel) ⟨by decide, by decide⟩ ⟨by decide, by decide⟩ rfl hl.1 rfl (Nat.le_of_ble_eq_true rfl) dX1_windGoing_14 (fun H locs hR hS => ?_)
    refine lv_istore_n (lv' := [(3, .int ((m_askedFor S x1).1)), (0, .ref (a 0)), (1, .int x1), (2, .int x2)]) hx hb dX1_windGoing_17 rfl hl (by decide) rfl (fun ls hl => ?_)
    refine lv_iload_n hx hb dX1_windGoing_18 rfl (lv_at hl 0 rfl) ?_
    refine lv_if_ge (tgt := 24) hx hb dX1_windGoing_19 (by decide) (fun c2 => ?_) (fun c2 => ?_)
    · have okc2 := m_askedFor_ok S x1 c2
      have hR : MR D d A a S H := okc2.1 ▸ hR
      have okc2_0 : 0 ≤ x1 ∧ x1 < 4 := okc2.2.1
      refine lv_aload_n hx hb dX1_windGoing_24 rfl (lv_at hl 1 rfl) ?_
      refine mg_a X hR 29 (by decide) (by decide) q1166 dX1_windGoing_25 ?_
      refine lv_iload_n hx hb dX1_windGoing_28 rfl (lv_at hl 2 rfl) ?_
      refine m_ld X hR ⟨by decide, rfl, by decide⟩ (ixl 4 4 (by decide) rfl (okc2_0)) (v := S.1 29 (Int32.toNatClampNeg x1)) rfl dX1_windGoing_29 ?_
      refine lv_istore (lv' := [(4, .int (m_windGoing_v30 S x1)), (3, .int ((m_askedFor S x1).1)), (0, .ref (a 0)), (1, .int x1), (2, .int x2)]) hx hb dX1_windGoing_30 hl (by decide) rfl (fun ls hl => ?_)
      refine lv_aload_n hx hb dX1_windGoing_32 rfl (lv_at hl 2 rfl) ?_
      refine mg_a X hR 29 (by decide) (by decide) q1166 dX1_windGoing_33 ?_
      refine lv_iload_n hx hb dX1_windGoing_36 rfl (lv_at hl 3 rfl) ?_
      refine lv_iload_n hx hb dX1_windGoing_37 rfl (lv_at hl 4 rfl) ?_
      refine m_st X hR hS ⟨by decide, rfl, by decide⟩ (ixl 4 4 (by decide) rfl (okc2_0)) dX1_windGoing_38 (fun H locs hR hS => ?_)
      refine lv_iload hx hb dX1_windGoing_39 (lv_at hl 0 rfl) ?_
      exact m_ri hx hb hrt (rfl) hlk hR hS hQ (Eq.trans (if_neg c1) (if_pos c2)) dX1_windGoing_41
    · refine lv_iload_n hx hb dX1_windGoing_22 rfl (lv_at hl 0 rfl) ?_
      exact m_ri hx hb hrt (rfl) hlk hR hS hQ (Eq.trans (if_neg c1) (if_neg c2)) dX1_windGoing_23
  · refine lv_iconst (v := (-1)) hx hb dX1_windGoing_10 (by decide) ?_
    exact m_ri hx hb hrt (rfl) hlk hR hS hQ (if_pos c1) dX1_windGoing_11
def m_silence (S : MS) (x1 : Int32) (x2 : Int32) (x3 : Int32) (x4 : Int32) : Int32 × MS := (if (m_in x2 0 23) = 0 then ((-1), S) else (if (m_in x3 0 23) = 0 then ((-1), S) else (if (m_in x4 0 1) = 0 then ((-1), S) else (if 0 ≤ (m_askedFor S x1).1 then (1, (mu (mu (mu S 32 (Int32.toNatClampNeg x1) x2) 33 (Int32.toNatClampNeg x1) x3) 34 (Int32.toNatClampNeg x1) x4)) else ((m_askedFor S x1).1, (m_askedFor S x1).2)))))
set_option maxHeartbeats 4000000 in
theorem mt_silence (l : Launch) (D : va_G) (d : Nat → ClassId) (A : Nat → Prop) (a : Nat → Nat) (S : MS) (x1 : Int32) (x2 : Int32) (x3 : Int32) (x4 : Int32) : MI l yX1_silence cX1_silence 6 .int (rm_ 3) D d A a S [.int x1, .int x2, .int x3, .int x4] (m_silence S x1 x2 x3 x4) := by
  refine m_startI rfl (Nat.le_of_ble_eq_true rfl) ?_
  intro p e s m av below meth c ls Q X hrt hlk hl hR hQ
  have hx := X.1.1
  have hb := X.1.2.1
  have hown := X.1.2.2.2.1
  have hts := X.1.2.2.2.2
  have hS : va_S A s.heap s.heap [] := va_S.rf
  have hl : lv_has ls 6 [(0, .ref (a 0)), (1, .int x1), (2, .int x2), (3, .int x3), (4, .int x4)] := hl
  refine lv_iload_n hx hb dX1_silence_0 rfl (lv_at hl 2 rfl) ?_
  refine lv_iconst (v := 0) hx hb dX1_silence_1 (by decide) ?_
  refine lv_bipush (v := 23) hx hb dX1_silence_2 (by decide) ?_
  refine s_ci X.1 (st_m_in l x2 0 23) 3 (lw_S q1314 q1315 q59 q1316) ⟨rfl, rfl⟩ (by decide +kernel) ⟨by decide, by decide⟩ ⟨by decide, by decide⟩ rfl hl.1 rfl (Nat.le_of_ble_eq_true rfl) dX1_silence_4 ?_
  refine lv_if_eq (tgt := 30) hx hb dX1_silence_7 (by decide) (fun c1 => ?_) (fun c1 => ?_)
  · refine lv_iconst (v := (-1)) hx hb dX1_silence_30 (by decide) ?_
    exact m_ri hx hb hrt (rfl) hlk hR hS hQ (if_pos c1) dX1_silence_31
  · refine lv_iload_n hx hb dX1_silence_10 rfl (lv_at hl 3 rfl) ?_
    refine lv_iconst (v := 0) hx hb dX1_silence_11 (by decide) ?_
    refine lv_bipush (v := 23) hx hb dX1_silence_12 (by decide) ?_
    refine s_ci X.1 (st_m_in l x3 0 23) 3 (lw_S q1314 q1315 q59 q1316) ⟨rfl, rfl⟩ (by decide +kernel) ⟨by decide, by decide⟩ ⟨by decide, by decide⟩ rfl hl.1 rfl (Nat.le_of_ble_eq_true rfl) dX1_silence_14 ?_
    refine lv_if_eq (tgt := 30) hx hb dX1_silence_17 (by decide) (fun c2 => ?_) (fun c2 => ?_)
    · refine lv_iconst (v := (-1)) hx hb dX1_silence_30 (by decide) ?_
      exact m_ri hx hb hrt (rfl) hlk hR hS hQ (Eq.trans (if_neg c1) (if_pos c2)) dX1_silence_31
    · refine lv_iload hx hb dX1_silence_20 (lv_at hl 4 rfl) ?_
      refine lv_iconst (v := 0) hx hb dX1_silence_22 (by decide) ?_
      refine lv_iconst (v := 1) hx hb dX1_silence_23 (by decide) ?_
      refine s_ci X.1 (st_m_in l x4 0 1) 3 (lw_S q1314 q1315 q59 q1316) ⟨rfl, rfl⟩ (by decide +kernel) ⟨by decide, by decide⟩ ⟨by decide, by decide⟩ rfl hl.1 rfl (Nat.le_of_ble_eq_true rfl) dX1_silence_24 ?_
      refine lv_if_ne (tgt := 32) hx hb dX1_silence_27 (by decide) (fun c3 => ?_) (fun c3 => ?_)
      · refine lv_aload_n hx hb dX1_silence_32 rfl (lv_at hl 0 rfl) ?_
        refine lv_iload_n hx hb dX1_silence_33 rfl (lv_at hl 1 rfl) ?_
        refine m_ci X hR hS (mt_askedFor l D d A a S x1) 1 (lw_V q1452 q1454 qs35 q59 q1455) ⟨rfl, rfl⟩ (by decide +kernel) ⟨by decide, by decide⟩ ⟨by decide, by decide⟩ rfl hl.1 rfl (Nat.le_of_ble_eq_true rfl) dX1_silence_34 (fun H locs hR hS => ?_)
        refine lv_istore (lv' := [(5, .int ((m_askedFor S x1).1)), (0, .ref (a 0)), (1, .int x1), (2, .int x2), (3, .int x3), (4, .int x4)]) hx hb dX1_silence_37 hl (by decide) rfl (fun ls hl => ?_)
        refine lv_iload hx hb dX1_silence_39 (lv_at hl 0 rfl) ?_
        refine lv_if_ge (tgt := 47) hx hb dX1_silence_41 (by decide) (fun c4 => ?_) (fun c4 => ?_)
        · have okc4 := m_askedFor_ok S x1 c4
          have hR : MR D d A a S H := okc4.1 ▸ hR
          have okc4_0 : 0 ≤ x1 ∧ x1 < 4 := okc4.2.1
          refine lv_aload_n hx hb dX1_silence_47 rfl (lv_at hl 1 rfl) ?_
          refine mg_a X hR 32 (by decide) (by decide) q1169 dX1_silence_48 ?_
          refine lv_iload_n hx hb dX1_silence_51 rfl (lv_at hl 2 rfl) ?_
          refine lv_iload_n hx hb dX1_silence_52 rfl (lv_at hl 3 rfl) ?_
          refine m_st X hR hS ⟨by decide, rfl, by decide⟩ (ixl 4 4 (by decide) rfl (okc4_0)) dX1_silence_53 (fun H locs hR hS => ?_)
          refine lv_aload_n hx hb dX1_silence_54 rfl (lv_at hl 1 rfl) ?_
          refine mg_a X hR 33 (by decide) (by decide) q1170 dX1_silence_55 ?_
          refine lv_iload_n hx hb dX1_silence_58 rfl (lv_at hl 2 rfl) ?_
          refine lv_iload_n hx hb dX1_silence_59 rfl (lv_at hl 4 rfl) ?_
          refine m_st X hR hS ⟨by decide, rfl, by decide⟩ (ixl 4 4 (by decide) rfl (okc4_0)) dX1_silence_60 (fun H locs hR hS => ?_)
          refine lv_aload_n hx hb dX1_silence_61 rfl (lv_at hl 1 rfl) ?_
          refine mg_a X hR 34 (by decide) (by decide) q1171 dX1_silence_62 ?_
          refine lv_iload_n hx hb dX1_silence_65 rfl (lv_at hl 2 rfl) ?_
          refine lv_iload hx hb dX1_silence_66 (lv_at hl 5 rfl) ?_
          refine m_st X hR hS ⟨by decide, rfl, by decide⟩ (ixl 4 4 (by decide) rfl (okc4_0)) dX1_silence_68 (fun H locs hR hS => ?_)
          refine lv_iconst (v := 1) hx hb dX1_silence_69 (by decide) ?_
          exact m_ri hx hb hrt (rfl) hlk hR hS hQ (Eq.trans (if_neg c1) (Eq.trans (if_neg c2) (Eq.trans (if_neg c3) (if_pos c4)))) dX1_silence_70
        · refine lv_iload hx hb dX1_silence_44 (lv_at hl 0 rfl) ?_
          exact m_ri hx hb hrt (rfl) hlk hR hS hQ (Eq.trans (if_neg c1) (Eq.trans (if_neg c2) (Eq.trans (if_neg c3) (if_neg c4)))) dX1_silence_46
      · refine lv_iconst (v := (-1)) hx hb dX1_silence_30 (by decide) ?_
        exact m_ri hx hb hrt (rfl) hlk hR hS hQ (Eq.trans (if_neg c1) (Eq.trans (if_neg c2) (if_pos c3))) dX1_silence_31
def m_go_j26_s0 (S : MS) (x1 : Int32) : Int32 := (if (S.1 31 (Int32.toNatClampNeg x1)) = 0 then 0 else 1)
def m_go (S : MS) (x1 : Int32) (x2 : Int32) : Int32 × MS := (if 0 ≤ (m_askedFor S x1).1 then ((m_go_j26_s0 S x1), (mu S 31 (Int32.toNatClampNeg x1) x2)) else ((m_askedFor S x1).1, (m_askedFor S x1).2))
set_option maxHeartbeats 4000000 in
theorem mt_go (l : Launch) (D : va_G) (d : Nat → ClassId) (A : Nat → Prop) (a : Nat → Nat) (S : MS) (x1 : Int32) (x2 : Int32) (hz_x2 : x2 = 0 ∨ x2 = 1) : MI l yX1_go cX1_go 5 .int (rm_ 3) D d A a S [.int x1, .int x2] (m_go S x1 x2) := by
  refine m_startI rfl (Nat.le_of_ble_eq_true rfl) ?_
  intro p e s m av below meth c ls Q X hrt hlk hl hR hQ
  have hx := X.1.1
  have hb := X.1.2.1
  have hown := X.1.2.2.2.1
  have hts := X.1.2.2.2.2
  have hS : va_S A s.heap s.heap [] := va_S.rf
  have hl : lv_has ls 5 [(0, .ref (a 0)), (1, .int x1), (2, .int x2)] := hl
  refine lv_aload_n hx hb dX1_go_0 rfl (lv_at hl 0 rfl) ?_
  refine lv_iload_n hx hb dX1_go_1 rfl (lv_at hl 1 rfl) ?_
  refine m_ci X hR hS (mt_askedFor l D d A a S x1) 1 (lw_V q1452 q1454 qs35 q59 q1455) ⟨rfl, rfl⟩ (by decide +kernel) ⟨by decide, by decide⟩ ⟨by decide, by decide⟩ rfl hl.1 rfl (Nat.le_of_ble_eq_true rfl) dX1_go_2 (fun H locs hR hS => ?_)
  refine lv_istore_n (lv' := [(3, .int ((m_askedFor S x1).1)), (0, .ref (a 0)), (1, .int x1), (2, .int x2)]) hx hb dX1_go_5 rfl hl (by decide) rfl (fun ls hl => ?_)
  refine lv_iload_n hx hb dX1_go_6 rfl (lv_at hl 0 rfl) ?_
  refine lv_if_ge (tgt := 12) hx hb dX1_go_7 (by decide) (fun c1 => ?_) (fun c1 => ?_)
  · have okc1 := m_askedFor_ok S x1 c1
    have hR : MR D d A a S H := okc1.1 ▸ hR
    have okc1_0 : 0 ≤ x1 ∧ x1 < 4 := okc1.2.1
    refine lv_aload_n hx hb dX1_go_12 rfl (lv_at hl 1 rfl) ?_
    refine mg_a X hR 31 (by decide) (by decide) q1168 dX1_go_13 ?_
    refine lv_iload_n hx hb dX1_go_16 rfl (lv_at hl 2 rfl) ?_
    refine m_zld X hR ⟨by decide, rfl, by decide⟩ (ixl 4 4 (by decide) rfl (okc1_0)) (v := S.1 31 (Int32.toNatClampNeg x1)) rfl dX1_go_17 ?_
    have J4 : ∀ (w3 : Int32) (H : Heap) (locs : List Loc) (ls : Array Slot), w3 = (m_go_j26_s0 S x1) → MR D d A a S H → va_S A s.heap H locs → lv_has ls 5 [(3, .int ((m_askedFor S x1).1)), (0, .ref (a 0)), (1, .int x1), (2, .int x2)] → W p l e (rm_ 3) s m av below meth c H locs 0 0 Q (F0 m 26 ls [.int w3]) := by
      intro w3 H locs ls ew3 hR hS hl
      subst ew3
      refine lv_istore (lv' := [(4, .int (m_go_j26_s0 S x1)), (3, .int ((m_askedFor S x1).1)), (0, .ref (a 0)), (1, .int x1), (2, .int x2)]) hx hb dX1_go_26 hl (by decide) rfl (fun ls hl => ?_)
      refine lv_aload_n hx hb dX1_go_28 rfl (lv_at hl 2 rfl) ?_
      refine mg_a X hR 31 (by decide) (by decide) q1168 dX1_go_29 ?_
      refine lv_iload_n hx hb dX1_go_32 rfl (lv_at hl 3 rfl) ?_
      refine lv_iload_n hx hb dX1_go_33 rfl (lv_at hl 4 rfl) ?_
      refine m_zst X hR hS ⟨by decide, rfl, by decide⟩ (ixl 4 4 (by decide) rfl (okc1_0)) (hz_x2) dX1_go_34 (fun H locs hR hS => ?_)
      refine lv_iload hx hb dX1_go_35 (lv_at hl 0 rfl) ?_
      exact m_ri hx hb hrt (rfl) hlk hR hS hQ (if_pos c1) dX1_go_37
    refine lv_if_eq (tgt := 25) hx hb dX1_go_18 (by decide) (fun c2 => ?_) (fun c2 => ?_)
    · refine lv_iconst (v := 0) hx hb dX1_go_25 (by decide) ?_
      exact J4 _ _ _  _ (Eq.symm (if_pos c2)) hR hS  (lv_sub hl [0, 1, 2, 3] rfl)
    · refine lv_iconst (v := 1) hx hb dX1_go_21 (by decide) ?_
      refine lv_goto (tgt := 26) hx hb dX1_go_22 (by decide) ?_
      exact J4 _ _ _  _ (Eq.symm (if_neg c2)) hR hS  (lv_sub hl [0, 1, 2, 3] rfl)
  · refine lv_iload_n hx hb dX1_go_10 rfl (lv_at hl 0 rfl) ?_
    exact m_ri hx hb hrt (rfl) hlk hR hS hQ (if_neg c1) dX1_go_11
def m_silenceOf_v19 (S : MS) (x1 : Int32) : Int32 := ((((S.1 33 (Int32.toNatClampNeg x1)) + 24) - (S.1 32 (Int32.toNatClampNeg x1))) - (((S.1 33 (Int32.toNatClampNeg x1)) + 24) - (S.1 32 (Int32.toNatClampNeg x1))) / 24 * 24)
def m_silenceOf_v42 (S : MS) (x1 : Int32) : Int32 := (((((S.1 27 (Int32.toNatClampNeg x1)) / 60) + 24) - (S.1 32 (Int32.toNatClampNeg x1))) - ((((S.1 27 (Int32.toNatClampNeg x1)) / 60) + 24) - (S.1 32 (Int32.toNatClampNeg x1))) / 24 * 24)
def m_silenceOf (S : MS) (x1 : Int32) : Int32 := (if (m_silenceOf_v19 S x1) ≤ (m_silenceOf_v42 S x1) then 0 else ((S.1 34 (Int32.toNatClampNeg x1)) + 1))
set_option maxHeartbeats 4000000 in
theorem mt_silenceOf (l : Launch) (D : va_G) (d : Nat → ClassId) (A : Nat → Prop) (a : Nat → Nat) (S : MS) (x1 : Int32) (ht : 0 ≤ x1 ∧ x1 < 4) : MI l yX1_silenceOf cX1_silenceOf 4 .int (rm_ 0) D d A a S [.int x1] ((m_silenceOf S x1), S) := by
  refine m_startI rfl (Nat.le_of_ble_eq_true rfl) ?_
  intro p e s m av below meth c ls Q X hrt hlk hl hR hQ
  have hx := X.1.1
  have hb := X.1.2.1
  have hown := X.1.2.2.2.1
  have hts := X.1.2.2.2.2
  have hS : va_S A s.heap s.heap [] := va_S.rf
  have hl : lv_has ls 4 [(0, .ref (a 0)), (1, .int x1)] := hl
  refine lv_aload_n hx hb dX1_silenceOf_0 rfl (lv_at hl 0 rfl) ?_
  refine mg_a X hR 33 (by decide) (by decide) q1170 dX1_silenceOf_1 ?_
  refine lv_iload_n hx hb dX1_silenceOf_4 rfl (lv_at hl 1 rfl) ?_
  refine m_ld X hR ⟨by decide, rfl, by decide⟩ (ixl 4 4 (by decide) rfl (ht)) (v := S.1 33 (Int32.toNatClampNeg x1)) rfl dX1_silenceOf_5 ?_
  refine lv_bipush (v := 24) hx hb dX1_silenceOf_6 (by decide) ?_
  refine lv_iadd hx hb dX1_silenceOf_8 ?_
  refine lv_aload_n hx hb dX1_silenceOf_9 rfl (lv_at hl 0 rfl) ?_
  refine mg_a X hR 32 (by decide) (by decide) q1169 dX1_silenceOf_10 ?_
  refine lv_iload_n hx hb dX1_silenceOf_13 rfl (lv_at hl 1 rfl) ?_
  refine m_ld X hR ⟨by decide, rfl, by decide⟩ (ixl 4 4 (by decide) rfl (ht)) (v := S.1 32 (Int32.toNatClampNeg x1)) rfl dX1_silenceOf_14 ?_
  refine lv_isub hx hb dX1_silenceOf_15 ?_
  refine lv_bipush (v := 24) hx hb dX1_silenceOf_16 (by decide) ?_
  refine lv_irem hx hb dX1_silenceOf_18 (by decide) ?_
  refine lv_istore_n (lv' := [(2, .int (m_silenceOf_v19 S x1)), (0, .ref (a 0)), (1, .int x1)]) hx hb dX1_silenceOf_19 rfl hl (by decide) rfl (fun ls hl => ?_)
  refine lv_aload_n hx hb dX1_silenceOf_20 rfl (lv_at hl 1 rfl) ?_
  refine mg_a X hR 27 (by decide) (by decide) q1164 dX1_silenceOf_21 ?_
  refine lv_iload_n hx hb dX1_silenceOf_24 rfl (lv_at hl 2 rfl) ?_
  refine m_ld X hR ⟨by decide, rfl, by decide⟩ (ixl 4 4 (by decide) rfl (ht)) (v := S.1 27 (Int32.toNatClampNeg x1)) rfl dX1_silenceOf_25 ?_
  refine lv_bipush (v := 60) hx hb dX1_silenceOf_26 (by decide) ?_
  refine lv_idiv hx hb dX1_silenceOf_28 (by decide) ?_
  refine lv_bipush (v := 24) hx hb dX1_silenceOf_29 (by decide) ?_
  refine lv_iadd hx hb dX1_silenceOf_31 ?_
  refine lv_aload_n hx hb dX1_silenceOf_32 rfl (lv_at hl 1 rfl) ?_
  refine mg_a X hR 32 (by decide) (by decide) q1169 dX1_silenceOf_33 ?_
  refine lv_iload_n hx hb dX1_silenceOf_36 rfl (lv_at hl 2 rfl) ?_
  refine m_ld X hR ⟨by decide, rfl, by decide⟩ (ixl 4 4 (by decide) rfl (ht)) (v := S.1 32 (Int32.toNatClampNeg x1)) rfl dX1_silenceOf_37 ?_
  refine lv_isub hx hb dX1_silenceOf_38 ?_
  refine lv_bipush (v := 24) hx hb dX1_silenceOf_39 (by decide) ?_
  refine lv_irem hx hb dX1_silenceOf_41 (by decide) ?_
  refine lv_istore_n (lv' := [(3, .int (m_silenceOf_v42 S x1)), (2, .int (m_silenceOf_v19 S x1)), (0, .ref (a 0)), (1, .int x1)]) hx hb dX1_silenceOf_42 rfl hl (by decide) rfl (fun ls hl => ?_)
  refine lv_iload_n hx hb dX1_silenceOf_43 rfl (lv_at hl 0 rfl) ?_
  refine lv_iload_n hx hb dX1_silenceOf_44 rfl (lv_at hl 1 rfl) ?_
  refine lv_icmp_ge (tgt := 59) hx hb dX1_silenceOf_45 (by decide) (fun c1 => ?_) (fun c1 => ?_)
  · refine lv_iconst (v := 0) hx hb dX1_silenceOf_59 (by decide) ?_
    exact m_ri hx hb hrt (rfl) hlk hR hS hQ (hF1 (if_pos c1)) dX1_silenceOf_60
  · refine lv_aload_n hx hb dX1_silenceOf_48 rfl (lv_at hl 2 rfl) ?_
    refine mg_a X hR 34 (by decide) (by decide) q1171 dX1_silenceOf_49 ?_
    refine lv_iload_n hx hb dX1_silenceOf_52 rfl (lv_at hl 3 rfl) ?_
    refine m_ld X hR ⟨by decide, rfl, by decide⟩ (ixl 4 4 (by decide) rfl (ht)) (v := S.1 34 (Int32.toNatClampNeg x1)) rfl dX1_silenceOf_53 ?_
    refine lv_iconst (v := 1) hx hb dX1_silenceOf_54 (by decide) ?_
    refine lv_iadd hx hb dX1_silenceOf_55 ?_
    refine lv_goto (tgt := 60) hx hb dX1_silenceOf_56 (by decide) ?_
    exact m_ri hx hb hrt (rfl) hlk hR hS hQ (hF1 (if_neg c1)) dX1_silenceOf_60
def m_hourNow (S : MS) (x1 : Int32) : Int32 := (m_hourOf (S.1 27 (Int32.toNatClampNeg x1)))
set_option maxHeartbeats 4000000 in
theorem mt_hourNow (l : Launch) (D : va_G) (d : Nat → ClassId) (A : Nat → Prop) (a : Nat → Nat) (S : MS) (x1 : Int32) (ht : 0 ≤ x1 ∧ x1 < 4) : MI l yX1_hourNow cX1_hourNow 2 .int (rm_ 1) D d A a S [.int x1] ((m_hourNow S x1), S) := by
  refine m_startI rfl (Nat.le_of_ble_eq_true rfl) ?_
  intro p e s m av below meth c ls Q X hrt hlk hl hR hQ
  have hx := X.1.1
  have hb := X.1.2.1
  have hown := X.1.2.2.2.1
  have hts := X.1.2.2.2.2
  have hS : va_S A s.heap s.heap [] := va_S.rf
  have hl : lv_has ls 2 [(0, .ref (a 0)), (1, .int x1)] := hl
  refine lv_aload_n hx hb dX1_hourNow_0 rfl (lv_at hl 0 rfl) ?_
  refine mg_a X hR 27 (by decide) (by decide) q1164 dX1_hourNow_1 ?_
  refine lv_iload_n hx hb dX1_hourNow_4 rfl (lv_at hl 1 rfl) ?_
  refine m_ld X hR ⟨by decide, rfl, by decide⟩ (ixl 4 4 (by decide) rfl (ht)) (v := S.1 27 (Int32.toNatClampNeg x1)) rfl dX1_hourNow_5 ?_
  refine s_ci X.1 (st_m_hourOf l (S.1 27 (Int32.toNatClampNeg x1))) 1 (lw_S q1488 q1489 q59 q1490) ⟨rfl, rfl⟩ (by decide +kernel) ⟨by decide, by decide⟩ ⟨by decide, by decide⟩ rfl hl.1 rfl (Nat.le_of_ble_eq_true rfl) dX1_hourNow_6 ?_
  exact m_ri hx hb hrt (rfl) hlk hR hS hQ (hF1 rfl) dX1_hourNow_9
def m_quarterNow_v12 (S : MS) (x1 : Int32) : Int32 := (((S.1 27 (Int32.toNatClampNeg x1)) - (S.1 27 (Int32.toNatClampNeg x1)) / 60 * 60) / 15)
def m_quarterNow (S : MS) (x1 : Int32) : Int32 := (if (m_quarterNow_v12 S x1) = 0 then 4 else (m_quarterNow_v12 S x1))
set_option maxHeartbeats 4000000 in
theorem mt_quarterNow (l : Launch) (D : va_G) (d : Nat → ClassId) (A : Nat → Prop) (a : Nat → Nat) (S : MS) (x1 : Int32) (ht : 0 ≤ x1 ∧ x1 < 4) : MI l yX1_quarterNow cX1_quarterNow 3 .int (rm_ 0) D d A a S [.int x1] ((m_quarterNow S x1), S) := by
  refine m_startI rfl (Nat.le_of_ble_eq_true rfl) ?_
  intro p e s m av below meth c ls Q X hrt hlk hl hR hQ
  have hx := X.1.1
  have hb := X.1.2.1
  have hown := X.1.2.2.2.1
  have hts := X.1.2.2.2.2
  have hS : va_S A s.heap s.heap [] := va_S.rf
  have hl : lv_has ls 3 [(0, .ref (a 0)), (1, .int x1)] := hl
  refine lv_aload_n hx hb dX1_quarterNow_0 rfl (lv_at hl 0 rfl) ?_
  refine mg_a X hR 27 (by decide) (by decide) q1164 dX1_quarterNow_1 ?_
  refine lv_iload_n hx hb dX1_quarterNow_4 rfl (lv_at hl 1 rfl) ?_
  refine m_ld X hR ⟨by decide, rfl, by decide⟩ (ixl 4 4 (by decide) rfl (ht)) (v := S.1 27 (Int32.toNatClampNeg x1)) rfl dX1_quarterNow_5 ?_
  refine lv_bipush (v := 60) hx hb dX1_quarterNow_6 (by decide) ?_
  refine lv_irem hx hb dX1_quarterNow_8 (by decide) ?_
  refine lv_bipush (v := 15) hx hb dX1_quarterNow_9 (by decide) ?_
  refine lv_idiv hx hb dX1_quarterNow_11 (by decide) ?_
  refine lv_istore_n (lv' := [(2, .int (m_quarterNow_v12 S x1)), (0, .ref (a 0)), (1, .int x1)]) hx hb dX1_quarterNow_12 rfl hl (by decide) rfl (fun ls hl => ?_)
  refine lv_iload_n hx hb dX1_quarterNow_13 rfl (lv_at hl 0 rfl) ?_
  refine lv_if_ne (tgt := 21) hx hb dX1_quarterNow_14 (by decide) (fun c1 => ?_) (fun c1 => ?_)
  · refine lv_iload_n hx hb dX1_quarterNow_21 rfl (lv_at hl 0 rfl) ?_
    exact m_ri hx hb hrt (rfl) hlk hR hS hQ (hF1 (if_neg c1)) dX1_quarterNow_22
  · refine lv_iconst (v := 4) hx hb dX1_quarterNow_17 (by decide) ?_
    refine lv_goto (tgt := 22) hx hb dX1_quarterNow_18 (by decide) ?_
    exact m_ri hx hb hrt (rfl) hlk hR hS hQ (hF1 (if_pos c1)) dX1_quarterNow_22
def m_nextHour (S : MS) (x1 : Int32) : Int32 := (m_hourOf (((S.1 27 (Int32.toNatClampNeg x1)) + 60) - ((S.1 27 (Int32.toNatClampNeg x1)) + 60) / 1440 * 1440))
set_option maxHeartbeats 4000000 in
theorem mt_nextHour (l : Launch) (D : va_G) (d : Nat → ClassId) (A : Nat → Prop) (a : Nat → Nat) (S : MS) (x1 : Int32) (ht : 0 ≤ x1 ∧ x1 < 4) : MI l yX1_nextHour cX1_nextHour 2 .int (rm_ 1) D d A a S [.int x1] ((m_nextHour S x1), S) := by
  refine m_startI rfl (Nat.le_of_ble_eq_true rfl) ?_
  intro p e s m av below meth c ls Q X hrt hlk hl hR hQ
  have hx := X.1.1
  have hb := X.1.2.1
  have hown := X.1.2.2.2.1
  have hts := X.1.2.2.2.2
  have hS : va_S A s.heap s.heap [] := va_S.rf
  have hl : lv_has ls 2 [(0, .ref (a 0)), (1, .int x1)] := hl
  refine lv_aload_n hx hb dX1_nextHour_0 rfl (lv_at hl 0 rfl) ?_
  refine mg_a X hR 27 (by decide) (by decide) q1164 dX1_nextHour_1 ?_
  refine lv_iload_n hx hb dX1_nextHour_4 rfl (lv_at hl 1 rfl) ?_
  refine m_ld X hR ⟨by decide, rfl, by decide⟩ (ixl 4 4 (by decide) rfl (ht)) (v := S.1 27 (Int32.toNatClampNeg x1)) rfl dX1_nextHour_5 ?_
  refine lv_bipush (v := 60) hx hb dX1_nextHour_6 (by decide) ?_
  refine lv_iadd hx hb dX1_nextHour_8 ?_
  refine lv_sipush (v := 1440) hx hb dX1_nextHour_9 (by decide) ?_
  refine lv_irem hx hb dX1_nextHour_12 (by decide) ?_
  refine s_ci X.1 (st_m_hourOf l (((S.1 27 (Int32.toNatClampNeg x1)) + 60) - ((S.1 27 (Int32.toNatClampNeg x1)) + 60) / 1440 * 1440)) 1 (lw_S q1488 q1489 q59 q1490) ⟨rfl, rfl⟩ (by decide +kernel) ⟨by decide, by decide⟩ ⟨by decide, by decide⟩ rfl hl.1 rfl (Nat.le_of_ble_eq_true rfl) dX1_nextHour_13 ?_
  exact m_ri hx hb hrt (rfl) hlk hR hS hQ (hF1 rfl) dX1_nextHour_16
theorem m_towerTells_o7 (x1 : Int32) (x2 : Int32) (ht : 0 ≤ x1 ∧ x1 < 4) (c1 : ¬ x2 = 0) (c2 : ¬ x2 = 1) (c3 : ¬ x2 = 2) (c4 : ¬ x2 = 3) (c6 : x2 = 4) : 0 ≤ (2 * x1) ∧ (2 * x1) < 8 := by 
  try simp only [i_le, i_lt, i_eq, Int32.reduceToInt] at *
  first | (have e_0 := m32 (x := 2) (y := x1) (by (try simp only [Int32.reduceToInt]); omega); (try simp only [Int32.reduceToInt] at e_0)) | skip
  try simp only [Int32.reduceToInt] at *
  omega
theorem m_towerTells_o9 (x1 : Int32) (x2 : Int32) (ht : 0 ≤ x1 ∧ x1 < 4) (c1 : ¬ x2 = 0) (c2 : ¬ x2 = 1) (c3 : ¬ x2 = 2) (c4 : ¬ x2 = 3) (c6 : ¬ x2 = 4) (c8 : x2 = 5) : 0 ≤ ((2 * x1) + 1) ∧ ((2 * x1) + 1) < 8 := by 
  try simp only [i_le, i_lt, i_eq, Int32.reduceToInt] at *
  first | (have e_0 := m32 (x := 2) (y := x1) (by (try simp only [Int32.reduceToInt]); omega); (try simp only [Int32.reduceToInt] at e_0)) | skip
  first | (have e_1 := a32 (x := (2 * x1)) (y := 1) (by (try simp only [Int32.reduceToInt]); omega); (try simp only [Int32.reduceToInt] at e_1)) | skip
  try simp only [Int32.reduceToInt] at *
  omega
theorem m_towerTells_o11 (x1 : Int32) (x2 : Int32) (ht : 0 ≤ x1 ∧ x1 < 4) (c1 : ¬ x2 = 0) (c2 : ¬ x2 = 1) (c3 : ¬ x2 = 2) (c4 : ¬ x2 = 3) (c6 : ¬ x2 = 4) (c8 : ¬ x2 = 5) (c10 : x2 = 6) : 0 ≤ (2 * x1) ∧ (2 * x1) < 8 := by 
  try simp only [i_le, i_lt, i_eq, Int32.reduceToInt] at *
  first | (have e_0 := m32 (x := 2) (y := x1) (by (try simp only [Int32.reduceToInt]); omega); (try simp only [Int32.reduceToInt] at e_0)) | skip
  try simp only [Int32.reduceToInt] at *
  omega
theorem m_towerTells_o14 (x1 : Int32) (x2 : Int32) (ht : 0 ≤ x1 ∧ x1 < 4) (c1 : ¬ x2 = 0) (c2 : ¬ x2 = 1) (c3 : ¬ x2 = 2) (c4 : ¬ x2 = 3) (c6 : ¬ x2 = 4) (c8 : ¬ x2 = 5) (c10 : ¬ x2 = 6) (c13 : x2 = 7) : 0 ≤ ((2 * x1) + 1) ∧ ((2 * x1) + 1) < 8 := by 
  try simp only [i_le, i_lt, i_eq, Int32.reduceToInt] at *
  first | (have e_0 := m32 (x := 2) (y := x1) (by (try simp only [Int32.reduceToInt]); omega); (try simp only [Int32.reduceToInt] at e_0)) | skip
  first | (have e_1 := a32 (x := (2 * x1)) (y := 1) (by (try simp only [Int32.reduceToInt]); omega); (try simp only [Int32.reduceToInt] at e_1)) | skip
  try simp only [Int32.reduceToInt] at *
  omega
def m_towerTells (S : MS) (x1 : Int32) (x2 : Int32) : Int32 := (if x2 = 0 then (S.1 27 (Int32.toNatClampNeg x1)) else (if x2 = 1 then (S.1 30 (Int32.toNatClampNeg x1)) else (if x2 = 2 then (S.1 29 (Int32.toNatClampNeg x1)) else (if x2 = 3 then (if (S.1 31 (Int32.toNatClampNeg x1)) = 0 then 0 else 1) else (if x2 = 4 then (S.1 35 (Int32.toNatClampNeg (2 * x1))) else (if x2 = 5 then (S.1 35 (Int32.toNatClampNeg ((2 * x1) + 1))) else (if x2 = 6 then (if (S.1 36 (Int32.toNatClampNeg (2 * x1))) = 0 then 0 else 1) else (if x2 = 7 then (if (S.1 36 (Int32.toNatClampNeg ((2 * x1) + 1))) = 0 then 0 else 1) else (m_silenceOf S x1)))))))))
set_option maxHeartbeats 4000000 in
theorem mt_towerTells (l : Launch) (D : va_G) (d : Nat → ClassId) (A : Nat → Prop) (a : Nat → Nat) (S : MS) (x1 : Int32) (x2 : Int32) (ht : 0 ≤ x1 ∧ x1 < 4) : MI l yX1_towerTells cX1_towerTells 3 .int (rm_ 1) D d A a S [.int x1, .int x2] ((m_towerTells S x1 x2), S) := by
  refine m_startI rfl (Nat.le_of_ble_eq_true rfl) ?_
  intro p e s m av below meth c ls Q X hrt hlk hl hR hQ
  have hx := X.1.1
  have hb := X.1.2.1
  have hown := X.1.2.2.2.1
  have hts := X.1.2.2.2.2
  have hS : va_S A s.heap s.heap [] := va_S.rf
  have hl : lv_has ls 3 [(0, .ref (a 0)), (1, .int x1), (2, .int x2)] := hl
  refine lv_iload_n hx hb dX1_towerTells_0 rfl (lv_at hl 2 rfl) ?_
  by_cases c1 : x2 = 0
  · refine lv_tableIn (off := 47) (tgt := 48) hx hb dX1_towerTells_1 (by rw [c1]; decide) (by rw [c1]; decide) (by rw [c1]; rfl) (by decide) ?_
    refine lv_aload_n hx hb dX1_towerTells_48 rfl (lv_at hl 0 rfl) ?_
    refine mg_a X hR 27 (by decide) (by decide) q1164 dX1_towerTells_49 ?_
    refine lv_iload_n hx hb dX1_towerTells_52 rfl (lv_at hl 1 rfl) ?_
    refine m_ld X hR ⟨by decide, rfl, by decide⟩ (ixl 4 4 (by decide) rfl (ht)) (v := S.1 27 (Int32.toNatClampNeg x1)) rfl dX1_towerTells_53 ?_
    exact m_ri hx hb hrt (rfl) hlk hR hS hQ (hF1 (if_pos c1)) dX1_towerTells_54
  · by_cases c2 : x2 = 1
    · refine lv_tableIn (off := 54) (tgt := 55) hx hb dX1_towerTells_1 (by rw [c2]; decide) (by rw [c2]; decide) (by rw [c2]; rfl) (by decide) ?_
      refine lv_aload_n hx hb dX1_towerTells_55 rfl (lv_at hl 0 rfl) ?_
      refine mg_a X hR 30 (by decide) (by decide) q1167 dX1_towerTells_56 ?_
      refine lv_iload_n hx hb dX1_towerTells_59 rfl (lv_at hl 1 rfl) ?_
      refine m_ld X hR ⟨by decide, rfl, by decide⟩ (ixl 4 4 (by decide) rfl (ht)) (v := S.1 30 (Int32.toNatClampNeg x1)) rfl dX1_towerTells_60 ?_
      exact m_ri hx hb hrt (rfl) hlk hR hS hQ (hF1 (Eq.trans (if_neg c1) (if_pos c2))) dX1_towerTells_61
    · by_cases c3 : x2 = 2
      · refine lv_tableIn (off := 61) (tgt := 62) hx hb dX1_towerTells_1 (by rw [c3]; decide) (by rw [c3]; decide) (by rw [c3]; rfl) (by decide) ?_
        refine lv_aload_n hx hb dX1_towerTells_62 rfl (lv_at hl 0 rfl) ?_
        refine mg_a X hR 29 (by decide) (by decide) q1166 dX1_towerTells_63 ?_
        refine lv_iload_n hx hb dX1_towerTells_66 rfl (lv_at hl 1 rfl) ?_
        refine m_ld X hR ⟨by decide, rfl, by decide⟩ (ixl 4 4 (by decide) rfl (ht)) (v := S.1 29 (Int32.toNatClampNeg x1)) rfl dX1_towerTells_67 ?_
        exact m_ri hx hb hrt (rfl) hlk hR hS hQ (hF1 (Eq.trans (if_neg c1) (Eq.trans (if_neg c2) (if_pos c3)))) dX1_towerTells_68
      · by_cases c4 : x2 = 3
        · refine lv_tableIn (off := 68) (tgt := 69) hx hb dX1_towerTells_1 (by rw [c4]; decide) (by rw [c4]; decide) (by rw [c4]; rfl) (by decide) ?_
          refine lv_aload_n hx hb dX1_towerTells_69 rfl (lv_at hl 0 rfl) ?_
          refine mg_a X hR 31 (by decide) (by decide) q1168 dX1_towerTells_70 ?_
          refine lv_iload_n hx hb dX1_towerTells_73 rfl (lv_at hl 1 rfl) ?_
          refine m_zld X hR ⟨by decide, rfl, by decide⟩ (ixl 4 4 (by decide) rfl (ht)) (v := S.1 31 (Int32.toNatClampNeg x1)) rfl dX1_towerTells_74 ?_
          refine lv_if_eq (tgt := 82) hx hb dX1_towerTells_75 (by decide) (fun c5 => ?_) (fun c5 => ?_)
          · refine lv_iconst (v := 0) hx hb dX1_towerTells_82 (by decide) ?_
            exact m_ri hx hb hrt (rfl) hlk hR hS hQ (hF1 (Eq.trans (if_neg c1) (Eq.trans (if_neg c2) (Eq.trans (if_neg c3) (Eq.trans (if_pos c4) (if_pos c5)))))) dX1_towerTells_83
          · refine lv_iconst (v := 1) hx hb dX1_towerTells_78 (by decide) ?_
            refine lv_goto (tgt := 83) hx hb dX1_towerTells_79 (by decide) ?_
            exact m_ri hx hb hrt (rfl) hlk hR hS hQ (hF1 (Eq.trans (if_neg c1) (Eq.trans (if_neg c2) (Eq.trans (if_neg c3) (Eq.trans (if_pos c4) (if_neg c5)))))) dX1_towerTells_83
        · by_cases c6 : x2 = 4
          · refine lv_tableIn (off := 83) (tgt := 84) hx hb dX1_towerTells_1 (by rw [c6]; decide) (by rw [c6]; decide) (by rw [c6]; rfl) (by decide) ?_
            refine lv_aload_n hx hb dX1_towerTells_84 rfl (lv_at hl 0 rfl) ?_
            refine mg_a X hR 35 (by decide) (by decide) q1172 dX1_towerTells_85 ?_
            refine lv_iconst (v := 2) hx hb dX1_towerTells_88 (by decide) ?_
            refine lv_iload_n hx hb dX1_towerTells_89 rfl (lv_at hl 1 rfl) ?_
            refine lv_imul hx hb dX1_towerTells_90 ?_
            refine m_ld X hR ⟨by decide, rfl, by decide⟩ (ixl 8 8 (by decide) rfl (m_towerTells_o7 x1 x2 ht c1 c2 c3 c4 c6)) (v := S.1 35 (Int32.toNatClampNeg (2 * x1))) rfl dX1_towerTells_91 ?_
            exact m_ri hx hb hrt (rfl) hlk hR hS hQ (hF1 (Eq.trans (if_neg c1) (Eq.trans (if_neg c2) (Eq.trans (if_neg c3) (Eq.trans (if_neg c4) (if_pos c6)))))) dX1_towerTells_92
          · by_cases c8 : x2 = 5
            · refine lv_tableIn (off := 92) (tgt := 93) hx hb dX1_towerTells_1 (by rw [c8]; decide) (by rw [c8]; decide) (by rw [c8]; rfl) (by decide) ?_
              refine lv_aload_n hx hb dX1_towerTells_93 rfl (lv_at hl 0 rfl) ?_
              refine mg_a X hR 35 (by decide) (by decide) q1172 dX1_towerTells_94 ?_
              refine lv_iconst (v := 2) hx hb dX1_towerTells_97 (by decide) ?_
              refine lv_iload_n hx hb dX1_towerTells_98 rfl (lv_at hl 1 rfl) ?_
              refine lv_imul hx hb dX1_towerTells_99 ?_
              refine lv_iconst (v := 1) hx hb dX1_towerTells_100 (by decide) ?_
              refine lv_iadd hx hb dX1_towerTells_101 ?_
              refine m_ld X hR ⟨by decide, rfl, by decide⟩ (ixl 8 8 (by decide) rfl (m_towerTells_o9 x1 x2 ht c1 c2 c3 c4 c6 c8)) (v := S.1 35 (Int32.toNatClampNeg ((2 * x1) + 1))) rfl dX1_towerTells_102 ?_
              exact m_ri hx hb hrt (rfl) hlk hR hS hQ (hF1 (Eq.trans (if_neg c1) (Eq.trans (if_neg c2) (Eq.trans (if_neg c3) (Eq.trans (if_neg c4) (Eq.trans (if_neg c6) (if_pos c8))))))) dX1_towerTells_103
            · by_cases c10 : x2 = 6
              · refine lv_tableIn (off := 103) (tgt := 104) hx hb dX1_towerTells_1 (by rw [c10]; decide) (by rw [c10]; decide) (by rw [c10]; rfl) (by decide) ?_
                refine lv_aload_n hx hb dX1_towerTells_104 rfl (lv_at hl 0 rfl) ?_
                refine mg_a X hR 36 (by decide) (by decide) q1173 dX1_towerTells_105 ?_
                refine lv_iconst (v := 2) hx hb dX1_towerTells_108 (by decide) ?_
                refine lv_iload_n hx hb dX1_towerTells_109 rfl (lv_at hl 1 rfl) ?_
                refine lv_imul hx hb dX1_towerTells_110 ?_
                refine m_zld X hR ⟨by decide, rfl, by decide⟩ (ixl 8 8 (by decide) rfl (m_towerTells_o11 x1 x2 ht c1 c2 c3 c4 c6 c8 c10)) (v := S.1 36 (Int32.toNatClampNeg (2 * x1))) rfl dX1_towerTells_111 ?_
                refine lv_if_eq (tgt := 119) hx hb dX1_towerTells_112 (by decide) (fun c12 => ?_) (fun c12 => ?_)
                · refine lv_iconst (v := 0) hx hb dX1_towerTells_119 (by decide) ?_
                  exact m_ri hx hb hrt (rfl) hlk hR hS hQ (hF1 (Eq.trans (if_neg c1) (Eq.trans (if_neg c2) (Eq.trans (if_neg c3) (Eq.trans (if_neg c4) (Eq.trans (if_neg c6) (Eq.trans (if_neg c8) (Eq.trans (if_pos c10) (if_pos c12))))))))) dX1_towerTells_120
                · refine lv_iconst (v := 1) hx hb dX1_towerTells_115 (by decide) ?_
                  refine lv_goto (tgt := 120) hx hb dX1_towerTells_116 (by decide) ?_
                  exact m_ri hx hb hrt (rfl) hlk hR hS hQ (hF1 (Eq.trans (if_neg c1) (Eq.trans (if_neg c2) (Eq.trans (if_neg c3) (Eq.trans (if_neg c4) (Eq.trans (if_neg c6) (Eq.trans (if_neg c8) (Eq.trans (if_pos c10) (if_neg c12))))))))) dX1_towerTells_120
              · by_cases c13 : x2 = 7
                · refine lv_tableIn (off := 120) (tgt := 121) hx hb dX1_towerTells_1 (by rw [c13]; decide) (by rw [c13]; decide) (by rw [c13]; rfl) (by decide) ?_
                  refine lv_aload_n hx hb dX1_towerTells_121 rfl (lv_at hl 0 rfl) ?_
                  refine mg_a X hR 36 (by decide) (by decide) q1173 dX1_towerTells_122 ?_
                  refine lv_iconst (v := 2) hx hb dX1_towerTells_125 (by decide) ?_
                  refine lv_iload_n hx hb dX1_towerTells_126 rfl (lv_at hl 1 rfl) ?_
                  refine lv_imul hx hb dX1_towerTells_127 ?_
                  refine lv_iconst (v := 1) hx hb dX1_towerTells_128 (by decide) ?_
                  refine lv_iadd hx hb dX1_towerTells_129 ?_
                  refine m_zld X hR ⟨by decide, rfl, by decide⟩ (ixl 8 8 (by decide) rfl (m_towerTells_o14 x1 x2 ht c1 c2 c3 c4 c6 c8 c10 c13)) (v := S.1 36 (Int32.toNatClampNeg ((2 * x1) + 1))) rfl dX1_towerTells_130 ?_
                  refine lv_if_eq (tgt := 138) hx hb dX1_towerTells_131 (by decide) (fun c15 => ?_) (fun c15 => ?_)
                  · refine lv_iconst (v := 0) hx hb dX1_towerTells_138 (by decide) ?_
                    exact m_ri hx hb hrt (rfl) hlk hR hS hQ (hF1 (Eq.trans (if_neg c1) (Eq.trans (if_neg c2) (Eq.trans (if_neg c3) (Eq.trans (if_neg c4) (Eq.trans (if_neg c6) (Eq.trans (if_neg c8) (Eq.trans (if_neg c10) (Eq.trans (if_pos c13) (if_pos c15)))))))))) dX1_towerTells_139
                  · refine lv_iconst (v := 1) hx hb dX1_towerTells_134 (by decide) ?_
                    refine lv_goto (tgt := 139) hx hb dX1_towerTells_135 (by decide) ?_
                    exact m_ri hx hb hrt (rfl) hlk hR hS hQ (hF1 (Eq.trans (if_neg c1) (Eq.trans (if_neg c2) (Eq.trans (if_neg c3) (Eq.trans (if_neg c4) (Eq.trans (if_neg c6) (Eq.trans (if_neg c8) (Eq.trans (if_neg c10) (Eq.trans (if_pos c13) (if_neg c15)))))))))) dX1_towerTells_139
                · refine lv_tableOut (tgt := 140) hx hb dX1_towerTells_1 (sw_out _ _ _ (fun k hk => by match k, hk with | 0, _ => exact c1 | 1, _ => exact c2 | 2, _ => exact c3 | 3, _ => exact c4 | 4, _ => exact c6 | 5, _ => exact c8 | 6, _ => exact c10 | 7, _ => exact c13)) (by decide) ?_
                  refine lv_aload_n hx hb dX1_towerTells_140 rfl (lv_at hl 0 rfl) ?_
                  refine lv_iload_n hx hb dX1_towerTells_141 rfl (lv_at hl 1 rfl) ?_
                  refine m_cr X hR hS (mt_silenceOf l D d A a S x1 (ht)) 1 (lw_V q1472 q1474 qs38 q59 q1475) ⟨rfl, rfl⟩ (by decide +kernel) ⟨by decide, by decide⟩ ⟨by decide, by decide⟩ rfl hl.1 rfl (Nat.le_of_ble_eq_true rfl) dX1_towerTells_142 (fun H locs hR hS => ?_)
                  exact m_ri hx hb hrt (rfl) hlk hR hS hQ (hF1 (Eq.trans (if_neg c1) (Eq.trans (if_neg c2) (Eq.trans (if_neg c3) (Eq.trans (if_neg c4) (Eq.trans (if_neg c6) (Eq.trans (if_neg c8) (Eq.trans (if_neg c10) (if_neg c13))))))))) dX1_towerTells_145
def m_tells (S : MS) (x1 : Int32) (x2 : Int32) : Int32 × MS := (if (m_in x2 0 8) = 0 then ((-1), S) else (if 0 ≤ (m_askedFor S x1).1 then ((m_towerTells S x1 x2), S) else ((m_askedFor S x1).1, (m_askedFor S x1).2)))
set_option maxHeartbeats 4000000 in
theorem mt_tells (l : Launch) (D : va_G) (d : Nat → ClassId) (A : Nat → Prop) (a : Nat → Nat) (S : MS) (x1 : Int32) (x2 : Int32) : MI l yX1_tells cX1_tells 4 .int (rm_ 3) D d A a S [.int x1, .int x2] (m_tells S x1 x2) := by
  refine m_startI rfl (Nat.le_of_ble_eq_true rfl) ?_
  intro p e s m av below meth c ls Q X hrt hlk hl hR hQ
  have hx := X.1.1
  have hb := X.1.2.1
  have hown := X.1.2.2.2.1
  have hts := X.1.2.2.2.2
  have hS : va_S A s.heap s.heap [] := va_S.rf
  have hl : lv_has ls 4 [(0, .ref (a 0)), (1, .int x1), (2, .int x2)] := hl
  refine lv_iload_n hx hb dX1_tells_0 rfl (lv_at hl 2 rfl) ?_
  refine lv_iconst (v := 0) hx hb dX1_tells_1 (by decide) ?_
  refine lv_bipush (v := 8) hx hb dX1_tells_2 (by decide) ?_
  refine s_ci X.1 (st_m_in l x2 0 8) 3 (lw_S q1314 q1315 q59 q1316) ⟨rfl, rfl⟩ (by decide +kernel) ⟨by decide, by decide⟩ ⟨by decide, by decide⟩ rfl hl.1 rfl (Nat.le_of_ble_eq_true rfl) dX1_tells_4 ?_
  refine lv_if_ne (tgt := 12) hx hb dX1_tells_7 (by decide) (fun c1 => ?_) (fun c1 => ?_)
  · refine lv_aload_n hx hb dX1_tells_12 rfl (lv_at hl 0 rfl) ?_
    refine lv_iload_n hx hb dX1_tells_13 rfl (lv_at hl 1 rfl) ?_
    refine m_ci X hR hS (mt_askedFor l D d A a S x1) 1 (lw_V q1452 q1454 qs35 q59 q1455) ⟨rfl, rfl⟩ (by decide +kernel) ⟨by decide, by decide⟩ ⟨by decide, by decide⟩ rfl hl.1 rfl (Nat.le_of_ble_eq_true rfl) dX1_tells_14 (fun H locs hR hS => ?_)
    refine lv_istore_n (lv' := [(3, .int ((m_askedFor S x1).1)), (0, .ref (a 0)), (1, .int x1), (2, .int x2)]) hx hb dX1_tells_17 rfl hl (by decide) rfl (fun ls hl => ?_)
    refine lv_iload_n hx hb dX1_tells_18 rfl (lv_at hl 0 rfl) ?_
    refine lv_if_ge (tgt := 26) hx hb dX1_tells_19 (by decide) (fun c2 => ?_) (fun c2 => ?_)
    · have okc2 := m_askedFor_ok S x1 c2
      have hR : MR D d A a S H := okc2.1 ▸ hR
      have okc2_0 : 0 ≤ x1 ∧ x1 < 4 := okc2.2.1
      refine lv_aload_n hx hb dX1_tells_26 rfl (lv_at hl 1 rfl) ?_
      refine lv_iload_n hx hb dX1_tells_27 rfl (lv_at hl 2 rfl) ?_
      refine lv_iload_n hx hb dX1_tells_28 rfl (lv_at hl 3 rfl) ?_
      refine m_cr X hR hS (mt_towerTells l D d A a S x1 x2 (okc2_0)) 2 (lw_V q1542 q1544 qs45 q59 q1545) ⟨rfl, rfl⟩ (by decide +kernel) ⟨by decide, by decide⟩ ⟨by decide, by decide⟩ rfl hl.1 rfl (Nat.le_of_ble_eq_true rfl) dX1_tells_29 (fun H locs hR hS => ?_)
      exact m_ri hx hb hrt (rfl) hlk hR hS hQ (Eq.trans (if_neg c1) (if_pos c2)) dX1_tells_32
    · refine lv_iload_n hx hb dX1_tells_22 rfl (lv_at hl 0 rfl) ?_
      refine lv_goto (tgt := 32) hx hb dX1_tells_23 (by decide) ?_
      exact m_ri hx hb hrt (rfl) hlk hR hS hQ (Eq.trans (if_neg c1) (if_neg c2)) dX1_tells_32
  · refine lv_iconst (v := (-1)) hx hb dX1_tells_10 (by decide) ?_
    exact m_ri hx hb hrt (rfl) hlk hR hS hQ (if_pos c1) dX1_tells_11
theorem m_log_o4 (S : MS) (x1 : Int32) (x2 : Int32) (x3 : Int32) (hI : MInv S) (htt : 0 ≤ x1 ∧ x1 < 4 → 0 ≤ S.1 37 (Int32.toNatClampNeg x1) ∧ S.1 37 (Int32.toNatClampNeg x1) ≤ 60) (c1 : ¬ (m_in x3 0 3) = 0) (c2 : 0 ≤ (m_askedFor S x1).1) (okc2_0 : 0 ≤ x1 ∧ x1 < 4) (c3 : ¬ (m_in x2 0 ((S.1 37 (Int32.toNatClampNeg x1)) - 1)) = 0) : 0 ≤ (((240 * x1) + (4 * (((S.1 37 (Int32.toNatClampNeg x1)) - 1) - x2))) + x3) ∧ (((240 * x1) + (4 * (((S.1 37 (Int32.toNatClampNeg x1)) - 1) - x2))) + x3) < 960 := by 
  clear hI
  try simp only [m_in_eq] at *
  try simp only [i_le, i_lt, i_eq, Int32.reduceToInt] at *
  first | (have e_0 := s32 (x := (S.1 37 (Int32.toNatClampNeg x1))) (y := 1) (by (try simp only [Int32.reduceToInt]); omega); (try simp only [Int32.reduceToInt] at e_0)) | skip
  first | (have e_1 := m32 (x := 240) (y := x1) (by (try simp only [Int32.reduceToInt]); omega); (try simp only [Int32.reduceToInt] at e_1)) | skip
  first | (have e_2 := s32 (x := ((S.1 37 (Int32.toNatClampNeg x1)) - 1)) (y := x2) (by (try simp only [Int32.reduceToInt]); omega); (try simp only [Int32.reduceToInt] at e_2)) | skip
  first | (have e_3 := m32 (x := 4) (y := (((S.1 37 (Int32.toNatClampNeg x1)) - 1) - x2)) (by (try simp only [Int32.reduceToInt]); omega); (try simp only [Int32.reduceToInt] at e_3)) | skip
  first | (have e_4 := a32 (x := (240 * x1)) (y := (4 * (((S.1 37 (Int32.toNatClampNeg x1)) - 1) - x2))) (by (try simp only [Int32.reduceToInt]); omega); (try simp only [Int32.reduceToInt] at e_4)) | skip
  first | (have e_5 := a32 (x := ((240 * x1) + (4 * (((S.1 37 (Int32.toNatClampNeg x1)) - 1) - x2)))) (y := x3) (by (try simp only [Int32.reduceToInt]); omega); (try simp only [Int32.reduceToInt] at e_5)) | skip
  try simp only [Int32.reduceToInt] at *
  omega
def m_log (S : MS) (x1 : Int32) (x2 : Int32) (x3 : Int32) : Int32 × MS := (if (m_in x3 0 3) = 0 then ((-1), S) else (if 0 ≤ (m_askedFor S x1).1 then (if (m_in x2 0 ((S.1 37 (Int32.toNatClampNeg x1)) - 1)) = 0 then ((-9), S) else ((S.1 38 (Int32.toNatClampNeg (((240 * x1) + (4 * (((S.1 37 (Int32.toNatClampNeg x1)) - 1) - x2))) + x3))), S)) else ((m_askedFor S x1).1, (m_askedFor S x1).2)))
set_option maxHeartbeats 4000000 in
theorem mt_log (l : Launch) (D : va_G) (d : Nat → ClassId) (A : Nat → Prop) (a : Nat → Nat) (S : MS) (x1 : Int32) (x2 : Int32) (x3 : Int32) (hI : MInv S) : MI l yX1_log cX1_log 5 .int (rm_ 3) D d A a S [.int x1, .int x2, .int x3] (m_log S x1 x2 x3) := by
  refine m_startI rfl (Nat.le_of_ble_eq_true rfl) ?_
  intro p e s m av below meth c ls Q X hrt hlk hl hR hQ
  have hx := X.1.1
  have hb := X.1.2.1
  have hown := X.1.2.2.2.1
  have hts := X.1.2.2.2.2
  have hS : va_S A s.heap s.heap [] := va_S.rf
  have hl : lv_has ls 5 [(0, .ref (a 0)), (1, .int x1), (2, .int x2), (3, .int x3)] := hl
  have htt : 0 ≤ x1 ∧ x1 < 4 → 0 ≤ S.1 37 (Int32.toNatClampNeg x1) ∧ S.1 37 (Int32.toNatClampNeg x1) ≤ 60 := fun h => (mi_t hI h).2.2.2.2.2.2
  refine lv_iload_n hx hb dX1_log_0 rfl (lv_at hl 3 rfl) ?_
  refine lv_iconst (v := 0) hx hb dX1_log_1 (by decide) ?_
  refine lv_iconst (v := 3) hx hb dX1_log_2 (by decide) ?_
  refine s_ci X.1 (st_m_in l x3 0 3) 3 (lw_S q1314 q1315 q59 q1316) ⟨rfl, rfl⟩ (by decide +kernel) ⟨by decide, by decide⟩ ⟨by decide, by decide⟩ rfl hl.1 rfl (Nat.le_of_ble_eq_true rfl) dX1_log_3 ?_
  refine lv_if_ne (tgt := 11) hx hb dX1_log_6 (by decide) (fun c1 => ?_) (fun c1 => ?_)
  · refine lv_aload_n hx hb dX1_log_11 rfl (lv_at hl 0 rfl) ?_
    refine lv_iload_n hx hb dX1_log_12 rfl (lv_at hl 1 rfl) ?_
    refine m_ci X hR hS (mt_askedFor l D d A a S x1) 1 (lw_V q1452 q1454 qs35 q59 q1455) ⟨rfl, rfl⟩ (by decide +kernel) ⟨by decide, by decide⟩ ⟨by decide, by decide⟩ rfl hl.1 rfl (Nat.le_of_ble_eq_true rfl) dX1_log_13 (fun H locs hR hS => ?_)
    refine lv_istore (lv' := [(4, .int ((m_askedFor S x1).1)), (0, .ref (a 0)), (1, .int x1), (2, .int x2), (3, .int x3)]) hx hb dX1_log_16 hl (by decide) rfl (fun ls hl => ?_)
    refine lv_iload hx hb dX1_log_18 (lv_at hl 0 rfl) ?_
    refine lv_if_ge (tgt := 26) hx hb dX1_log_20 (by decide) (fun c2 => ?_) (fun c2 => ?_)
    · have okc2 := m_askedFor_ok S x1 c2
      have hR : MR D d A a S H := okc2.1 ▸ hR
      have okc2_0 : 0 ≤ x1 ∧ x1 < 4 := okc2.2.1
      refine lv_iload_n hx hb dX1_log_26 rfl (lv_at hl 3 rfl) ?_
      refine lv_iconst (v := 0) hx hb dX1_log_27 (by decide) ?_
      refine lv_aload_n hx hb dX1_log_28 rfl (lv_at hl 1 rfl) ?_
      refine mg_a X hR 37 (by decide) (by decide) q1174 dX1_log_29 ?_
      refine lv_iload_n hx hb dX1_log_32 rfl (lv_at hl 2 rfl) ?_
      refine m_ld X hR ⟨by decide, rfl, by decide⟩ (ixl 4 4 (by decide) rfl (okc2_0)) (v := S.1 37 (Int32.toNatClampNeg x1)) rfl dX1_log_33 ?_
      refine lv_iconst (v := 1) hx hb dX1_log_34 (by decide) ?_
      refine lv_isub hx hb dX1_log_35 ?_
      refine s_ci X.1 (st_m_in l x2 0 ((S.1 37 (Int32.toNatClampNeg x1)) - 1)) 3 (lw_S q1314 q1315 q59 q1316) ⟨rfl, rfl⟩ (by decide +kernel) ⟨by decide, by decide⟩ ⟨by decide, by decide⟩ rfl hl.1 rfl (Nat.le_of_ble_eq_true rfl) dX1_log_36 ?_
      refine lv_if_eq (tgt := 70) hx hb dX1_log_39 (by decide) (fun c3 => ?_) (fun c3 => ?_)
      · refine lv_bipush (v := (-9)) hx hb dX1_log_70 (by decide) ?_
        exact m_ri hx hb hrt (rfl) hlk hR hS hQ (Eq.trans (if_neg c1) (Eq.trans (if_pos c2) (if_pos c3))) dX1_log_72
      · refine lv_aload_n hx hb dX1_log_42 rfl (lv_at hl 1 rfl) ?_
        refine mg_a X hR 38 (by decide) (by decide) q1175 dX1_log_43 ?_
        refine lv_sipush (v := 240) hx hb dX1_log_46 (by decide) ?_
        refine lv_iload_n hx hb dX1_log_49 rfl (lv_at hl 2 rfl) ?_
        refine lv_imul hx hb dX1_log_50 ?_
        refine lv_iconst (v := 4) hx hb dX1_log_51 (by decide) ?_
        refine lv_aload_n hx hb dX1_log_52 rfl (lv_at hl 1 rfl) ?_
        refine mg_a X hR 37 (by decide) (by decide) q1174 dX1_log_53 ?_
        refine lv_iload_n hx hb dX1_log_56 rfl (lv_at hl 2 rfl) ?_
        refine m_ld X hR ⟨by decide, rfl, by decide⟩ (ixl 4 4 (by decide) rfl (okc2_0)) (v := S.1 37 (Int32.toNatClampNeg x1)) rfl dX1_log_57 ?_
        refine lv_iconst (v := 1) hx hb dX1_log_58 (by decide) ?_
        refine lv_isub hx hb dX1_log_59 ?_
        refine lv_iload_n hx hb dX1_log_60 rfl (lv_at hl 3 rfl) ?_
        refine lv_isub hx hb dX1_log_61 ?_
        refine lv_imul hx hb dX1_log_62 ?_
        refine lv_iadd hx hb dX1_log_63 ?_
        refine lv_iload_n hx hb dX1_log_64 rfl (lv_at hl 4 rfl) ?_
        refine lv_iadd hx hb dX1_log_65 ?_
        refine m_ld X hR ⟨by decide, rfl, by decide⟩ (ixl 960 960 (by decide) rfl (m_log_o4 S x1 x2 x3 hI htt c1 c2 okc2_0 c3)) (v := S.1 38 (Int32.toNatClampNeg (((240 * x1) + (4 * (((S.1 37 (Int32.toNatClampNeg x1)) - 1) - x2))) + x3))) rfl dX1_log_66 ?_
        refine lv_goto (tgt := 72) hx hb dX1_log_67 (by decide) ?_
        exact m_ri hx hb hrt (rfl) hlk hR hS hQ (Eq.trans (if_neg c1) (Eq.trans (if_pos c2) (if_neg c3))) dX1_log_72
    · refine lv_iload hx hb dX1_log_23 (lv_at hl 0 rfl) ?_
      exact m_ri hx hb hrt (rfl) hlk hR hS hQ (Eq.trans (if_neg c1) (if_neg c2)) dX1_log_25
  · refine lv_iconst (v := (-1)) hx hb dX1_log_9 (by decide) ?_
    exact m_ri hx hb hrt (rfl) hlk hR hS hQ (if_pos c1) dX1_log_10
theorem m_heard_o5 (S : MS) (x1 : Int32) (x2 : Int32) (x3 : Int32) (y6_32 : Int32) (hI : MInv S) (htt : 0 ≤ x1 ∧ x1 < 4 → 0 ≤ S.1 37 (Int32.toNatClampNeg x1) ∧ S.1 37 (Int32.toNatClampNeg x1) ≤ 60) (c1 : ¬ x2 < 0) (c2 : x2 ≤ x3) (c3 : 0 ≤ (m_askedFor S x1).1) (okc3_0 : 0 ≤ x1 ∧ x1 < 4) (hi6 : 0 ≤ y6_32) (c4 : ¬ (S.1 37 (Int32.toNatClampNeg x1)) ≤ y6_32) : 0 ≤ ((240 * x1) + (4 * y6_32)) ∧ ((240 * x1) + (4 * y6_32)) < 960 := by 
  clear hI
  try simp only [i_le, i_lt, i_eq, Int32.reduceToInt] at *
  first | (have e_0 := m32 (x := 240) (y := x1) (by (try simp only [Int32.reduceToInt]); omega); (try simp only [Int32.reduceToInt] at e_0)) | skip
  first | (have e_1 := m32 (x := 4) (y := y6_32) (by (try simp only [Int32.reduceToInt]); omega); (try simp only [Int32.reduceToInt] at e_1)) | skip
  first | (have e_2 := a32 (x := (240 * x1)) (y := (4 * y6_32)) (by (try simp only [Int32.reduceToInt]); omega); (try simp only [Int32.reduceToInt] at e_2)) | skip
  try simp only [Int32.reduceToInt] at *
  omega
theorem m_heard_o7 (S : MS) (x1 : Int32) (x2 : Int32) (x3 : Int32) (y6_32 : Int32) (hI : MInv S) (htt : 0 ≤ x1 ∧ x1 < 4 → 0 ≤ S.1 37 (Int32.toNatClampNeg x1) ∧ S.1 37 (Int32.toNatClampNeg x1) ≤ 60) (c1 : ¬ x2 < 0) (c2 : x2 ≤ x3) (c3 : 0 ≤ (m_askedFor S x1).1) (okc3_0 : 0 ≤ x1 ∧ x1 < 4) (hi6 : 0 ≤ y6_32) (c4 : ¬ (S.1 37 (Int32.toNatClampNeg x1)) ≤ y6_32) (c6 : ¬ (m_in (S.1 38 (Int32.toNatClampNeg ((240 * x1) + (4 * y6_32)))) x2 x3) = 0) : 0 ≤ (((240 * x1) + (4 * y6_32)) + 2) ∧ (((240 * x1) + (4 * y6_32)) + 2) < 960 := by 
  clear hI
  try simp only [m_in_eq] at *
  try simp only [i_le, i_lt, i_eq, Int32.reduceToInt] at *
  first | (have e_0 := m32 (x := 240) (y := x1) (by (try simp only [Int32.reduceToInt]); omega); (try simp only [Int32.reduceToInt] at e_0)) | skip
  first | (have e_1 := m32 (x := 4) (y := y6_32) (by (try simp only [Int32.reduceToInt]); omega); (try simp only [Int32.reduceToInt] at e_1)) | skip
  first | (have e_2 := a32 (x := (240 * x1)) (y := (4 * y6_32)) (by (try simp only [Int32.reduceToInt]); omega); (try simp only [Int32.reduceToInt] at e_2)) | skip
  first | (have e_3 := a32 (x := ((240 * x1) + (4 * y6_32))) (y := 2) (by (try simp only [Int32.reduceToInt]); omega); (try simp only [Int32.reduceToInt] at e_3)) | skip
  try simp only [Int32.reduceToInt] at *
  omega
def m_heard_j85_s0 (S : MS) (x1 : Int32) (x2 : Int32) (x3 : Int32) (y6_32 : Int32) : Int32 := (if (m_in (S.1 38 (Int32.toNatClampNeg ((240 * x1) + (4 * y6_32)))) x2 x3) = 0 then 0 else (S.1 38 (Int32.toNatClampNeg (((240 * x1) + (4 * y6_32)) + 2))))
def m_heard_v86 (S : MS) (x1 : Int32) (x2 : Int32) (x3 : Int32) (y5_32 : Int32) (y6_32 : Int32) : Int32 := (y5_32 + (m_heard_j85_s0 S x1 x2 x3 y6_32))
def m_heard_L32 (S : MS) (x1 : Int32) (x2 : Int32) (x3 : Int32) : Nat → Int32 → Int32 → Int32 × Int32
  | 0, y5_32, y6_32 => (y5_32, y6_32)
  | f32 + 1, y5_32, y6_32 => (if (S.1 37 (Int32.toNatClampNeg x1)) ≤ y6_32 then (y5_32, y6_32) else (m_heard_L32 S x1 x2 x3 f32 (m_heard_v86 S x1 x2 x3 y5_32 y6_32) (y6_32 + 1)))
theorem m_heard_L32_s (S : MS) (x1 : Int32) (x2 : Int32) (x3 : Int32) (f32 : Nat) (y5_32 : Int32) (y6_32 : Int32) : m_heard_L32 S x1 x2 x3 (f32 + 1) y5_32 y6_32 = (if (S.1 37 (Int32.toNatClampNeg x1)) ≤ y6_32 then (y5_32, y6_32) else (m_heard_L32 S x1 x2 x3 f32 (m_heard_v86 S x1 x2 x3 y5_32 y6_32) (y6_32 + 1))) := rfl
def m_heard_R32 (S : MS) (x1 : Int32) (x2 : Int32) (x3 : Int32) : Int32 × Int32 := m_heard_L32 S x1 x2 x3 ((S.1 37 (Int32.toNatClampNeg x1) - 0 : Int32).toNatClampNeg + 1) 0 0
theorem m_heard_o10 (S : MS) (x1 : Int32) (x2 : Int32) (x3 : Int32) (y6_32 : Int32) (hI : MInv S) (htt : 0 ≤ x1 ∧ x1 < 4 → 0 ≤ S.1 37 (Int32.toNatClampNeg x1) ∧ S.1 37 (Int32.toNatClampNeg x1) ≤ 60) (c1 : ¬ x2 < 0) (c2 : x2 ≤ x3) (c3 : 0 ≤ (m_askedFor S x1).1) (okc3_0 : 0 ≤ x1 ∧ x1 < 4) (hi6 : 0 ≤ y6_32) (c4 : ¬ (S.1 37 (Int32.toNatClampNeg x1)) ≤ y6_32) : 0 ≤ (y6_32 + 1) := by 
  clear hI
  try simp only [i_le, i_lt, i_eq, Int32.reduceToInt] at *
  first | (have e_0 := a32 (x := y6_32) (y := 1) (by (try simp only [Int32.reduceToInt]); omega); (try simp only [Int32.reduceToInt] at e_0)) | skip
  try simp only [Int32.reduceToInt] at *
  omega
theorem m_heard_o11 (S : MS) (x1 : Int32) (x2 : Int32) (x3 : Int32) (y6_32 : Int32) (hI : MInv S) (htt : 0 ≤ x1 ∧ x1 < 4 → 0 ≤ S.1 37 (Int32.toNatClampNeg x1) ∧ S.1 37 (Int32.toNatClampNeg x1) ≤ 60) (c1 : ¬ x2 < 0) (c2 : x2 ≤ x3) (c3 : 0 ≤ (m_askedFor S x1).1) (okc3_0 : 0 ≤ x1 ∧ x1 < 4) (hi6 : 0 ≤ y6_32) (c4 : ¬ (S.1 37 (Int32.toNatClampNeg x1)) ≤ y6_32) : y6_32 < S.1 37 (Int32.toNatClampNeg x1) := by 
  clear hI
  try simp only [i_le, i_lt, i_eq, Int32.reduceToInt] at *
  try simp only [Int32.reduceToInt] at *
  omega
def m_heard (S : MS) (x1 : Int32) (x2 : Int32) (x3 : Int32) : Int32 × MS := (if x2 < 0 then ((-1), S) else (if x2 ≤ x3 then (if 0 ≤ (m_askedFor S x1).1 then ((m_heard_R32 S x1 x2 x3).1, S) else ((m_askedFor S x1).1, (m_askedFor S x1).2)) else ((-1), S)))
set_option maxHeartbeats 4000000 in
theorem mt_heard (l : Launch) (D : va_G) (d : Nat → ClassId) (A : Nat → Prop) (a : Nat → Nat) (S : MS) (x1 : Int32) (x2 : Int32) (x3 : Int32) (hI : MInv S) : MI l yX1_heard cX1_heard 8 .int (rm_ 3) D d A a S [.int x1, .int x2, .int x3] (m_heard S x1 x2 x3) := by
  refine m_startI rfl (Nat.le_of_ble_eq_true rfl) ?_
  intro p e s m av below meth c ls Q X hrt hlk hl hR hQ
  have hx := X.1.1
  have hb := X.1.2.1
  have hown := X.1.2.2.2.1
  have hts := X.1.2.2.2.2
  have hS : va_S A s.heap s.heap [] := va_S.rf
  have hl : lv_has ls 8 [(0, .ref (a 0)), (1, .int x1), (2, .int x2), (3, .int x3)] := hl
  have htt : 0 ≤ x1 ∧ x1 < 4 → 0 ≤ S.1 37 (Int32.toNatClampNeg x1) ∧ S.1 37 (Int32.toNatClampNeg x1) ≤ 60 := fun h => (mi_t hI h).2.2.2.2.2.2
  refine lv_iload_n hx hb dX1_heard_0 rfl (lv_at hl 2 rfl) ?_
  refine lv_if_lt (tgt := 9) hx hb dX1_heard_1 (by decide) (fun c1 => ?_) (fun c1 => ?_)
  · refine lv_iconst (v := (-1)) hx hb dX1_heard_9 (by decide) ?_
    exact m_ri hx hb hrt (rfl) hlk hR hS hQ (if_pos c1) dX1_heard_10
  · refine lv_iload_n hx hb dX1_heard_4 rfl (lv_at hl 2 rfl) ?_
    refine lv_iload_n hx hb dX1_heard_5 rfl (lv_at hl 3 rfl) ?_
    refine lv_icmp_le (tgt := 11) hx hb dX1_heard_6 (by decide) (fun c2 => ?_) (fun c2 => ?_)
    · refine lv_aload_n hx hb dX1_heard_11 rfl (lv_at hl 0 rfl) ?_
      refine lv_iload_n hx hb dX1_heard_12 rfl (lv_at hl 1 rfl) ?_
      refine m_ci X hR hS (mt_askedFor l D d A a S x1) 1 (lw_V q1452 q1454 qs35 q59 q1455) ⟨rfl, rfl⟩ (by decide +kernel) ⟨by decide, by decide⟩ ⟨by decide, by decide⟩ rfl hl.1 rfl (Nat.le_of_ble_eq_true rfl) dX1_heard_13 (fun H locs hR hS => ?_)
      refine lv_istore (lv' := [(4, .int ((m_askedFor S x1).1)), (0, .ref (a 0)), (1, .int x1), (2, .int x2), (3, .int x3)]) hx hb dX1_heard_16 hl (by decide) rfl (fun ls hl => ?_)
      refine lv_iload hx hb dX1_heard_18 (lv_at hl 0 rfl) ?_
      refine lv_if_ge (tgt := 26) hx hb dX1_heard_20 (by decide) (fun c3 => ?_) (fun c3 => ?_)
      · have okc3 := m_askedFor_ok S x1 c3
        have hR : MR D d A a S H := okc3.1 ▸ hR
        have okc3_0 : 0 ≤ x1 ∧ x1 < 4 := okc3.2.1
        refine lv_iconst (v := 0) hx hb dX1_heard_26 (by decide) ?_
        refine lv_istore (lv' := [(5, .int 0), (4, .int ((m_askedFor S x1).1)), (0, .ref (a 0)), (1, .int x1), (2, .int x2), (3, .int x3)]) hx hb dX1_heard_27 hl (by decide) rfl (fun ls hl => ?_)
        refine lv_iconst (v := 0) hx hb dX1_heard_29 (by decide) ?_
        refine lv_istore (lv' := [(6, .int 0), (5, .int 0), (4, .int ((m_askedFor S x1).1)), (0, .ref (a 0)), (1, .int x1), (2, .int x2), (3, .int x3)]) hx hb dX1_heard_30 hl (by decide) rfl (fun ls hl => ?_)
        have K32 : ∀ (H : Heap) (locs : List Loc) (ls : Array Slot), MR D d A a S H → va_S A s.heap H locs → lv_has ls 8 [(6, .int ((m_heard_R32 S x1 x2 x3).2)), (5, .int ((m_heard_R32 S x1 x2 x3).1)), (4, .int ((m_askedFor S x1).1)), (0, .ref (a 0)), (1, .int x1), (2, .int x2), (3, .int x3)] → W p l e (rm_ 3) s m av below meth c H locs 0 0 Q (F0 m 94 ls []) := by
          intro H locs ls hR hS hl
          refine lv_iload hx hb dX1_heard_94 (lv_at hl 1 rfl) ?_
          exact m_ri hx hb hrt (rfl) hlk hR hS hQ (Eq.trans (if_neg c1) (Eq.trans (if_pos c2) (if_pos c3))) dX1_heard_96
        have L32 : ∀ (f32 : Nat) (y5_32 : Int32) (y6_32 : Int32) (H : Heap) (locs : List Loc) (ls : Array Slot), (S.1 37 (Int32.toNatClampNeg x1) - y6_32 : Int32).toNatClampNeg < f32 → 0 ≤ y6_32 → m_heard_L32 S x1 x2 x3 (f32) y5_32 y6_32 = (m_heard_R32 S x1 x2 x3) → MR D d A a S H → va_S A s.heap H locs → lv_has ls 8 [(6, .int y6_32), (5, .int y5_32), (4, .int ((m_askedFor S x1).1)), (0, .ref (a 0)), (1, .int x1), (2, .int x2), (3, .int x3)] → W p l e (rm_ 3) s m av below meth c H locs 0 0 Q (F0 m 32 ls []) := by
          intro f32
          induction f32 with
          | zero => intro y5_32 y6_32 H locs ls hf; exact absurd hf (Nat.not_lt_zero _)
          | succ f32 ih =>
            intro y5_32 y6_32 H locs ls hf hi6 hE hR hS hl
            refine lv_iload hx hb dX1_heard_32 (lv_at hl 0 rfl) ?_
            refine lv_aload_n hx hb dX1_heard_34 rfl (lv_at hl 3 rfl) ?_
            refine mg_a X hR 37 (by decide) (by decide) q1174 dX1_heard_35 ?_
            refine lv_iload_n hx hb dX1_heard_38 rfl (lv_at hl 4 rfl) ?_
            refine m_ld X hR ⟨by decide, rfl, by decide⟩ (ixl 4 4 (by decide) rfl (okc3_0)) (v := S.1 37 (Int32.toNatClampNeg x1)) rfl dX1_heard_39 ?_
            refine lv_icmp_ge (tgt := 94) hx hb dX1_heard_40 (by decide) (fun c4 => ?_) (fun c4 => ?_)
            · have e0 : (m_heard_R32 S x1 x2 x3) = (y5_32, y6_32) := Eq.trans (Eq.symm hE) (Eq.trans (m_heard_L32_s _ _ _ _ _ _ _) (if_pos c4))
              exact K32 _ _ _ hR hS (by rw [e0]; exact lv_sub hl [0, 1, 2, 3, 4, 5, 6] rfl)
            · refine lv_sipush (v := 240) hx hb dX1_heard_43 (by decide) ?_
              refine lv_iload_n hx hb dX1_heard_46 rfl (lv_at hl 4 rfl) ?_
              refine lv_imul hx hb dX1_heard_47 ?_
              refine lv_iconst (v := 4) hx hb dX1_heard_48 (by decide) ?_
              refine lv_iload hx hb dX1_heard_49 (lv_at hl 0 rfl) ?_
              refine lv_imul hx hb dX1_heard_51 ?_
              refine lv_iadd hx hb dX1_heard_52 ?_
              refine lv_istore (lv' := [(7, .int ((240 * x1) + (4 * y6_32))), (6, .int y6_32), (5, .int y5_32), (4, .int ((m_askedFor S x1).1)), (0, .ref (a 0)), (1, .int x1), (2, .int x2), (3, .int x3)]) hx hb dX1_heard_53 hl (by decide) rfl (fun ls hl => ?_)
              refine lv_iload hx hb dX1_heard_55 (lv_at hl 2 rfl) ?_
              refine lv_aload_n hx hb dX1_heard_57 rfl (lv_at hl 4 rfl) ?_
              refine mg_a X hR 38 (by decide) (by decide) q1175 dX1_heard_58 ?_
              refine lv_iload hx hb dX1_heard_61 (lv_at hl 0 rfl) ?_
              refine m_ld X hR ⟨by decide, rfl, by decide⟩ (ixl 960 960 (by decide) rfl (m_heard_o5 S x1 x2 x3 y6_32 hI htt c1 c2 c3 okc3_0 hi6 c4)) (v := S.1 38 (Int32.toNatClampNeg ((240 * x1) + (4 * y6_32)))) rfl dX1_heard_63 ?_
              refine lv_iload_n hx hb dX1_heard_64 rfl (lv_at hl 6 rfl) ?_
              refine lv_iload_n hx hb dX1_heard_65 rfl (lv_at hl 7 rfl) ?_
              refine s_ci X.1 (st_m_in l (S.1 38 (Int32.toNatClampNeg ((240 * x1) + (4 * y6_32)))) x2 x3) 3 (lw_S q1314 q1315 q59 q1316) ⟨rfl, rfl⟩ (by decide +kernel) ⟨by decide, by decide⟩ ⟨by decide, by decide⟩ rfl hl.1 rfl (Nat.le_of_ble_eq_true rfl) dX1_heard_66 ?_
              have J9 : ∀ (w8 : Int32) (H : Heap) (locs : List Loc) (ls : Array Slot), w8 = (m_heard_j85_s0 S x1 x2 x3 y6_32) → MR D d A a S H → va_S A s.heap H locs → lv_has ls 8 [(7, .int ((240 * x1) + (4 * y6_32))), (6, .int y6_32), (5, .int y5_32), (4, .int ((m_askedFor S x1).1)), (0, .ref (a 0)), (1, .int x1), (2, .int x2), (3, .int x3)] → W p l e (rm_ 3) s m av below meth c H locs 0 0 Q (F0 m 85 ls [.int w8, .int y5_32]) := by
                intro w8 H locs ls ew8 hR hS hl
                subst ew8
                refine lv_iadd hx hb dX1_heard_85 ?_
                refine lv_istore (lv' := [(5, .int (m_heard_v86 S x1 x2 x3 y5_32 y6_32)), (7, .int ((240 * x1) + (4 * y6_32))), (6, .int y6_32), (4, .int ((m_askedFor S x1).1)), (0, .ref (a 0)), (1, .int x1), (2, .int x2), (3, .int x3)]) hx hb dX1_heard_86 hl (by decide) rfl (fun ls hl => ?_)
                refine lv_iinc (v := (y6_32 + 1)) (lv' := [(6, .int (y6_32 + 1)), (5, .int (m_heard_v86 S x1 x2 x3 y5_32 y6_32)), (7, .int ((240 * x1) + (4 * y6_32))), (4, .int ((m_askedFor S x1).1)), (0, .ref (a 0)), (1, .int x1), (2, .int x2), (3, .int x3)]) hx hb dX1_heard_88 hl (k := 2) rfl rfl (by decide) rfl (fun ls hl => ?_)
                refine lv_goto (tgt := 32) hx hb dX1_heard_91 (by decide) ?_
                exact ih (m_heard_v86 S x1 x2 x3 y5_32 y6_32) (y6_32 + 1) _ _  _ (Nat.lt_of_lt_of_le (up_ hi6 (m_heard_o11 S x1 x2 x3 y6_32 hI htt c1 c2 c3 okc3_0 hi6 c4)) (Nat.le_of_lt_succ hf)) (m_heard_o10 S x1 x2 x3 y6_32 hI htt c1 c2 c3 okc3_0 hi6 c4) (Eq.trans (Eq.symm (Eq.trans (m_heard_L32_s _ _ _ _ _ _ _) (if_neg c4))) hE) hR hS (lv_sub hl [0, 1, 3, 4, 5, 6, 7] rfl)
              refine lv_if_eq (tgt := 84) hx hb dX1_heard_69 (by decide) (fun c6 => ?_) (fun c6 => ?_)
              · refine lv_iconst (v := 0) hx hb dX1_heard_84 (by decide) ?_
                exact J9 _ _ _  _ (Eq.symm (if_pos c6)) hR hS  (lv_sub hl [0, 1, 2, 3, 4, 5, 6, 7] rfl)
              · refine lv_aload_n hx hb dX1_heard_72 rfl (lv_at hl 4 rfl) ?_
                refine mg_a X hR 38 (by decide) (by decide) q1175 dX1_heard_73 ?_
                refine lv_iload hx hb dX1_heard_76 (lv_at hl 0 rfl) ?_
                refine lv_iconst (v := 2) hx hb dX1_heard_78 (by decide) ?_
                refine lv_iadd hx hb dX1_heard_79 ?_
                refine m_ld X hR ⟨by decide, rfl, by decide⟩ (ixl 960 960 (by decide) rfl (m_heard_o7 S x1 x2 x3 y6_32 hI htt c1 c2 c3 okc3_0 hi6 c4 c6)) (v := S.1 38 (Int32.toNatClampNeg (((240 * x1) + (4 * y6_32)) + 2))) rfl dX1_heard_80 ?_
                refine lv_goto (tgt := 85) hx hb dX1_heard_81 (by decide) ?_
                exact J9 _ _ _  _ (Eq.symm (if_neg c6)) hR hS  (lv_sub hl [0, 1, 2, 3, 4, 5, 6, 7] rfl)
        exact L32 _ 0 0 _ _  _ (Nat.lt_succ_self _) (by decide) rfl hR hS (lv_sub hl [0, 1, 2, 3, 4, 5, 6] rfl)
      · refine lv_iload hx hb dX1_heard_23 (lv_at hl 0 rfl) ?_
        exact m_ri hx hb hrt (rfl) hlk hR hS hQ (Eq.trans (if_neg c1) (Eq.trans (if_pos c2) (if_neg c3))) dX1_heard_25
    · refine lv_iconst (v := (-1)) hx hb dX1_heard_9 (by decide) ?_
      exact m_ri hx hb hrt (rfl) hlk hR hS hQ (Eq.trans (if_neg c1) (if_neg c2)) dX1_heard_10
theorem m_askedTwo_o3 (x1 : Int32) (x2 : Int32) (c1 : ¬ (m_isNumber x1) = 0) (c2 : ¬ (m_isNumber x2) = 0) : 0 ≤ x1 ∧ x1 < 4 := by 
  try simp only [m_in_eq, m_isNumber_eq] at *
  try simp only [i_le, i_lt, i_eq, Int32.reduceToInt] at *
  try simp only [Int32.reduceToInt] at *
  omega
theorem m_askedTwo_o5 (S : MS) (x1 : Int32) (x2 : Int32) (c1 : ¬ (m_isNumber x1) = 0) (c2 : ¬ (m_isNumber x2) = 0) (c4 : ¬ (S.1 26 (Int32.toNatClampNeg x1)) = 0) : 0 ≤ x2 ∧ x2 < 4 := by 
  try simp only [m_in_eq, m_isNumber_eq] at *
  try simp only [i_le, i_lt, i_eq, Int32.reduceToInt] at *
  try simp only [Int32.reduceToInt] at *
  omega
def m_askedTwo (S : MS) (x1 : Int32) (x2 : Int32) : Int32 × MS := (if (m_isNumber x1) = 0 then ((-1), S) else (if (m_isNumber x2) = 0 then ((-1), S) else (if (S.1 26 (Int32.toNatClampNeg x1)) = 0 then ((m_meets S 1).1, (m_meets S 1).2) else (if (S.1 26 (Int32.toNatClampNeg x2)) = 0 then ((m_meets S 1).1, (m_meets S 1).2) else (0, S)))))
set_option maxHeartbeats 4000000 in
theorem mt_askedTwo (l : Launch) (D : va_G) (d : Nat → ClassId) (A : Nat → Prop) (a : Nat → Nat) (S : MS) (x1 : Int32) (x2 : Int32) : MI l yX1_askedTwo cX1_askedTwo 3 .int (rm_ 2) D d A a S [.int x1, .int x2] (m_askedTwo S x1 x2) := by
  refine m_startI rfl (Nat.le_of_ble_eq_true rfl) ?_
  intro p e s m av below meth c ls Q X hrt hlk hl hR hQ
  have hx := X.1.1
  have hb := X.1.2.1
  have hown := X.1.2.2.2.1
  have hts := X.1.2.2.2.2
  have hS : va_S A s.heap s.heap [] := va_S.rf
  have hl : lv_has ls 3 [(0, .ref (a 0)), (1, .int x1), (2, .int x2)] := hl
  refine lv_iload_n hx hb dX1_askedTwo_0 rfl (lv_at hl 1 rfl) ?_
  refine s_ci X.1 (st_m_isNumber l x1) 1 (lw_S q1430 q1431 q59 q1432) ⟨rfl, rfl⟩ (by decide +kernel) ⟨by decide, by decide⟩ ⟨by decide, by decide⟩ rfl hl.1 rfl (Nat.le_of_ble_eq_true rfl) dX1_askedTwo_1 ?_
  refine lv_if_eq (tgt := 14) hx hb dX1_askedTwo_4 (by decide) (fun c1 => ?_) (fun c1 => ?_)
  · refine lv_iconst (v := (-1)) hx hb dX1_askedTwo_14 (by decide) ?_
    refine lv_goto (tgt := 45) hx hb dX1_askedTwo_15 (by decide) ?_
    exact m_ri hx hb hrt (rfl) hlk hR hS hQ (if_pos c1) dX1_askedTwo_45
  · refine lv_iload_n hx hb dX1_askedTwo_7 rfl (lv_at hl 2 rfl) ?_
    refine s_ci X.1 (st_m_isNumber l x2) 1 (lw_S q1430 q1431 q59 q1432) ⟨rfl, rfl⟩ (by decide +kernel) ⟨by decide, by decide⟩ ⟨by decide, by decide⟩ rfl hl.1 rfl (Nat.le_of_ble_eq_true rfl) dX1_askedTwo_8 ?_
    refine lv_if_ne (tgt := 18) hx hb dX1_askedTwo_11 (by decide) (fun c2 => ?_) (fun c2 => ?_)
    · refine lv_aload_n hx hb dX1_askedTwo_18 rfl (lv_at hl 0 rfl) ?_
      refine mg_a X hR 26 (by decide) (by decide) q1163 dX1_askedTwo_19 ?_
      refine lv_iload_n hx hb dX1_askedTwo_22 rfl (lv_at hl 1 rfl) ?_
      refine m_zld X hR ⟨by decide, rfl, by decide⟩ (ixl 4 4 (by decide) rfl (m_askedTwo_o3 x1 x2 c1 c2)) (v := S.1 26 (Int32.toNatClampNeg x1)) rfl dX1_askedTwo_23 ?_
      refine lv_if_eq (tgt := 40) hx hb dX1_askedTwo_24 (by decide) (fun c4 => ?_) (fun c4 => ?_)
      · refine lv_aload_n hx hb dX1_askedTwo_40 rfl (lv_at hl 0 rfl) ?_
        refine lv_iconst (v := 1) hx hb dX1_askedTwo_41 (by decide) ?_
        refine m_ci X hR hS (mt_meets l D d A a S 1 (by decide)) 1 (lw_V q1317 q1319 qs22 q59 q1320) ⟨rfl, rfl⟩ (by decide +kernel) ⟨by decide, by decide⟩ ⟨by decide, by decide⟩ rfl hl.1 rfl (Nat.le_of_ble_eq_true rfl) dX1_askedTwo_42 (fun H locs hR hS => ?_)
        exact m_ri hx hb hrt (rfl) hlk hR hS hQ (Eq.trans (if_neg c1) (Eq.trans (if_neg c2) (if_pos c4))) dX1_askedTwo_45
      · refine lv_aload_n hx hb dX1_askedTwo_27 rfl (lv_at hl 0 rfl) ?_
        refine mg_a X hR 26 (by decide) (by decide) q1163 dX1_askedTwo_28 ?_
        refine lv_iload_n hx hb dX1_askedTwo_31 rfl (lv_at hl 2 rfl) ?_
        refine m_zld X hR ⟨by decide, rfl, by decide⟩ (ixl 4 4 (by decide) rfl (m_askedTwo_o5 S x1 x2 c1 c2 c4)) (v := S.1 26 (Int32.toNatClampNeg x2)) rfl dX1_askedTwo_32 ?_
        refine lv_if_eq (tgt := 40) hx hb dX1_askedTwo_33 (by decide) (fun c6 => ?_) (fun c6 => ?_)
        · refine lv_aload_n hx hb dX1_askedTwo_40 rfl (lv_at hl 0 rfl) ?_
          refine lv_iconst (v := 1) hx hb dX1_askedTwo_41 (by decide) ?_
          refine m_ci X hR hS (mt_meets l D d A a S 1 (by decide)) 1 (lw_V q1317 q1319 qs22 q59 q1320) ⟨rfl, rfl⟩ (by decide +kernel) ⟨by decide, by decide⟩ ⟨by decide, by decide⟩ rfl hl.1 rfl (Nat.le_of_ble_eq_true rfl) dX1_askedTwo_42 (fun H locs hR hS => ?_)
          exact m_ri hx hb hrt (rfl) hlk hR hS hQ (Eq.trans (if_neg c1) (Eq.trans (if_neg c2) (Eq.trans (if_neg c4) (if_pos c6)))) dX1_askedTwo_45
        · refine lv_iconst (v := 0) hx hb dX1_askedTwo_36 (by decide) ?_
          refine lv_goto (tgt := 45) hx hb dX1_askedTwo_37 (by decide) ?_
          exact m_ri hx hb hrt (rfl) hlk hR hS hQ (Eq.trans (if_neg c1) (Eq.trans (if_neg c2) (Eq.trans (if_neg c4) (if_neg c6)))) dX1_askedTwo_45
    · refine lv_iconst (v := (-1)) hx hb dX1_askedTwo_14 (by decide) ?_
      refine lv_goto (tgt := 45) hx hb dX1_askedTwo_15 (by decide) ?_
      exact m_ri hx hb hrt (rfl) hlk hR hS hQ (Eq.trans (if_neg c1) (if_pos c2)) dX1_askedTwo_45
theorem m_writeLog_o3 (S : MS) (x1 : Int32) (y5_14 : Int32) (S_14 : MS) (ht : 0 ≤ x1 ∧ x1 < 4) (he : 0 ≤ S.1 37 (Int32.toNatClampNeg x1) ∧ S.1 37 (Int32.toNatClampNeg x1) ≤ 60) (c1 : (S.1 37 (Int32.toNatClampNeg x1)) = 60) (hi5 : 0 ≤ y5_14) (kp14_0 : S_14.1 37 (Int32.toNatClampNeg x1) = S.1 37 (Int32.toNatClampNeg x1)) (c2 : ¬ 236 ≤ y5_14) : 0 ≤ (((240 * x1) + y5_14) + 4) ∧ (((240 * x1) + y5_14) + 4) < 960 := by 
  try simp only [i_le, i_lt, i_eq, Int32.reduceToInt] at *
  first | (have e_0 := m32 (x := 240) (y := x1) (by (try simp only [Int32.reduceToInt]); omega); (try simp only [Int32.reduceToInt] at e_0)) | skip
  first | (have e_1 := a32 (x := (240 * x1)) (y := y5_14) (by (try simp only [Int32.reduceToInt]); omega); (try simp only [Int32.reduceToInt] at e_1)) | skip
  first | (have e_2 := a32 (x := ((240 * x1) + y5_14)) (y := 4) (by (try simp only [Int32.reduceToInt]); omega); (try simp only [Int32.reduceToInt] at e_2)) | skip
  try simp only [Int32.reduceToInt] at *
  omega
theorem m_writeLog_o4 (S : MS) (x1 : Int32) (y5_14 : Int32) (S_14 : MS) (ht : 0 ≤ x1 ∧ x1 < 4) (he : 0 ≤ S.1 37 (Int32.toNatClampNeg x1) ∧ S.1 37 (Int32.toNatClampNeg x1) ≤ 60) (c1 : (S.1 37 (Int32.toNatClampNeg x1)) = 60) (hi5 : 0 ≤ y5_14) (kp14_0 : S_14.1 37 (Int32.toNatClampNeg x1) = S.1 37 (Int32.toNatClampNeg x1)) (c2 : ¬ 236 ≤ y5_14) : 0 ≤ ((240 * x1) + y5_14) ∧ ((240 * x1) + y5_14) < 960 := by 
  try simp only [i_le, i_lt, i_eq, Int32.reduceToInt] at *
  first | (have e_0 := m32 (x := 240) (y := x1) (by (try simp only [Int32.reduceToInt]); omega); (try simp only [Int32.reduceToInt] at e_0)) | skip
  first | (have e_1 := a32 (x := (240 * x1)) (y := y5_14) (by (try simp only [Int32.reduceToInt]); omega); (try simp only [Int32.reduceToInt] at e_1)) | skip
  try simp only [Int32.reduceToInt] at *
  omega
def m_writeLog_L14 (x1 : Int32) : Nat → Int32 → MS → Int32 × MS
  | 0, y5_14, S_14 => (y5_14, S_14)
  | f14 + 1, y5_14, S_14 => (if 236 ≤ y5_14 then (y5_14, S_14) else (m_writeLog_L14 x1 f14 (y5_14 + 1) (mu S_14 38 (Int32.toNatClampNeg ((240 * x1) + y5_14)) (S_14.1 38 (Int32.toNatClampNeg (((240 * x1) + y5_14) + 4))))))
theorem m_writeLog_L14_s (x1 : Int32) (f14 : Nat) (y5_14 : Int32) (S_14 : MS) : m_writeLog_L14 x1 (f14 + 1) y5_14 S_14 = (if 236 ≤ y5_14 then (y5_14, S_14) else (m_writeLog_L14 x1 f14 (y5_14 + 1) (mu S_14 38 (Int32.toNatClampNeg ((240 * x1) + y5_14)) (S_14.1 38 (Int32.toNatClampNeg (((240 * x1) + y5_14) + 4)))))) := rfl
def m_writeLog_R14 (S : MS) (x1 : Int32) : Int32 × MS := m_writeLog_L14 x1 ((236 - 0 : Int32).toNatClampNeg + 1) 0 S
def m_writeLog_j66_S (S : MS) (x1 : Int32) : MS := (if (S.1 37 (Int32.toNatClampNeg x1)) = 60 then (mu (m_writeLog_R14 S x1).2 37 (Int32.toNatClampNeg x1) (((m_writeLog_R14 S x1).2.1 37 (Int32.toNatClampNeg x1)) - 1)) else S)
def m_writeLog_v80 (S : MS) (x1 : Int32) : Int32 := ((240 * x1) + (4 * ((m_writeLog_j66_S S x1).1 37 (Int32.toNatClampNeg x1))))
theorem m_writeLog_o7 (S : MS) (x1 : Int32) (ht : 0 ≤ x1 ∧ x1 < 4) (he : 0 ≤ S.1 37 (Int32.toNatClampNeg x1) ∧ S.1 37 (Int32.toNatClampNeg x1) ≤ 60) (hj : 0 ≤ (m_writeLog_j66_S S x1).1 37 (Int32.toNatClampNeg x1) ∧ (m_writeLog_j66_S S x1).1 37 (Int32.toNatClampNeg x1) < 60) : 0 ≤ (m_writeLog_v80 S x1) ∧ (m_writeLog_v80 S x1) < 960 := by 
  try simp only [m_writeLog_v80] at *
  try simp only [i_le, i_lt, i_eq, Int32.reduceToInt] at *
  first | (have e_0 := m32 (x := 240) (y := x1) (by (try simp only [Int32.reduceToInt]); omega); (try simp only [Int32.reduceToInt] at e_0)) | skip
  first | (have e_1 := m32 (x := 4) (y := ((m_writeLog_j66_S S x1).1 37 (Int32.toNatClampNeg x1))) (by (try simp only [Int32.reduceToInt]); omega); (try simp only [Int32.reduceToInt] at e_1)) | skip
  first | (have e_2 := a32 (x := (240 * x1)) (y := (4 * ((m_writeLog_j66_S S x1).1 37 (Int32.toNatClampNeg x1)))) (by (try simp only [Int32.reduceToInt]); omega); (try simp only [Int32.reduceToInt] at e_2)) | skip
  try simp only [Int32.reduceToInt] at *
  omega
theorem m_writeLog_o8 (S : MS) (x1 : Int32) (ht : 0 ≤ x1 ∧ x1 < 4) (he : 0 ≤ S.1 37 (Int32.toNatClampNeg x1) ∧ S.1 37 (Int32.toNatClampNeg x1) ≤ 60) (hj : 0 ≤ (m_writeLog_j66_S S x1).1 37 (Int32.toNatClampNeg x1) ∧ (m_writeLog_j66_S S x1).1 37 (Int32.toNatClampNeg x1) < 60) : 0 ≤ ((m_writeLog_v80 S x1) + 1) ∧ ((m_writeLog_v80 S x1) + 1) < 960 := by 
  try simp only [m_writeLog_v80] at *
  try simp only [i_le, i_lt, i_eq, Int32.reduceToInt] at *
  first | (have e_0 := m32 (x := 240) (y := x1) (by (try simp only [Int32.reduceToInt]); omega); (try simp only [Int32.reduceToInt] at e_0)) | skip
  first | (have e_1 := m32 (x := 4) (y := ((m_writeLog_j66_S S x1).1 37 (Int32.toNatClampNeg x1))) (by (try simp only [Int32.reduceToInt]); omega); (try simp only [Int32.reduceToInt] at e_1)) | skip
  first | (have e_2 := a32 (x := (240 * x1)) (y := (4 * ((m_writeLog_j66_S S x1).1 37 (Int32.toNatClampNeg x1)))) (by (try simp only [Int32.reduceToInt]); omega); (try simp only [Int32.reduceToInt] at e_2)) | skip
  first | (have e_3 := a32 (x := ((240 * x1) + (4 * ((m_writeLog_j66_S S x1).1 37 (Int32.toNatClampNeg x1))))) (y := 1) (by (try simp only [Int32.reduceToInt]); omega); (try simp only [Int32.reduceToInt] at e_3)) | skip
  try simp only [Int32.reduceToInt] at *
  omega
theorem m_writeLog_o9 (S : MS) (x1 : Int32) (ht : 0 ≤ x1 ∧ x1 < 4) (he : 0 ≤ S.1 37 (Int32.toNatClampNeg x1) ∧ S.1 37 (Int32.toNatClampNeg x1) ≤ 60) (hj : 0 ≤ (m_writeLog_j66_S S x1).1 37 (Int32.toNatClampNeg x1) ∧ (m_writeLog_j66_S S x1).1 37 (Int32.toNatClampNeg x1) < 60) : 0 ≤ ((m_writeLog_v80 S x1) + 2) ∧ ((m_writeLog_v80 S x1) + 2) < 960 := by 
  try simp only [m_writeLog_v80] at *
  try simp only [i_le, i_lt, i_eq, Int32.reduceToInt] at *
  first | (have e_0 := m32 (x := 240) (y := x1) (by (try simp only [Int32.reduceToInt]); omega); (try simp only [Int32.reduceToInt] at e_0)) | skip
  first | (have e_1 := m32 (x := 4) (y := ((m_writeLog_j66_S S x1).1 37 (Int32.toNatClampNeg x1))) (by (try simp only [Int32.reduceToInt]); omega); (try simp only [Int32.reduceToInt] at e_1)) | skip
  first | (have e_2 := a32 (x := (240 * x1)) (y := (4 * ((m_writeLog_j66_S S x1).1 37 (Int32.toNatClampNeg x1)))) (by (try simp only [Int32.reduceToInt]); omega); (try simp only [Int32.reduceToInt] at e_2)) | skip
  first | (have e_3 := a32 (x := ((240 * x1) + (4 * ((m_writeLog_j66_S S x1).1 37 (Int32.toNatClampNeg x1))))) (y := 2) (by (try simp only [Int32.reduceToInt]); omega); (try simp only [Int32.reduceToInt] at e_3)) | skip
  try simp only [Int32.reduceToInt] at *
  omega
theorem m_writeLog_o10 (S : MS) (x1 : Int32) (ht : 0 ≤ x1 ∧ x1 < 4) (he : 0 ≤ S.1 37 (Int32.toNatClampNeg x1) ∧ S.1 37 (Int32.toNatClampNeg x1) ≤ 60) (hj : 0 ≤ (m_writeLog_j66_S S x1).1 37 (Int32.toNatClampNeg x1) ∧ (m_writeLog_j66_S S x1).1 37 (Int32.toNatClampNeg x1) < 60) : 0 ≤ ((m_writeLog_v80 S x1) + 3) ∧ ((m_writeLog_v80 S x1) + 3) < 960 := by 
  try simp only [m_writeLog_v80] at *
  try simp only [i_le, i_lt, i_eq, Int32.reduceToInt] at *
  first | (have e_0 := m32 (x := 240) (y := x1) (by (try simp only [Int32.reduceToInt]); omega); (try simp only [Int32.reduceToInt] at e_0)) | skip
  first | (have e_1 := m32 (x := 4) (y := ((m_writeLog_j66_S S x1).1 37 (Int32.toNatClampNeg x1))) (by (try simp only [Int32.reduceToInt]); omega); (try simp only [Int32.reduceToInt] at e_1)) | skip
  first | (have e_2 := a32 (x := (240 * x1)) (y := (4 * ((m_writeLog_j66_S S x1).1 37 (Int32.toNatClampNeg x1)))) (by (try simp only [Int32.reduceToInt]); omega); (try simp only [Int32.reduceToInt] at e_2)) | skip
  first | (have e_3 := a32 (x := ((240 * x1) + (4 * ((m_writeLog_j66_S S x1).1 37 (Int32.toNatClampNeg x1))))) (y := 3) (by (try simp only [Int32.reduceToInt]); omega); (try simp only [Int32.reduceToInt] at e_3)) | skip
  try simp only [Int32.reduceToInt] at *
  omega
theorem m_writeLog_o11 (S : MS) (x1 : Int32) (y5_14 : Int32) (S_14 : MS) (ht : 0 ≤ x1 ∧ x1 < 4) (he : 0 ≤ S.1 37 (Int32.toNatClampNeg x1) ∧ S.1 37 (Int32.toNatClampNeg x1) ≤ 60) (c1 : (S.1 37 (Int32.toNatClampNeg x1)) = 60) (hi5 : 0 ≤ y5_14) (kp14_0 : S_14.1 37 (Int32.toNatClampNeg x1) = S.1 37 (Int32.toNatClampNeg x1)) (c2 : ¬ 236 ≤ y5_14) : 0 ≤ (y5_14 + 1) := by 
  try simp only [i_le, i_lt, i_eq, Int32.reduceToInt] at *
  first | (have e_0 := a32 (x := y5_14) (y := 1) (by (try simp only [Int32.reduceToInt]); omega); (try simp only [Int32.reduceToInt] at e_0)) | skip
  try simp only [Int32.reduceToInt] at *
  omega
theorem m_writeLog_o12 (S : MS) (x1 : Int32) (y5_14 : Int32) (S_14 : MS) (ht : 0 ≤ x1 ∧ x1 < 4) (he : 0 ≤ S.1 37 (Int32.toNatClampNeg x1) ∧ S.1 37 (Int32.toNatClampNeg x1) ≤ 60) (c1 : (S.1 37 (Int32.toNatClampNeg x1)) = 60) (hi5 : 0 ≤ y5_14) (kp14_0 : S_14.1 37 (Int32.toNatClampNeg x1) = S.1 37 (Int32.toNatClampNeg x1)) (c2 : ¬ 236 ≤ y5_14) : y5_14 < 236 := by 
  try simp only [i_le, i_lt, i_eq, Int32.reduceToInt] at *
  try simp only [Int32.reduceToInt] at *
  omega
theorem m_writeLog_L14_fr (x1 : Int32) : ∀ (f : Nat) (y : Int32) (S : MS) (k : Nat), k ≠ 38 → (m_writeLog_L14 x1 f y S).2.1 k = S.1 k := by
  intro f
  induction f with
  | zero => intro y S k hk; rfl
  | succ f ih =>
    intro y S k hk
    rw [m_writeLog_L14_s]
    split
    · rfl
    · rw [ih _ _ k hk, mu_kf _ hk]
theorem m_writeLog_hj (S : MS) (x1 : Int32) (he : 0 ≤ S.1 37 (Int32.toNatClampNeg x1) ∧ S.1 37 (Int32.toNatClampNeg x1) ≤ 60) : 0 ≤ (m_writeLog_j66_S S x1).1 37 (Int32.toNatClampNeg x1) ∧ (m_writeLog_j66_S S x1).1 37 (Int32.toNatClampNeg x1) < 60 := by
  unfold m_writeLog_j66_S
  split
  · rename_i h6
    have e1 : (m_writeLog_R14 S x1).2.1 37 (Int32.toNatClampNeg x1) = S.1 37 (Int32.toNatClampNeg x1) := by unfold m_writeLog_R14; rw [m_writeLog_L14_fr _ _ _ _ _ (by decide)]
    rw [mu_self, e1, h6]
    decide
  · rename_i h6
    simp only [i_le, i_lt, i_eq, Int32.reduceToInt] at *
    omega
def m_writeLog (S : MS) (x1 : Int32) (x2 : Int32) (x3 : Int32) (x4 : Int32) : MS := (mu (mu (mu (mu (mu (m_writeLog_j66_S S x1) 38 (Int32.toNatClampNeg (m_writeLog_v80 S x1)) ((m_writeLog_j66_S S x1).1 5 0)) 38 (Int32.toNatClampNeg ((m_writeLog_v80 S x1) + 1)) x2) 38 (Int32.toNatClampNeg ((m_writeLog_v80 S x1) + 2)) x3) 38 (Int32.toNatClampNeg ((m_writeLog_v80 S x1) + 3)) x4) 37 (Int32.toNatClampNeg x1) (((m_writeLog_j66_S S x1).1 37 (Int32.toNatClampNeg x1)) + 1))
set_option maxHeartbeats 4000000 in
theorem mt_writeLog (l : Launch) (D : va_G) (d : Nat → ClassId) (A : Nat → Prop) (a : Nat → Nat) (S : MS) (x1 : Int32) (x2 : Int32) (x3 : Int32) (x4 : Int32) (ht : 0 ≤ x1 ∧ x1 < 4) (he : 0 ≤ S.1 37 (Int32.toNatClampNeg x1) ∧ S.1 37 (Int32.toNatClampNeg x1) ≤ 60) : MV l yX1_writeLog cX1_writeLog 6 (rm_ 0) D d A a S [.int x1, .int x2, .int x3, .int x4] (m_writeLog S x1 x2 x3 x4) := by
  refine m_startV rfl (Nat.le_of_ble_eq_true rfl) ?_
  intro p e s m av below meth c ls Q X hrt hlk hl hR hQ
  have hx := X.1.1
  have hb := X.1.2.1
  have hown := X.1.2.2.2.1
  have hts := X.1.2.2.2.2
  have hS : va_S A s.heap s.heap [] := va_S.rf
  have hl : lv_has ls 6 [(0, .ref (a 0)), (1, .int x1), (2, .int x2), (3, .int x3), (4, .int x4)] := hl
  refine lv_aload_n hx hb dX1_writeLog_0 rfl (lv_at hl 0 rfl) ?_
  refine mg_a X hR 37 (by decide) (by decide) q1174 dX1_writeLog_1 ?_
  refine lv_iload_n hx hb dX1_writeLog_4 rfl (lv_at hl 1 rfl) ?_
  refine m_ld X hR ⟨by decide, rfl, by decide⟩ (ixl 4 4 (by decide) rfl (ht)) (v := S.1 37 (Int32.toNatClampNeg x1)) rfl dX1_writeLog_5 ?_
  refine lv_bipush (v := 60) hx hb dX1_writeLog_6 (by decide) ?_
  have J6 : ∀ (w5 : MS) (H : Heap) (locs : List Loc) (ls : Array Slot), w5 = (m_writeLog_j66_S S x1) → MR D d A a w5 H → va_S A s.heap H locs → lv_has ls 6 [(0, .ref (a 0)), (1, .int x1), (2, .int x2), (3, .int x3), (4, .int x4)] → W p l e (rm_ 0) s m av below meth c H locs 0 0 Q (F0 m 66 ls []) := by
    intro w5 H locs ls ew5 hR hS hl
    subst ew5
    have hj : 0 ≤ (m_writeLog_j66_S S x1).1 37 (Int32.toNatClampNeg x1) ∧ (m_writeLog_j66_S S x1).1 37 (Int32.toNatClampNeg x1) < 60 := m_writeLog_hj S x1 he
    refine lv_sipush (v := 240) hx hb dX1_writeLog_66 (by decide) ?_
    refine lv_iload_n hx hb dX1_writeLog_69 rfl (lv_at hl 1 rfl) ?_
    refine lv_imul hx hb dX1_writeLog_70 ?_
    refine lv_iconst (v := 4) hx hb dX1_writeLog_71 (by decide) ?_
    refine lv_aload_n hx hb dX1_writeLog_72 rfl (lv_at hl 0 rfl) ?_
    refine mg_a X hR 37 (by decide) (by decide) q1174 dX1_writeLog_73 ?_
    refine lv_iload_n hx hb dX1_writeLog_76 rfl (lv_at hl 1 rfl) ?_
    refine m_ld X hR ⟨by decide, rfl, by decide⟩ (ixl 4 4 (by decide) rfl (ht)) (v := (m_writeLog_j66_S S x1).1 37 (Int32.toNatClampNeg x1)) rfl dX1_writeLog_77 ?_
    refine lv_imul hx hb dX1_writeLog_78 ?_
    refine lv_iadd hx hb dX1_writeLog_79 ?_
    refine lv_istore (lv' := [(5, .int (m_writeLog_v80 S x1)), (0, .ref (a 0)), (1, .int x1), (2, .int x2), (3, .int x3), (4, .int x4)]) hx hb dX1_writeLog_80 hl (by decide) rfl (fun ls hl => ?_)
    refine lv_aload_n hx hb dX1_writeLog_82 rfl (lv_at hl 1 rfl) ?_
    refine mg_a X hR 38 (by decide) (by decide) q1175 dX1_writeLog_83 ?_
    refine lv_iload hx hb dX1_writeLog_86 (lv_at hl 0 rfl) ?_
    refine lv_aload_n hx hb dX1_writeLog_88 rfl (lv_at hl 1 rfl) ?_
    refine mg_i X hR 5 (by decide) rfl q1142 rfl dX1_writeLog_89 ?_
    refine m_st X hR hS ⟨by decide, rfl, by decide⟩ (ixl 960 960 (by decide) rfl (m_writeLog_o7 S x1 ht he hj)) dX1_writeLog_92 (fun H locs hR hS => ?_)
    refine lv_aload_n hx hb dX1_writeLog_93 rfl (lv_at hl 1 rfl) ?_
    refine mg_a X hR 38 (by decide) (by decide) q1175 dX1_writeLog_94 ?_
    refine lv_iload hx hb dX1_writeLog_97 (lv_at hl 0 rfl) ?_
    refine lv_iconst (v := 1) hx hb dX1_writeLog_99 (by decide) ?_
    refine lv_iadd hx hb dX1_writeLog_100 ?_
    refine lv_iload_n hx hb dX1_writeLog_101 rfl (lv_at hl 3 rfl) ?_
    refine m_st X hR hS ⟨by decide, rfl, by decide⟩ (ixl 960 960 (by decide) rfl (m_writeLog_o8 S x1 ht he hj)) dX1_writeLog_102 (fun H locs hR hS => ?_)
    refine lv_aload_n hx hb dX1_writeLog_103 rfl (lv_at hl 1 rfl) ?_
    refine mg_a X hR 38 (by decide) (by decide) q1175 dX1_writeLog_104 ?_
    refine lv_iload hx hb dX1_writeLog_107 (lv_at hl 0 rfl) ?_
    refine lv_iconst (v := 2) hx hb dX1_writeLog_109 (by decide) ?_
    refine lv_iadd hx hb dX1_writeLog_110 ?_
    refine lv_iload_n hx hb dX1_writeLog_111 rfl (lv_at hl 4 rfl) ?_
    refine m_st X hR hS ⟨by decide, rfl, by decide⟩ (ixl 960 960 (by decide) rfl (m_writeLog_o9 S x1 ht he hj)) dX1_writeLog_112 (fun H locs hR hS => ?_)
    refine lv_aload_n hx hb dX1_writeLog_113 rfl (lv_at hl 1 rfl) ?_
    refine mg_a X hR 38 (by decide) (by decide) q1175 dX1_writeLog_114 ?_
    refine lv_iload hx hb dX1_writeLog_117 (lv_at hl 0 rfl) ?_
    refine lv_iconst (v := 3) hx hb dX1_writeLog_119 (by decide) ?_
    refine lv_iadd hx hb dX1_writeLog_120 ?_
    refine lv_iload hx hb dX1_writeLog_121 (lv_at hl 5 rfl) ?_
    refine m_st X hR hS ⟨by decide, rfl, by decide⟩ (ixl 960 960 (by decide) rfl (m_writeLog_o10 S x1 ht he hj)) dX1_writeLog_123 (fun H locs hR hS => ?_)
    refine lv_aload_n hx hb dX1_writeLog_124 rfl (lv_at hl 1 rfl) ?_
    refine mg_a X hR 37 (by decide) (by decide) q1174 dX1_writeLog_125 ?_
    refine lv_iload_n hx hb dX1_writeLog_128 rfl (lv_at hl 2 rfl) ?_
    refine lv_dup2_11 hx hb dX1_writeLog_129 rfl rfl ?_
    refine m_ld X hR ⟨by decide, rfl, by decide⟩ (ixl 4 4 (by decide) rfl (ht)) (v := (m_writeLog_j66_S S x1).1 37 (Int32.toNatClampNeg x1)) ((mu_k _ (by decide) _ _ _).trans ((mu_k _ (by decide) _ _ _).trans ((mu_k _ (by decide) _ _ _).trans ((mu_k _ (by decide) _ _ _).trans rfl)))) dX1_writeLog_130 ?_
    refine lv_iconst (v := 1) hx hb dX1_writeLog_131 (by decide) ?_
    refine lv_iadd hx hb dX1_writeLog_132 ?_
    refine m_st X hR hS ⟨by decide, rfl, by decide⟩ (ixl 4 4 (by decide) rfl (ht)) dX1_writeLog_133 (fun H locs hR hS => ?_)
    exact m_rv hx hb hrt hlk hR hS hQ rfl dX1_writeLog_134
  refine lv_icmp_ne (tgt := 66) hx hb dX1_writeLog_8 (by decide) (fun c1 => ?_) (fun c1 => ?_)
  · exact J6 _ _ _  _ (Eq.symm (if_neg c1)) hR hS  (lv_sub hl [0, 1, 2, 3, 4] rfl)
  · refine lv_iconst (v := 0) hx hb dX1_writeLog_11 (by decide) ?_
    refine lv_istore (lv' := [(5, .int 0), (0, .ref (a 0)), (1, .int x1), (2, .int x2), (3, .int x3), (4, .int x4)]) hx hb dX1_writeLog_12 hl (by decide) rfl (fun ls hl => ?_)
    have K14 : ∀ (H : Heap) (locs : List Loc) (ls : Array Slot), ((m_writeLog_R14 S x1).2.1 37 (Int32.toNatClampNeg x1) = S.1 37 (Int32.toNatClampNeg x1)) → MR D d A a (m_writeLog_R14 S x1).2 H → va_S A s.heap H locs → lv_has ls 6 [(5, .int ((m_writeLog_R14 S x1).1)), (0, .ref (a 0)), (1, .int x1), (2, .int x2), (3, .int x3), (4, .int x4)] → W p l e (rm_ 0) s m av below meth c H locs 0 0 Q (F0 m 56 ls []) := by
      intro H locs ls kp14_0 hR hS hl
      refine lv_aload_n hx hb dX1_writeLog_56 rfl (lv_at hl 1 rfl) ?_
      refine mg_a X hR 37 (by decide) (by decide) q1174 dX1_writeLog_57 ?_
      refine lv_iload_n hx hb dX1_writeLog_60 rfl (lv_at hl 2 rfl) ?_
      refine lv_dup2_11 hx hb dX1_writeLog_61 rfl rfl ?_
      refine m_ld X hR ⟨by decide, rfl, by decide⟩ (ixl 4 4 (by decide) rfl (ht)) (v := (m_writeLog_R14 S x1).2.1 37 (Int32.toNatClampNeg x1)) rfl dX1_writeLog_62 ?_
      refine lv_iconst (v := 1) hx hb dX1_writeLog_63 (by decide) ?_
      refine lv_isub hx hb dX1_writeLog_64 ?_
      refine m_st X hR hS ⟨by decide, rfl, by decide⟩ (ixl 4 4 (by decide) rfl (ht)) dX1_writeLog_65 (fun H locs hR hS => ?_)
      exact J6 _ _ _  _ (Eq.symm (if_pos c1)) hR hS  (lv_sub hl [1, 2, 3, 4, 5] rfl)
    have L14 : ∀ (f14 : Nat) (y5_14 : Int32) (S_14 : MS) (H : Heap) (locs : List Loc) (ls : Array Slot), (236 - y5_14 : Int32).toNatClampNeg < f14 → 0 ≤ y5_14 → S_14.1 37 (Int32.toNatClampNeg x1) = S.1 37 (Int32.toNatClampNeg x1) → m_writeLog_L14 x1 (f14) y5_14 S_14 = (m_writeLog_R14 S x1) → MR D d A a S_14 H → va_S A s.heap H locs → lv_has ls 6 [(5, .int y5_14), (0, .ref (a 0)), (1, .int x1), (2, .int x2), (3, .int x3), (4, .int x4)] → W p l e (rm_ 0) s m av below meth c H locs 0 0 Q (F0 m 14 ls []) := by
      intro f14
      induction f14 with
      | zero => intro y5_14 S_14 H locs ls hf; exact absurd hf (Nat.not_lt_zero _)
      | succ f14 ih =>
        intro y5_14 S_14 H locs ls hf hi5 kp14_0 hE hR hS hl
        refine lv_iload hx hb dX1_writeLog_14 (lv_at hl 0 rfl) ?_
        refine lv_sipush (v := 236) hx hb dX1_writeLog_16 (by decide) ?_
        refine lv_icmp_ge (tgt := 56) hx hb dX1_writeLog_19 (by decide) (fun c2 => ?_) (fun c2 => ?_)
        · have e0 : (m_writeLog_R14 S x1) = (y5_14, S_14) := Eq.trans (Eq.symm hE) (Eq.trans (m_writeLog_L14_s _ _ _ _) (if_pos c2))
          exact K14 _ _ _ (by rw [e0]; exact kp14_0) (by rw [e0]; exact hR) hS (by rw [e0]; exact lv_sub hl [0, 1, 2, 3, 4, 5] rfl)
        · refine lv_aload_n hx hb dX1_writeLog_22 rfl (lv_at hl 1 rfl) ?_
          refine mg_a X hR 38 (by decide) (by decide) q1175 dX1_writeLog_23 ?_
          refine lv_sipush (v := 240) hx hb dX1_writeLog_26 (by decide) ?_
          refine lv_iload_n hx hb dX1_writeLog_29 rfl (lv_at hl 2 rfl) ?_
          refine lv_imul hx hb dX1_writeLog_30 ?_
          refine lv_iload hx hb dX1_writeLog_31 (lv_at hl 0 rfl) ?_
          refine lv_iadd hx hb dX1_writeLog_33 ?_
          refine lv_aload_n hx hb dX1_writeLog_34 rfl (lv_at hl 1 rfl) ?_
          refine mg_a X hR 38 (by decide) (by decide) q1175 dX1_writeLog_35 ?_
          refine lv_sipush (v := 240) hx hb dX1_writeLog_38 (by decide) ?_
          refine lv_iload_n hx hb dX1_writeLog_41 rfl (lv_at hl 2 rfl) ?_
          refine lv_imul hx hb dX1_writeLog_42 ?_
          refine lv_iload hx hb dX1_writeLog_43 (lv_at hl 0 rfl) ?_
          refine lv_iadd hx hb dX1_writeLog_45 ?_
          refine lv_iconst (v := 4) hx hb dX1_writeLog_46 (by decide) ?_
          refine lv_iadd hx hb dX1_writeLog_47 ?_
          refine m_ld X hR ⟨by decide, rfl, by decide⟩ (ixl 960 960 (by decide) rfl (m_writeLog_o3 S x1 y5_14 S_14 ht he c1 hi5 kp14_0 c2)) (v := S_14.1 38 (Int32.toNatClampNeg (((240 * x1) + y5_14) + 4))) rfl dX1_writeLog_48 ?_
          refine m_st X hR hS ⟨by decide, rfl, by decide⟩ (ixl 960 960 (by decide) rfl (m_writeLog_o4 S x1 y5_14 S_14 ht he c1 hi5 kp14_0 c2)) dX1_writeLog_49 (fun H locs hR hS => ?_)
          refine lv_iinc (v := (y5_14 + 1)) (lv' := [(5, .int (y5_14 + 1)), (0, .ref (a 0)), (1, .int x1), (2, .int x2), (3, .int x3), (4, .int x4)]) hx hb dX1_writeLog_50 hl (k := 0) rfl rfl (by decide) rfl (fun ls hl => ?_)
          refine lv_goto (tgt := 14) hx hb dX1_writeLog_53 (by decide) ?_
          exact ih (y5_14 + 1) (mu S_14 38 (Int32.toNatClampNeg ((240 * x1) + y5_14)) (S_14.1 38 (Int32.toNatClampNeg (((240 * x1) + y5_14) + 4)))) _ _  _ (Nat.lt_of_lt_of_le (up_ hi5 (m_writeLog_o12 S x1 y5_14 S_14 ht he c1 hi5 kp14_0 c2)) (Nat.le_of_lt_succ hf)) (m_writeLog_o11 S x1 y5_14 S_14 ht he c1 hi5 kp14_0 c2) (((mu_k _ (by decide) _ _ _).trans rfl).trans kp14_0) (Eq.trans (Eq.symm (Eq.trans (m_writeLog_L14_s _ _ _ _) (if_neg c2))) hE) hR hS (lv_sub hl [0, 1, 2, 3, 4, 5] rfl)
    exact L14 _ 0 S _ _  _ (Nat.lt_succ_self _) (by decide) (rfl) rfl hR hS (lv_sub hl [0, 1, 2, 3, 4, 5] rfl)
theorem m_act_o2 (S : MS) (x1 : Int32) (hI : MInv S) (hc : (0 ≤ S.1 50 0 ∧ S.1 50 0 ≤ 4) ∧ (-9) ≤ S.1 40 0 ∧ S.1 40 0 ≤ 144) (c1 : ¬ (m_in x1 0 ((S.1 40 0) - 1)) = 0) : 0 ≤ x1 ∧ x1 < 144 := by 
  clear hI
  try simp only [m_in_eq] at *
  try simp only [i_le, i_lt, i_eq, Int32.reduceToInt] at *
  first | (have e_0 := s32 (x := (S.1 40 0)) (y := 1) (by (try simp only [Int32.reduceToInt]); omega); (try simp only [Int32.reduceToInt] at e_0)) | skip
  try simp only [Int32.reduceToInt] at *
  omega
def m_act (S : MS) (x1 : Int32) : Int32 := (if (m_in x1 0 ((S.1 40 0) - 1)) = 0 then (-9) else (S.1 41 (Int32.toNatClampNeg x1)))
set_option maxHeartbeats 4000000 in
theorem mt_act (l : Launch) (D : va_G) (d : Nat → ClassId) (A : Nat → Prop) (a : Nat → Nat) (S : MS) (x1 : Int32) (hI : MInv S) : MI l yX1_act cX1_act 2 .int (rm_ 1) D d A a S [.int x1] ((m_act S x1), S) := by
  refine m_startI rfl (Nat.le_of_ble_eq_true rfl) ?_
  intro p e s m av below meth c ls Q X hrt hlk hl hR hQ
  have hx := X.1.1
  have hb := X.1.2.1
  have hown := X.1.2.2.2.1
  have hts := X.1.2.2.2.2
  have hS : va_S A s.heap s.heap [] := va_S.rf
  have hl : lv_has ls 2 [(0, .ref (a 0)), (1, .int x1)] := hl
  have hc : (0 ≤ S.1 50 0 ∧ S.1 50 0 ≤ 4) ∧ (-9) ≤ S.1 40 0 ∧ S.1 40 0 ≤ 144 := mi_c hI
  refine lv_iload_n hx hb dX1_act_0 rfl (lv_at hl 1 rfl) ?_
  refine lv_iconst (v := 0) hx hb dX1_act_1 (by decide) ?_
  refine lv_aload_n hx hb dX1_act_2 rfl (lv_at hl 0 rfl) ?_
  refine mg_i X hR 40 (by decide) rfl q1177 rfl dX1_act_3 ?_
  refine lv_iconst (v := 1) hx hb dX1_act_6 (by decide) ?_
  refine lv_isub hx hb dX1_act_7 ?_
  refine s_ci X.1 (st_m_in l x1 0 ((S.1 40 0) - 1)) 3 (lw_S q1314 q1315 q59 q1316) ⟨rfl, rfl⟩ (by decide +kernel) ⟨by decide, by decide⟩ ⟨by decide, by decide⟩ rfl hl.1 rfl (Nat.le_of_ble_eq_true rfl) dX1_act_8 ?_
  refine lv_if_eq (tgt := 23) hx hb dX1_act_11 (by decide) (fun c1 => ?_) (fun c1 => ?_)
  · refine lv_bipush (v := (-9)) hx hb dX1_act_23 (by decide) ?_
    exact m_ri hx hb hrt (rfl) hlk hR hS hQ (hF1 (if_pos c1)) dX1_act_25
  · refine lv_aload_n hx hb dX1_act_14 rfl (lv_at hl 0 rfl) ?_
    refine mg_a X hR 41 (by decide) (by decide) q1178 dX1_act_15 ?_
    refine lv_iload_n hx hb dX1_act_18 rfl (lv_at hl 1 rfl) ?_
    refine m_ld X hR ⟨by decide, rfl, by decide⟩ (ixl 144 144 (by decide) rfl (m_act_o2 S x1 hI hc c1)) (v := S.1 41 (Int32.toNatClampNeg x1)) rfl dX1_act_19 ?_
    refine lv_goto (tgt := 25) hx hb dX1_act_20 (by decide) ?_
    exact m_ri hx hb hrt (rfl) hlk hR hS hQ (hF1 (if_neg c1)) dX1_act_25
def m_faultTold (S : MS) (x1 : Int32) : Int32 := (if x1 = 0 then (S.1 43 0) else (S.1 44 0))
set_option maxHeartbeats 4000000 in
theorem mt_faultTold (l : Launch) (D : va_G) (d : Nat → ClassId) (A : Nat → Prop) (a : Nat → Nat) (S : MS) (x1 : Int32) : MI l yX1_faultTold cX1_faultTold 2 .int (rm_ 0) D d A a S [.int x1] ((m_faultTold S x1), S) := by
  refine m_startI rfl (Nat.le_of_ble_eq_true rfl) ?_
  intro p e s m av below meth c ls Q X hrt hlk hl hR hQ
  have hx := X.1.1
  have hb := X.1.2.1
  have hown := X.1.2.2.2.1
  have hts := X.1.2.2.2.2
  have hS : va_S A s.heap s.heap [] := va_S.rf
  have hl : lv_has ls 2 [(0, .ref (a 0)), (1, .int x1)] := hl
  refine lv_iload_n hx hb dX1_faultTold_0 rfl (lv_at hl 1 rfl) ?_
  refine lv_if_eq (tgt := 11) hx hb dX1_faultTold_1 (by decide) (fun c1 => ?_) (fun c1 => ?_)
  · refine lv_aload_n hx hb dX1_faultTold_11 rfl (lv_at hl 0 rfl) ?_
    refine mg_i X hR 43 (by decide) rfl q1180 rfl dX1_faultTold_12 ?_
    exact m_ri hx hb hrt (rfl) hlk hR hS hQ (hF1 (if_pos c1)) dX1_faultTold_15
  · refine lv_aload_n hx hb dX1_faultTold_4 rfl (lv_at hl 0 rfl) ?_
    refine mg_i X hR 44 (by decide) rfl q1181 rfl dX1_faultTold_5 ?_
    refine lv_goto (tgt := 15) hx hb dX1_faultTold_8 (by decide) ?_
    exact m_ri hx hb hrt (rfl) hlk hR hS hQ (hF1 (if_neg c1)) dX1_faultTold_15
theorem m_chosen_o2 (S : MS) (x1 : Int32) (hI : MInv S) (hc : (0 ≤ S.1 50 0 ∧ S.1 50 0 ≤ 4) ∧ (-9) ≤ S.1 40 0 ∧ S.1 40 0 ≤ 144) (c1 : ¬ (m_in x1 0 ((S.1 50 0) - 1)) = 0) : 0 ≤ x1 ∧ x1 < 4 := by 
  clear hI
  try simp only [m_in_eq] at *
  try simp only [i_le, i_lt, i_eq, Int32.reduceToInt] at *
  first | (have e_0 := s32 (x := (S.1 50 0)) (y := 1) (by (try simp only [Int32.reduceToInt]); omega); (try simp only [Int32.reduceToInt] at e_0)) | skip
  try simp only [Int32.reduceToInt] at *
  omega
def m_chosen (S : MS) (x1 : Int32) : Int32 := (if (m_in x1 0 ((S.1 50 0) - 1)) = 0 then (-9) else (S.1 51 (Int32.toNatClampNeg x1)))
set_option maxHeartbeats 4000000 in
theorem mt_chosen (l : Launch) (D : va_G) (d : Nat → ClassId) (A : Nat → Prop) (a : Nat → Nat) (S : MS) (x1 : Int32) (hI : MInv S) : MI l yX1_chosen cX1_chosen 2 .int (rm_ 1) D d A a S [.int x1] ((m_chosen S x1), S) := by
  refine m_startI rfl (Nat.le_of_ble_eq_true rfl) ?_
  intro p e s m av below meth c ls Q X hrt hlk hl hR hQ
  have hx := X.1.1
  have hb := X.1.2.1
  have hown := X.1.2.2.2.1
  have hts := X.1.2.2.2.2
  have hS : va_S A s.heap s.heap [] := va_S.rf
  have hl : lv_has ls 2 [(0, .ref (a 0)), (1, .int x1)] := hl
  have hc : (0 ≤ S.1 50 0 ∧ S.1 50 0 ≤ 4) ∧ (-9) ≤ S.1 40 0 ∧ S.1 40 0 ≤ 144 := mi_c hI
  refine lv_iload_n hx hb dX1_chosen_0 rfl (lv_at hl 1 rfl) ?_
  refine lv_iconst (v := 0) hx hb dX1_chosen_1 (by decide) ?_
  refine lv_aload_n hx hb dX1_chosen_2 rfl (lv_at hl 0 rfl) ?_
  refine mg_i X hR 50 (by decide) rfl q1187 rfl dX1_chosen_3 ?_
  refine lv_iconst (v := 1) hx hb dX1_chosen_6 (by decide) ?_
  refine lv_isub hx hb dX1_chosen_7 ?_
  refine s_ci X.1 (st_m_in l x1 0 ((S.1 50 0) - 1)) 3 (lw_S q1314 q1315 q59 q1316) ⟨rfl, rfl⟩ (by decide +kernel) ⟨by decide, by decide⟩ ⟨by decide, by decide⟩ rfl hl.1 rfl (Nat.le_of_ble_eq_true rfl) dX1_chosen_8 ?_
  refine lv_if_eq (tgt := 23) hx hb dX1_chosen_11 (by decide) (fun c1 => ?_) (fun c1 => ?_)
  · refine lv_bipush (v := (-9)) hx hb dX1_chosen_23 (by decide) ?_
    exact m_ri hx hb hrt (rfl) hlk hR hS hQ (hF1 (if_pos c1)) dX1_chosen_25
  · refine lv_aload_n hx hb dX1_chosen_14 rfl (lv_at hl 0 rfl) ?_
    refine mg_a X hR 51 (by decide) (by decide) q1188 dX1_chosen_15 ?_
    refine lv_iload_n hx hb dX1_chosen_18 rfl (lv_at hl 1 rfl) ?_
    refine m_ld X hR ⟨by decide, rfl, by decide⟩ (ixl 4 4 (by decide) rfl (m_chosen_o2 S x1 hI hc c1)) (v := S.1 51 (Int32.toNatClampNeg x1)) rfl dX1_chosen_19 ?_
    refine lv_goto (tgt := 25) hx hb dX1_chosen_20 (by decide) ?_
    exact m_ri hx hb hrt (rfl) hlk hR hS hQ (hF1 (if_neg c1)) dX1_chosen_25
def m_asked (S : MS) : Int32 := (S.1 2 0)
set_option maxHeartbeats 4000000 in
theorem mt_asked (l : Launch) (D : va_G) (d : Nat → ClassId) (A : Nat → Prop) (a : Nat → Nat) (S : MS) : MI l yX1_asked cX1_asked 1 .int (rm_ 0) D d A a S [] ((m_asked S), S) := by
  refine m_startI rfl (Nat.le_of_ble_eq_true rfl) ?_
  intro p e s m av below meth c ls Q X hrt hlk hl hR hQ
  have hx := X.1.1
  have hb := X.1.2.1
  have hown := X.1.2.2.2.1
  have hts := X.1.2.2.2.2
  have hS : va_S A s.heap s.heap [] := va_S.rf
  have hl : lv_has ls 1 [(0, .ref (a 0))] := hl
  refine lv_aload_n hx hb dX1_asked_0 rfl (lv_at hl 0 rfl) ?_
  refine mg_i X hR 2 (by decide) rfl q1139 rfl dX1_asked_1 ?_
  exact m_ri hx hb hrt (rfl) hlk hR hS hQ (hF1 rfl) dX1_asked_4
def m_upper (S : MS) : Int64 := (S.2 3)
set_option maxHeartbeats 4000000 in
theorem mt_upper (l : Launch) (D : va_G) (d : Nat → ClassId) (A : Nat → Prop) (a : Nat → Nat) (S : MS) : ML l yX1_upper cX1_upper 1 (rm_ 0) D d A a S [] ((m_upper S), S) := by
  refine m_startL rfl (Nat.le_of_ble_eq_true rfl) ?_
  intro p e s m av below meth c ls Q X hrt hlk hl hR hQ
  have hx := X.1.1
  have hb := X.1.2.1
  have hown := X.1.2.2.2.1
  have hts := X.1.2.2.2.2
  have hS : va_S A s.heap s.heap [] := va_S.rf
  have hl : lv_has ls 1 [(0, .ref (a 0))] := hl
  refine lv_aload_n hx hb dX1_upper_0 rfl (lv_at hl 0 rfl) ?_
  refine mg_l X hR 3 (by decide) rfl q1140 (v := S.2 3) rfl dX1_upper_1 ?_
  exact m_rl hx hb hrt hlk hR hS hQ (hF1 rfl) dX1_upper_4
def m_lower (S : MS) : Int64 := (S.2 4)
set_option maxHeartbeats 4000000 in
theorem mt_lower (l : Launch) (D : va_G) (d : Nat → ClassId) (A : Nat → Prop) (a : Nat → Nat) (S : MS) : ML l yX1_lower cX1_lower 1 (rm_ 0) D d A a S [] ((m_lower S), S) := by
  refine m_startL rfl (Nat.le_of_ble_eq_true rfl) ?_
  intro p e s m av below meth c ls Q X hrt hlk hl hR hQ
  have hx := X.1.1
  have hb := X.1.2.1
  have hown := X.1.2.2.2.1
  have hts := X.1.2.2.2.2
  have hS : va_S A s.heap s.heap [] := va_S.rf
  have hl : lv_has ls 1 [(0, .ref (a 0))] := hl
  refine lv_aload_n hx hb dX1_lower_0 rfl (lv_at hl 0 rfl) ?_
  refine mg_l X hR 4 (by decide) rfl q1141 (v := S.2 4) rfl dX1_lower_1 ?_
  exact m_rl hx hb hrt hlk hR hS hQ (hF1 rfl) dX1_lower_4
def m_finding (S : MS) : Int32 := (S.1 0 0)
set_option maxHeartbeats 4000000 in
theorem mt_finding (l : Launch) (D : va_G) (d : Nat → ClassId) (A : Nat → Prop) (a : Nat → Nat) (S : MS) : MI l yX1_finding cX1_finding 1 .int (rm_ 0) D d A a S [] ((m_finding S), S) := by
  refine m_startI rfl (Nat.le_of_ble_eq_true rfl) ?_
  intro p e s m av below meth c ls Q X hrt hlk hl hR hQ
  have hx := X.1.1
  have hb := X.1.2.1
  have hown := X.1.2.2.2.1
  have hts := X.1.2.2.2.2
  have hS : va_S A s.heap s.heap [] := va_S.rf
  have hl : lv_has ls 1 [(0, .ref (a 0))] := hl
  refine lv_aload_n hx hb dX1_finding_0 rfl (lv_at hl 0 rfl) ?_
  refine mg_i X hR 0 (by decide) rfl q1137 rfl dX1_finding_1 ?_
  exact m_ri hx hb hrt (rfl) hlk hR hS hQ (hF1 rfl) dX1_finding_4
theorem m_findings_o2 (x1 : Int32) (c1 : ¬ (m_in x1 1 5) = 0) : 0 ≤ x1 ∧ x1 < 6 := by 
  try simp only [m_in_eq] at *
  try simp only [i_le, i_lt, i_eq, Int32.reduceToInt] at *
  try simp only [Int32.reduceToInt] at *
  omega
def m_findings (S : MS) (x1 : Int32) : Int32 := (if (m_in x1 1 5) = 0 then (-1) else (S.1 1 (Int32.toNatClampNeg x1)))
set_option maxHeartbeats 4000000 in
theorem mt_findings (l : Launch) (D : va_G) (d : Nat → ClassId) (A : Nat → Prop) (a : Nat → Nat) (S : MS) (x1 : Int32) : MI l yX1_findings cX1_findings 2 .int (rm_ 1) D d A a S [.int x1] ((m_findings S x1), S) := by
  refine m_startI rfl (Nat.le_of_ble_eq_true rfl) ?_
  intro p e s m av below meth c ls Q X hrt hlk hl hR hQ
  have hx := X.1.1
  have hb := X.1.2.1
  have hown := X.1.2.2.2.1
  have hts := X.1.2.2.2.2
  have hS : va_S A s.heap s.heap [] := va_S.rf
  have hl : lv_has ls 2 [(0, .ref (a 0)), (1, .int x1)] := hl
  refine lv_iload_n hx hb dX1_findings_0 rfl (lv_at hl 1 rfl) ?_
  refine lv_iconst (v := 1) hx hb dX1_findings_1 (by decide) ?_
  refine lv_iconst (v := 5) hx hb dX1_findings_2 (by decide) ?_
  refine s_ci X.1 (st_m_in l x1 1 5) 3 (lw_S q1314 q1315 q59 q1316) ⟨rfl, rfl⟩ (by decide +kernel) ⟨by decide, by decide⟩ ⟨by decide, by decide⟩ rfl hl.1 rfl (Nat.le_of_ble_eq_true rfl) dX1_findings_3 ?_
  refine lv_if_eq (tgt := 18) hx hb dX1_findings_6 (by decide) (fun c1 => ?_) (fun c1 => ?_)
  · refine lv_iconst (v := (-1)) hx hb dX1_findings_18 (by decide) ?_
    exact m_ri hx hb hrt (rfl) hlk hR hS hQ (hF1 (if_pos c1)) dX1_findings_19
  · refine lv_aload_n hx hb dX1_findings_9 rfl (lv_at hl 0 rfl) ?_
    refine mg_a X hR 1 (by decide) (by decide) q1138 dX1_findings_10 ?_
    refine lv_iload_n hx hb dX1_findings_13 rfl (lv_at hl 1 rfl) ?_
    refine m_ld X hR ⟨by decide, rfl, by decide⟩ (ixl 6 6 (by decide) rfl (m_findings_o2 x1 c1)) (v := S.1 1 (Int32.toNatClampNeg x1)) rfl dX1_findings_14 ?_
    refine lv_goto (tgt := 19) hx hb dX1_findings_15 (by decide) ?_
    exact m_ri hx hb hrt (rfl) hlk hR hS hQ (hF1 (if_neg c1)) dX1_findings_19
def m_due (S : MS) (x1 : Int32) (x2 : Int32) (x3 : Int32) (x4 : Int32) (x5 : Int32) : Int32 := (if (m_in x1 1 12) = 0 then (-1) else (if (m_in x2 0 47) = 0 then (-1) else (if (m_isFault x3 x4 x5) = 0 then (-1) else (m_dueAt x1 x2 x3 x4 x5))))
set_option maxHeartbeats 4000000 in
theorem mt_due (l : Launch) (D : va_G) (d : Nat → ClassId) (A : Nat → Prop) (a : Nat → Nat) (S : MS) (x1 : Int32) (x2 : Int32) (x3 : Int32) (x4 : Int32) (x5 : Int32) : MI l yX1_due cX1_due 6 .int (rm_ 2) D d A a S [.int x1, .int x2, .int x3, .int x4, .int x5] ((m_due S x1 x2 x3 x4 x5), S) := by
  refine m_startI rfl (Nat.le_of_ble_eq_true rfl) ?_
  intro p e s m av below meth c ls Q X hrt hlk hl hR hQ
  have hx := X.1.1
  have hb := X.1.2.1
  have hown := X.1.2.2.2.1
  have hts := X.1.2.2.2.2
  have hS : va_S A s.heap s.heap [] := va_S.rf
  have hl : lv_has ls 6 [(0, .ref (a 0)), (1, .int x1), (2, .int x2), (3, .int x3), (4, .int x4), (5, .int x5)] := hl
  refine lv_iload_n hx hb dX1_due_0 rfl (lv_at hl 1 rfl) ?_
  refine lv_iconst (v := 1) hx hb dX1_due_1 (by decide) ?_
  refine lv_bipush (v := 12) hx hb dX1_due_2 (by decide) ?_
  refine s_ci X.1 (st_m_in l x1 1 12) 3 (lw_S q1314 q1315 q59 q1316) ⟨rfl, rfl⟩ (by decide +kernel) ⟨by decide, by decide⟩ ⟨by decide, by decide⟩ rfl hl.1 rfl (Nat.le_of_ble_eq_true rfl) dX1_due_4 ?_
  refine lv_if_eq (tgt := 44) hx hb dX1_due_7 (by decide) (fun c1 => ?_) (fun c1 => ?_)
  · refine lv_iconst (v := (-1)) hx hb dX1_due_44 (by decide) ?_
    exact m_ri hx hb hrt (rfl) hlk hR hS hQ (hF1 (if_pos c1)) dX1_due_45
  · refine lv_iload_n hx hb dX1_due_10 rfl (lv_at hl 2 rfl) ?_
    refine lv_iconst (v := 0) hx hb dX1_due_11 (by decide) ?_
    refine lv_bipush (v := 47) hx hb dX1_due_12 (by decide) ?_
    refine s_ci X.1 (st_m_in l x2 0 47) 3 (lw_S q1314 q1315 q59 q1316) ⟨rfl, rfl⟩ (by decide +kernel) ⟨by decide, by decide⟩ ⟨by decide, by decide⟩ rfl hl.1 rfl (Nat.le_of_ble_eq_true rfl) dX1_due_14 ?_
    refine lv_if_eq (tgt := 44) hx hb dX1_due_17 (by decide) (fun c2 => ?_) (fun c2 => ?_)
    · refine lv_iconst (v := (-1)) hx hb dX1_due_44 (by decide) ?_
      exact m_ri hx hb hrt (rfl) hlk hR hS hQ (hF1 (Eq.trans (if_neg c1) (if_pos c2))) dX1_due_45
    · refine lv_iload_n hx hb dX1_due_20 rfl (lv_at hl 3 rfl) ?_
      refine lv_iload hx hb dX1_due_21 (lv_at hl 4 rfl) ?_
      refine lv_iload hx hb dX1_due_23 (lv_at hl 5 rfl) ?_
      refine s_ci X.1 (st_m_isFault l x3 x4 x5) 3 (lw_S q1608 q1609 q59 q1610) ⟨rfl, rfl⟩ (by decide +kernel) ⟨by decide, by decide⟩ ⟨by decide, by decide⟩ rfl hl.1 rfl (Nat.le_of_ble_eq_true rfl) dX1_due_25 ?_
      refine lv_if_eq (tgt := 44) hx hb dX1_due_28 (by decide) (fun c3 => ?_) (fun c3 => ?_)
      · refine lv_iconst (v := (-1)) hx hb dX1_due_44 (by decide) ?_
        exact m_ri hx hb hrt (rfl) hlk hR hS hQ (hF1 (Eq.trans (if_neg c1) (Eq.trans (if_neg c2) (if_pos c3)))) dX1_due_45
      · refine lv_iload_n hx hb dX1_due_31 rfl (lv_at hl 1 rfl) ?_
        refine lv_iload_n hx hb dX1_due_32 rfl (lv_at hl 2 rfl) ?_
        refine lv_iload_n hx hb dX1_due_33 rfl (lv_at hl 3 rfl) ?_
        refine lv_iload hx hb dX1_due_34 (lv_at hl 4 rfl) ?_
        refine lv_iload hx hb dX1_due_36 (lv_at hl 5 rfl) ?_
        refine s_ci X.1 (st_m_dueAt l x1 x2 x3 x4 x5) 5 (lw_S q1611 q1612 q59 q1613) ⟨rfl, rfl⟩ (by decide +kernel) ⟨by decide, by decide⟩ ⟨by decide, by decide⟩ rfl hl.1 rfl (Nat.le_of_ble_eq_true rfl) dX1_due_38 ?_
        refine lv_goto (tgt := 45) hx hb dX1_due_41 (by decide) ?_
        exact m_ri hx hb hrt (rfl) hlk hR hS hQ (hF1 (Eq.trans (if_neg c1) (Eq.trans (if_neg c2) (if_neg c3)))) dX1_due_45
theorem m_wheel_o3 (S : MS) (x1 : Int32) (hI : MInv S) (hw : 0 ≤ S.1 48 0 ∧ S.1 48 0 ≤ 12) (c1 : ¬ (m_in x1 6 200) = 0) (c2 : ¬ (S.1 48 0) = 12) : 0 ≤ (S.1 48 0) ∧ (S.1 48 0) < 12 := by 
  clear hI
  try simp only [m_in_eq] at *
  try simp only [i_le, i_lt, i_eq, Int32.reduceToInt] at *
  try simp only [Int32.reduceToInt] at *
  omega
def m_wheel (S : MS) (x1 : Int32) : Int32 × MS := (if (m_in x1 6 200) = 0 then ((-1), S) else (if (S.1 48 0) = 12 then ((-2), S) else ((((S.1 48 0) + 1) - 1), (mu (mu S 49 (Int32.toNatClampNeg (S.1 48 0)) x1) 48 0 ((S.1 48 0) + 1)))))
set_option maxHeartbeats 4000000 in
theorem mt_wheel (l : Launch) (D : va_G) (d : Nat → ClassId) (A : Nat → Prop) (a : Nat → Nat) (S : MS) (x1 : Int32) (hI : MInv S) : MI l yX1_wheel cX1_wheel 2 .int (rm_ 1) D d A a S [.int x1] (m_wheel S x1) := by
  refine m_startI rfl (Nat.le_of_ble_eq_true rfl) ?_
  intro p e s m av below meth c ls Q X hrt hlk hl hR hQ
  have hx := X.1.1
  have hb := X.1.2.1
  have hown := X.1.2.2.2.1
  have hts := X.1.2.2.2.2
  have hS : va_S A s.heap s.heap [] := va_S.rf
  have hl : lv_has ls 2 [(0, .ref (a 0)), (1, .int x1)] := hl
  have hw : 0 ≤ S.1 48 0 ∧ S.1 48 0 ≤ 12 := mi_w hI
  refine lv_iload_n hx hb dX1_wheel_0 rfl (lv_at hl 1 rfl) ?_
  refine lv_bipush (v := 6) hx hb dX1_wheel_1 (by decide) ?_
  refine lv_sipush (v := 200) hx hb dX1_wheel_3 (by decide) ?_
  refine s_ci X.1 (st_m_in l x1 6 200) 3 (lw_S q1314 q1315 q59 q1316) ⟨rfl, rfl⟩ (by decide +kernel) ⟨by decide, by decide⟩ ⟨by decide, by decide⟩ rfl hl.1 rfl (Nat.le_of_ble_eq_true rfl) dX1_wheel_6 ?_
  refine lv_if_ne (tgt := 14) hx hb dX1_wheel_9 (by decide) (fun c1 => ?_) (fun c1 => ?_)
  · refine lv_aload_n hx hb dX1_wheel_14 rfl (lv_at hl 0 rfl) ?_
    refine mg_i X hR 48 (by decide) rfl q1185 rfl dX1_wheel_15 ?_
    refine lv_bipush (v := 12) hx hb dX1_wheel_18 (by decide) ?_
    refine lv_icmp_ne (tgt := 26) hx hb dX1_wheel_20 (by decide) (fun c2 => ?_) (fun c2 => ?_)
    · refine lv_aload_n hx hb dX1_wheel_26 rfl (lv_at hl 0 rfl) ?_
      refine mg_a X hR 49 (by decide) (by decide) q1186 dX1_wheel_27 ?_
      refine lv_aload_n hx hb dX1_wheel_30 rfl (lv_at hl 0 rfl) ?_
      refine mg_i X hR 48 (by decide) rfl q1185 rfl dX1_wheel_31 ?_
      refine lv_iload_n hx hb dX1_wheel_34 rfl (lv_at hl 1 rfl) ?_
      refine m_st X hR hS ⟨by decide, rfl, by decide⟩ (ixl 12 12 (by decide) rfl (m_wheel_o3 S x1 hI hw c1 c2)) dX1_wheel_35 (fun H locs hR hS => ?_)
      refine lv_aload_n hx hb dX1_wheel_36 rfl (lv_at hl 0 rfl) ?_
      refine lv_dup hx hb dX1_wheel_37 rfl ?_
      refine mg_i X hR 48 (by decide) rfl q1185 ((mu_k _ (by decide) _ _ _).trans rfl) dX1_wheel_38 ?_
      refine lv_iconst (v := 1) hx hb dX1_wheel_41 (by decide) ?_
      refine lv_iadd hx hb dX1_wheel_42 ?_
      refine mp_i X hR hS 48 (by decide) rfl rfl rfl q1185 dX1_wheel_43 (fun H locs hR hS => ?_)
      refine lv_aload_n hx hb dX1_wheel_46 rfl (lv_at hl 0 rfl) ?_
      refine mg_i X hR 48 (by decide) rfl q1185 (mu_self _ _ _ _) dX1_wheel_47 ?_
      refine lv_iconst (v := 1) hx hb dX1_wheel_50 (by decide) ?_
      refine lv_isub hx hb dX1_wheel_51 ?_
      exact m_ri hx hb hrt (rfl) hlk hR hS hQ (Eq.trans (if_neg c1) (if_neg c2)) dX1_wheel_52
    · refine lv_bipush (v := (-2)) hx hb dX1_wheel_23 (by decide) ?_
      exact m_ri hx hb hrt (rfl) hlk hR hS hQ (Eq.trans (if_neg c1) (if_pos c2)) dX1_wheel_25
  · refine lv_iconst (v := (-1)) hx hb dX1_wheel_12 (by decide) ?_
    exact m_ri hx hb hrt (rfl) hlk hR hS hQ (if_pos c1) dX1_wheel_13
