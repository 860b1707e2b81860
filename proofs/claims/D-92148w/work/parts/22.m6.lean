/-! PRINTED by gen/run_m4.py -/
set_option maxRecDepth 100000
theorem m_notch_o2 (S : MS) (x1 : Int32) (x2 : Int32) (hI : MInv S) (hn : ¬ (m_isTrain S x1) = 0 → 0 ≤ x1 ∧ x1 < 16) (hm : 0 ≤ x1 ∧ x1 < 16 → 0 ≤ S.1 11 (Int32.toNatClampNeg x1) ∧ S.1 11 (Int32.toNatClampNeg x1) ≤ 3 ∧ 0 ≤ S.1 12 (Int32.toNatClampNeg x1) ∧ S.1 12 (Int32.toNatClampNeg x1) ≤ 24 ∧ (S.1 11 (Int32.toNatClampNeg x1) = 0 ∨ 1 ≤ S.1 12 (Int32.toNatClampNeg x1)) ∧ 0 ≤ S.1 14 (Int32.toNatClampNeg x1) ∧ (S.1 14 (Int32.toNatClampNeg x1) < S.1 12 (Int32.toNatClampNeg x1) ∨ S.1 14 (Int32.toNatClampNeg x1) = 0)) (c1 : 0 ≤ (m_askedNotch S x1 x2).1) (okc1_0 : 0 ≤ x1 ∧ x1 < 16) (okc1_1 : 0 ≤ x2 ∧ x2 < S.1 12 (Int32.toNatClampNeg x1)) : 0 ≤ ((24 * x1) + x2) ∧ ((24 * x1) + x2) < 384 := by 
  clear hI
  try simp only [i_le, i_lt, i_eq, Int32.reduceToInt] at *
  first | (have e_0 := m32 (x := 24) (y := x1) (by (try simp only [Int32.reduceToInt]); omega); (try simp only [Int32.reduceToInt] at e_0)) | skip
  first | (have e_1 := a32 (x := (24 * x1)) (y := x2) (by (try simp only [Int32.reduceToInt]); omega); (try simp only [Int32.reduceToInt] at e_1)) | skip
  try simp only [Int32.reduceToInt] at *
  omega
def m_notch (S : MS) (x1 : Int32) (x2 : Int32) : Int32 × MS := (if 0 ≤ (m_askedNotch S x1 x2).1 then ((S.1 13 (Int32.toNatClampNeg ((24 * x1) + x2))), S) else ((m_askedNotch S x1 x2).1, (m_askedNotch S x1 x2).2))
set_option maxHeartbeats 4000000 in
theorem mt_notch (l : Launch) (D : va_G) (d : Nat → ClassId) (A : Nat → Prop) (a : Nat → Nat) (S : MS) (x1 : Int32) (x2 : Int32) (hI : MInv S) : MI l yX1_notch cX1_notch 4 .int (rm_ 3) D d A a S [.int x1, .int x2] (m_notch S x1 x2) := by
  refine m_startI rfl (Nat.le_of_ble_eq_true rfl) ?_
  intro p e s m av below meth c ls Q X hrt hlk hl hR hQ
  have hx := X.1.1
  have hb := X.1.2.1
  have hown := X.1.2.2.2.1
  have hts := X.1.2.2.2.2
  have hS : va_S A s.heap s.heap [] := va_S.rf
  have hl : lv_has ls 4 [(0, .ref (a 0)), (1, .int x1), (2, .int x2)] := hl
  have hn : ¬ (m_isTrain S x1) = 0 → 0 ≤ x1 ∧ x1 < 16 := isTrain_ok hI
  have hm : 0 ≤ x1 ∧ x1 < 16 → 0 ≤ S.1 11 (Int32.toNatClampNeg x1) ∧ S.1 11 (Int32.toNatClampNeg x1) ≤ 3 ∧ 0 ≤ S.1 12 (Int32.toNatClampNeg x1) ∧ S.1 12 (Int32.toNatClampNeg x1) ≤ 24 ∧ (S.1 11 (Int32.toNatClampNeg x1) = 0 ∨ 1 ≤ S.1 12 (Int32.toNatClampNeg x1)) ∧ 0 ≤ S.1 14 (Int32.toNatClampNeg x1) ∧ (S.1 14 (Int32.toNatClampNeg x1) < S.1 12 (Int32.toNatClampNeg x1) ∨ S.1 14 (Int32.toNatClampNeg x1) = 0) := mi_n hI
  refine lv_aload_n hx hb dX1_notch_0 rfl (lv_at hl 0 rfl) ?_
  refine lv_iload_n hx hb dX1_notch_1 rfl (lv_at hl 1 rfl) ?_
  refine lv_iload_n hx hb dX1_notch_2 rfl (lv_at hl 2 rfl) ?_
  refine m_ci X hR hS (mt_askedNotch l D d A a S x1 x2 (hI)) 2 (lw_V q1410 q1412 qs32 q59 q1413) ⟨rfl, rfl⟩ (by decide +kernel) ⟨by decide, by decide⟩ ⟨by decide, by decide⟩ rfl hl.1 rfl (Nat.le_of_ble_eq_true rfl) dX1_notch_3 (fun H locs hR hS => ?_)
  refine lv_istore_n (lv' := [(3, .int ((m_askedNotch S x1 x2).1)), (0, .ref (a 0)), (1, .int x1), (2, .int x2)]) hx hb dX1_notch_6 rfl hl (by decide) rfl (fun ls hl => ?_)
  refine lv_iload_n hx hb dX1_notch_7 rfl (lv_at hl 0 rfl) ?_
  refine lv_if_ge (tgt := 15) hx hb dX1_notch_8 (by decide) (fun c1 => ?_) (fun c1 => ?_)
  · have okc1 := m_askedNotch_ok S x1 x2 hI c1
    have hR : MR D d A a S H := okc1.1 ▸ hR
    have okc1_0 : 0 ≤ x1 ∧ x1 < 16 := okc1.2.1
    have okc1_1 : 0 ≤ x2 ∧ x2 < S.1 12 (Int32.toNatClampNeg x1) := okc1.2.2
    refine lv_aload_n hx hb dX1_notch_15 rfl (lv_at hl 1 rfl) ?_
    refine mg_a X hR 13 (by decide) (by decide) q1150 dX1_notch_16 ?_
    refine lv_bipush (v := 24) hx hb dX1_notch_19 (by decide) ?_
    refine lv_iload_n hx hb dX1_notch_21 rfl (lv_at hl 2 rfl) ?_
    refine lv_imul hx hb dX1_notch_22 ?_
    refine lv_iload_n hx hb dX1_notch_23 rfl (lv_at hl 3 rfl) ?_
    refine lv_iadd hx hb dX1_notch_24 ?_
    refine m_ld X hR ⟨by decide, rfl, by decide⟩ (ixl 384 384 (by decide) rfl (m_notch_o2 S x1 x2 hI hn hm c1 okc1_0 okc1_1)) (v := S.1 13 (Int32.toNatClampNeg ((24 * x1) + x2))) rfl dX1_notch_25 ?_
    exact m_ri hx hb hrt (rfl) hlk hR hS hQ (if_pos c1) dX1_notch_26
  · refine lv_iload_n hx hb dX1_notch_11 rfl (lv_at hl 0 rfl) ?_
    refine lv_goto (tgt := 26) hx hb dX1_notch_12 (by decide) ?_
    exact m_ri hx hb hrt (rfl) hlk hR hS hQ (if_neg c1) dX1_notch_26
theorem m_cut_o3 (S : MS) (x1 : Int32) (x2 : Int32) (x3 : Int32) (hI : MInv S) (hn : ¬ (m_isTrain S x1) = 0 → 0 ≤ x1 ∧ x1 < 16) (hm : 0 ≤ x1 ∧ x1 < 16 → 0 ≤ S.1 11 (Int32.toNatClampNeg x1) ∧ S.1 11 (Int32.toNatClampNeg x1) ≤ 3 ∧ 0 ≤ S.1 12 (Int32.toNatClampNeg x1) ∧ S.1 12 (Int32.toNatClampNeg x1) ≤ 24 ∧ (S.1 11 (Int32.toNatClampNeg x1) = 0 ∨ 1 ≤ S.1 12 (Int32.toNatClampNeg x1)) ∧ 0 ≤ S.1 14 (Int32.toNatClampNeg x1) ∧ (S.1 14 (Int32.toNatClampNeg x1) < S.1 12 (Int32.toNatClampNeg x1) ∨ S.1 14 (Int32.toNatClampNeg x1) = 0)) (c1 : ¬ (m_in x3 1 24) = 0) (c2 : 0 ≤ (m_askedNotch S x1 x2).1) (okc2_0 : 0 ≤ x1 ∧ x1 < 16) (okc2_1 : 0 ≤ x2 ∧ x2 < S.1 12 (Int32.toNatClampNeg x1)) : 0 ≤ ((24 * x1) + x2) ∧ ((24 * x1) + x2) < 384 := by 
  clear hI
  try simp only [m_in_eq] at *
  try simp only [i_le, i_lt, i_eq, Int32.reduceToInt] at *
  first | (have e_0 := m32 (x := 24) (y := x1) (by (try simp only [Int32.reduceToInt]); omega); (try simp only [Int32.reduceToInt] at e_0)) | skip
  first | (have e_1 := a32 (x := (24 * x1)) (y := x2) (by (try simp only [Int32.reduceToInt]); omega); (try simp only [Int32.reduceToInt] at e_1)) | skip
  try simp only [Int32.reduceToInt] at *
  omega
def m_cut_v39 (S : MS) (x1 : Int32) (x2 : Int32) : Int32 := (S.1 13 (Int32.toNatClampNeg ((24 * x1) + x2)))
def m_cut (S : MS) (x1 : Int32) (x2 : Int32) (x3 : Int32) : Int32 × MS := (if (m_in x3 1 24) = 0 then ((-1), S) else (if 0 ≤ (m_askedNotch S x1 x2).1 then ((m_cut_v39 S x1 x2), (mu S 13 (Int32.toNatClampNeg ((24 * x1) + x2)) x3)) else ((m_askedNotch S x1 x2).1, (m_askedNotch S x1 x2).2)))
set_option maxHeartbeats 4000000 in
theorem mt_cut (l : Launch) (D : va_G) (d : Nat → ClassId) (A : Nat → Prop) (a : Nat → Nat) (S : MS) (x1 : Int32) (x2 : Int32) (x3 : Int32) (hI : MInv S) : MI l yX1_cut cX1_cut 6 .int (rm_ 3) D d A a S [.int x1, .int x2, .int x3] (m_cut S x1 x2 x3) := by
  refine m_startI rfl (Nat.le_of_ble_eq_true rfl) ?_
  intro p e s m av below meth c ls Q X hrt hlk hl hR hQ
  have hx := X.1.1
  have hb := X.1.2.1
  have hown := X.1.2.2.2.1
  have hts := X.1.2.2.2.2
  have hS : va_S A s.heap s.heap [] := va_S.rf
  have hl : lv_has ls 6 [(0, .ref (a 0)), (1, .int x1), (2, .int x2), (3, .int x3)] := hl
  have hn : ¬ (m_isTrain S x1) = 0 → 0 ≤ x1 ∧ x1 < 16 := isTrain_ok hI
  have hm : 0 ≤ x1 ∧ x1 < 16 → 0 ≤ S.1 11 (Int32.toNatClampNeg x1) ∧ S.1 11 (Int32.toNatClampNeg x1) ≤ 3 ∧ 0 ≤ S.1 12 (Int32.toNatClampNeg x1) ∧ S.1 12 (Int32.toNatClampNeg x1) ≤ 24 ∧ (S.1 11 (Int32.toNatClampNeg x1) = 0 ∨ 1 ≤ S.1 12 (Int32.toNatClampNeg x1)) ∧ 0 ≤ S.1 14 (Int32.toNatClampNeg x1) ∧ (S.1 14 (Int32.toNatClampNeg x1) < S.1 12 (Int32.toNatClampNeg x1) ∨ S.1 14 (Int32.toNatClampNeg x1) = 0) := mi_n hI
  refine lv_iload_n hx hb dX1_cut_0 rfl (lv_at hl 3 rfl) ?_
  refine lv_iconst (v := 1) hx hb dX1_cut_1 (by decide) ?_
  refine lv_bipush (v := 24) hx hb dX1_cut_2 (by decide) ?_
  refine s_ci X.1 (st_m_in l x3 1 24) 3 (lw_S q1314 q1315 q59 q1316) ⟨rfl, rfl⟩ (by decide +kernel) ⟨by decide, by decide⟩ ⟨by decide, by decide⟩ rfl hl.1 rfl (Nat.le_of_ble_eq_true rfl) dX1_cut_4 ?_
  refine lv_if_ne (tgt := 12) hx hb dX1_cut_7 (by decide) (fun c1 => ?_) (fun c1 => ?_)
  · refine lv_aload_n hx hb dX1_cut_12 rfl (lv_at hl 0 rfl) ?_
    refine lv_iload_n hx hb dX1_cut_13 rfl (lv_at hl 1 rfl) ?_
    refine lv_iload_n hx hb dX1_cut_14 rfl (lv_at hl 2 rfl) ?_
    refine m_ci X hR hS (mt_askedNotch l D d A a S x1 x2 (hI)) 2 (lw_V q1410 q1412 qs32 q59 q1413) ⟨rfl, rfl⟩ (by decide +kernel) ⟨by decide, by decide⟩ ⟨by decide, by decide⟩ rfl hl.1 rfl (Nat.le_of_ble_eq_true rfl) dX1_cut_15 (fun H locs hR hS => ?_)
    refine lv_istore (lv' := [(4, .int ((m_askedNotch S x1 x2).1)), (0, .ref (a 0)), (1, .int x1), (2, .int x2), (3, .int x3)]) hx hb dX1_cut_18 hl (by decide) rfl (fun ls hl => ?_)
    refine lv_iload hx hb dX1_cut_20 (lv_at hl 0 rfl) ?_
    refine lv_if_ge (tgt := 28) hx hb dX1_cut_22 (by decide) (fun c2 => ?_) (fun c2 => ?_)
    · have okc2 := m_askedNotch_ok S x1 x2 hI c2
      have hR : MR D d A a S H := okc2.1 ▸ hR
      have okc2_0 : 0 ≤ x1 ∧ x1 < 16 := okc2.2.1
      have okc2_1 : 0 ≤ x2 ∧ x2 < S.1 12 (Int32.toNatClampNeg x1) := okc2.2.2
      refine lv_aload_n hx hb dX1_cut_28 rfl (lv_at hl 1 rfl) ?_
      refine mg_a X hR 13 (by decide) (by decide) q1150 dX1_cut_29 ?_
      refine lv_bipush (v := 24) hx hb dX1_cut_32 (by decide) ?_
      refine lv_iload_n hx hb dX1_cut_34 rfl (lv_at hl 2 rfl) ?_
      refine lv_imul hx hb dX1_cut_35 ?_
      refine lv_iload_n hx hb dX1_cut_36 rfl (lv_at hl 3 rfl) ?_
      refine lv_iadd hx hb dX1_cut_37 ?_
      refine m_ld X hR ⟨by decide, rfl, by decide⟩ (ixl 384 384 (by decide) rfl (m_cut_o3 S x1 x2 x3 hI hn hm c1 c2 okc2_0 okc2_1)) (v := S.1 13 (Int32.toNatClampNeg ((24 * x1) + x2))) rfl dX1_cut_38 ?_
      refine lv_istore (lv' := [(5, .int (m_cut_v39 S x1 x2)), (4, .int ((m_askedNotch S x1 x2).1)), (0, .ref (a 0)), (1, .int x1), (2, .int x2), (3, .int x3)]) hx hb dX1_cut_39 hl (by decide) rfl (fun ls hl => ?_)
      refine lv_aload_n hx hb dX1_cut_41 rfl (lv_at hl 2 rfl) ?_
      refine mg_a X hR 13 (by decide) (by decide) q1150 dX1_cut_42 ?_
      refine lv_bipush (v := 24) hx hb dX1_cut_45 (by decide) ?_
      refine lv_iload_n hx hb dX1_cut_47 rfl (lv_at hl 3 rfl) ?_
      refine lv_imul hx hb dX1_cut_48 ?_
      refine lv_iload_n hx hb dX1_cut_49 rfl (lv_at hl 4 rfl) ?_
      refine lv_iadd hx hb dX1_cut_50 ?_
      refine lv_iload_n hx hb dX1_cut_51 rfl (lv_at hl 5 rfl) ?_
      refine m_st X hR hS ⟨by decide, rfl, by decide⟩ (ixl 384 384 (by decide) rfl (m_cut_o3 S x1 x2 x3 hI hn hm c1 c2 okc2_0 okc2_1)) dX1_cut_52 (fun H locs hR hS => ?_)
      refine lv_iload hx hb dX1_cut_53 (lv_at hl 0 rfl) ?_
      exact m_ri hx hb hrt (rfl) hlk hR hS hQ (Eq.trans (if_neg c1) (if_pos c2)) dX1_cut_55
    · refine lv_iload hx hb dX1_cut_25 (lv_at hl 0 rfl) ?_
      exact m_ri hx hb hrt (rfl) hlk hR hS hQ (Eq.trans (if_neg c1) (if_neg c2)) dX1_cut_27
  · refine lv_iconst (v := (-1)) hx hb dX1_cut_10 (by decide) ?_
    exact m_ri hx hb hrt (rfl) hlk hR hS hQ (if_pos c1) dX1_cut_11
theorem m_put_o2 (S : MS) (x1 : Int32) (hI : MInv S) (hn : ¬ (m_isTrain S x1) = 0 → 0 ≤ x1 ∧ x1 < 16) (hm : 0 ≤ x1 ∧ x1 < 16 → 0 ≤ S.1 11 (Int32.toNatClampNeg x1) ∧ S.1 11 (Int32.toNatClampNeg x1) ≤ 3 ∧ 0 ≤ S.1 12 (Int32.toNatClampNeg x1) ∧ S.1 12 (Int32.toNatClampNeg x1) ≤ 24 ∧ (S.1 11 (Int32.toNatClampNeg x1) = 0 ∨ 1 ≤ S.1 12 (Int32.toNatClampNeg x1)) ∧ 0 ≤ S.1 14 (Int32.toNatClampNeg x1) ∧ (S.1 14 (Int32.toNatClampNeg x1) < S.1 12 (Int32.toNatClampNeg x1) ∨ S.1 14 (Int32.toNatClampNeg x1) = 0)) (c1 : ¬ (m_isTrain S x1) = 0) : 0 ≤ x1 ∧ x1 < 16 := by 
  clear hI
  try simp only [i_le, i_lt, i_eq, Int32.reduceToInt] at *
  try simp only [Int32.reduceToInt] at *
  omega
theorem m_put_o4 (S : MS) (x1 : Int32) (hI : MInv S) (hn : ¬ (m_isTrain S x1) = 0 → 0 ≤ x1 ∧ x1 < 16) (hm : 0 ≤ x1 ∧ x1 < 16 → 0 ≤ S.1 11 (Int32.toNatClampNeg x1) ∧ S.1 11 (Int32.toNatClampNeg x1) ≤ 3 ∧ 0 ≤ S.1 12 (Int32.toNatClampNeg x1) ∧ S.1 12 (Int32.toNatClampNeg x1) ≤ 24 ∧ (S.1 11 (Int32.toNatClampNeg x1) = 0 ∨ 1 ≤ S.1 12 (Int32.toNatClampNeg x1)) ∧ 0 ≤ S.1 14 (Int32.toNatClampNeg x1) ∧ (S.1 14 (Int32.toNatClampNeg x1) < S.1 12 (Int32.toNatClampNeg x1) ∨ S.1 14 (Int32.toNatClampNeg x1) = 0)) (c1 : ¬ (m_isTrain S x1) = 0) (c3 : ¬ (m_isPlate S x1) = 0) : 0 ≤ x1 ∧ x1 < 16 := by 
  clear hI
  try simp only [i_le, i_lt, i_eq, Int32.reduceToInt] at *
  try simp only [Int32.reduceToInt] at *
  omega
theorem m_put_o6 (S : MS) (x1 : Int32) (x2 : Int32) (hI : MInv S) (hn : ¬ (m_isTrain S x1) = 0 → 0 ≤ x1 ∧ x1 < 16) (hm : 0 ≤ x1 ∧ x1 < 16 → 0 ≤ S.1 11 (Int32.toNatClampNeg x1) ∧ S.1 11 (Int32.toNatClampNeg x1) ≤ 3 ∧ 0 ≤ S.1 12 (Int32.toNatClampNeg x1) ∧ S.1 12 (Int32.toNatClampNeg x1) ≤ 24 ∧ (S.1 11 (Int32.toNatClampNeg x1) = 0 ∨ 1 ≤ S.1 12 (Int32.toNatClampNeg x1)) ∧ 0 ≤ S.1 14 (Int32.toNatClampNeg x1) ∧ (S.1 14 (Int32.toNatClampNeg x1) < S.1 12 (Int32.toNatClampNeg x1) ∨ S.1 14 (Int32.toNatClampNeg x1) = 0)) (c1 : ¬ (m_isTrain S x1) = 0) (c3 : ¬ (m_isPlate S x1) = 0) (c5 : ¬ (m_in x2 0 ((S.1 12 (Int32.toNatClampNeg x1)) - 1)) = 0) : 0 ≤ x1 ∧ x1 < 16 := by 
  clear hI
  try simp only [m_in_eq] at *
  try simp only [i_le, i_lt, i_eq, Int32.reduceToInt] at *
  first | (have e_0 := s32 (x := (S.1 12 (Int32.toNatClampNeg x1))) (y := 1) (by (try simp only [Int32.reduceToInt]); omega); (try simp only [Int32.reduceToInt] at e_0)) | skip
  try simp only [Int32.reduceToInt] at *
  omega
def m_put_v52 (S : MS) (x1 : Int32) : Int32 := (S.1 14 (Int32.toNatClampNeg x1))
def m_put (S : MS) (x1 : Int32) (x2 : Int32) : Int32 × MS := (if (m_isTrain S x1) = 0 then ((-1), S) else (if (m_isPlate S x1) = 0 then ((m_meets S 3).1, (m_meets S 3).2) else (if (m_in x2 0 ((S.1 12 (Int32.toNatClampNeg x1)) - 1)) = 0 then ((m_meets S 2).1, (m_meets S 2).2) else ((m_put_v52 S x1), (mu S 14 (Int32.toNatClampNeg x1) x2)))))
set_option maxHeartbeats 4000000 in
theorem mt_put (l : Launch) (D : va_G) (d : Nat → ClassId) (A : Nat → Prop) (a : Nat → Nat) (S : MS) (x1 : Int32) (x2 : Int32) (hI : MInv S) : MI l yX1_put cX1_put 4 .int (rm_ 2) D d A a S [.int x1, .int x2] (m_put S x1 x2) := by
  refine m_startI rfl (Nat.le_of_ble_eq_true rfl) ?_
  intro p e s m av below meth c ls Q X hrt hlk hl hR hQ
  have hx := X.1.1
  have hb := X.1.2.1
  have hown := X.1.2.2.2.1
  have hts := X.1.2.2.2.2
  have hS : va_S A s.heap s.heap [] := va_S.rf
  have hl : lv_has ls 4 [(0, .ref (a 0)), (1, .int x1), (2, .int x2)] := hl
  have hn : ¬ (m_isTrain S x1) = 0 → 0 ≤ x1 ∧ x1 < 16 := isTrain_ok hI
  have hm : 0 ≤ x1 ∧ x1 < 16 → 0 ≤ S.1 11 (Int32.toNatClampNeg x1) ∧ S.1 11 (Int32.toNatClampNeg x1) ≤ 3 ∧ 0 ≤ S.1 12 (Int32.toNatClampNeg x1) ∧ S.1 12 (Int32.toNatClampNeg x1) ≤ 24 ∧ (S.1 11 (Int32.toNatClampNeg x1) = 0 ∨ 1 ≤ S.1 12 (Int32.toNatClampNeg x1)) ∧ 0 ≤ S.1 14 (Int32.toNatClampNeg x1) ∧ (S.1 14 (Int32.toNatClampNeg x1) < S.1 12 (Int32.toNatClampNeg x1) ∨ S.1 14 (Int32.toNatClampNeg x1) = 0) := mi_n hI
  refine lv_aload_n hx hb dX1_put_0 rfl (lv_at hl 0 rfl) ?_
  refine lv_iload_n hx hb dX1_put_1 rfl (lv_at hl 1 rfl) ?_
  refine m_cr X hR hS (mt_isTrain l D d A a S x1) 1 (lw_V q1373 q1375 qs28 q59 q1376) ⟨rfl, rfl⟩ (by decide +kernel) ⟨by decide, by decide⟩ ⟨by decide, by decide⟩ rfl hl.1 rfl (Nat.le_of_ble_eq_true rfl) dX1_put_2 (fun H locs hR hS => ?_)
  refine lv_if_ne (tgt := 10) hx hb dX1_put_5 (by decide) (fun c1 => ?_) (fun c1 => ?_)
  · refine lv_aload_n hx hb dX1_put_10 rfl (lv_at hl 0 rfl) ?_
    refine lv_iload_n hx hb dX1_put_11 rfl (lv_at hl 1 rfl) ?_
    refine m_cr X hR hS (mt_isPlate l D d A a S x1 (m_put_o2 S x1 hI hn hm c1)) 1 (lw_V q1394 q1396 qs30 q59 q1397) ⟨rfl, rfl⟩ (by decide +kernel) ⟨by decide, by decide⟩ ⟨by decide, by decide⟩ rfl hl.1 rfl (Nat.le_of_ble_eq_true rfl) dX1_put_12 (fun H locs hR hS => ?_)
    refine lv_if_ne (tgt := 24) hx hb dX1_put_15 (by decide) (fun c3 => ?_) (fun c3 => ?_)
    · refine lv_iload_n hx hb dX1_put_24 rfl (lv_at hl 2 rfl) ?_
      refine lv_iconst (v := 0) hx hb dX1_put_25 (by decide) ?_
      refine lv_aload_n hx hb dX1_put_26 rfl (lv_at hl 0 rfl) ?_
      refine mg_a X hR 12 (by decide) (by decide) q1149 dX1_put_27 ?_
      refine lv_iload_n hx hb dX1_put_30 rfl (lv_at hl 1 rfl) ?_
      refine m_ld X hR ⟨by decide, rfl, by decide⟩ (ixl 16 16 (by decide) rfl (m_put_o4 S x1 hI hn hm c1 c3)) (v := S.1 12 (Int32.toNatClampNeg x1)) rfl dX1_put_31 ?_
      refine lv_iconst (v := 1) hx hb dX1_put_32 (by decide) ?_
      refine lv_isub hx hb dX1_put_33 ?_
      refine s_ci X.1 (st_m_in l x2 0 ((S.1 12 (Int32.toNatClampNeg x1)) - 1)) 3 (lw_S q1314 q1315 q59 q1316) ⟨rfl, rfl⟩ (by decide +kernel) ⟨by decide, by decide⟩ ⟨by decide, by decide⟩ rfl hl.1 rfl (Nat.le_of_ble_eq_true rfl) dX1_put_34 ?_
      refine lv_if_ne (tgt := 46) hx hb dX1_put_37 (by decide) (fun c5 => ?_) (fun c5 => ?_)
      · refine lv_aload_n hx hb dX1_put_46 rfl (lv_at hl 0 rfl) ?_
        refine mg_a X hR 14 (by decide) (by decide) q1151 dX1_put_47 ?_
        refine lv_iload_n hx hb dX1_put_50 rfl (lv_at hl 1 rfl) ?_
        refine m_ld X hR ⟨by decide, rfl, by decide⟩ (ixl 16 16 (by decide) rfl (m_put_o6 S x1 x2 hI hn hm c1 c3 c5)) (v := S.1 14 (Int32.toNatClampNeg x1)) rfl dX1_put_51 ?_
        refine lv_istore_n (lv' := [(3, .int (m_put_v52 S x1)), (0, .ref (a 0)), (1, .int x1), (2, .int x2)]) hx hb dX1_put_52 rfl hl (by decide) rfl (fun ls hl => ?_)
        refine lv_aload_n hx hb dX1_put_53 rfl (lv_at hl 1 rfl) ?_
        refine mg_a X hR 14 (by decide) (by decide) q1151 dX1_put_54 ?_
        refine lv_iload_n hx hb dX1_put_57 rfl (lv_at hl 2 rfl) ?_
        refine lv_iload_n hx hb dX1_put_58 rfl (lv_at hl 3 rfl) ?_
        refine m_st X hR hS ⟨by decide, rfl, by decide⟩ (ixl 16 16 (by decide) rfl (m_put_o6 S x1 x2 hI hn hm c1 c3 c5)) dX1_put_59 (fun H locs hR hS => ?_)
        refine lv_iload_n hx hb dX1_put_60 rfl (lv_at hl 0 rfl) ?_
        exact m_ri hx hb hrt (rfl) hlk hR hS hQ (Eq.trans (if_neg c1) (Eq.trans (if_neg c3) (if_neg c5))) dX1_put_61
      · refine lv_aload_n hx hb dX1_put_40 rfl (lv_at hl 0 rfl) ?_
        refine lv_iconst (v := 2) hx hb dX1_put_41 (by decide) ?_
        refine m_ci X hR hS (mt_meets l D d A a S 2 (by decide)) 1 (lw_V q1317 q1319 qs22 q59 q1320) ⟨rfl, rfl⟩ (by decide +kernel) ⟨by decide, by decide⟩ ⟨by decide, by decide⟩ rfl hl.1 rfl (Nat.le_of_ble_eq_true rfl) dX1_put_42 (fun H locs hR hS => ?_)
        exact m_ri hx hb hrt (rfl) hlk hR hS hQ (Eq.trans (if_neg c1) (Eq.trans (if_neg c3) (if_pos c5))) dX1_put_45
    · refine lv_aload_n hx hb dX1_put_18 rfl (lv_at hl 0 rfl) ?_
      refine lv_iconst (v := 3) hx hb dX1_put_19 (by decide) ?_
      refine m_ci X hR hS (mt_meets l D d A a S 3 (by decide)) 1 (lw_V q1317 q1319 qs22 q59 q1320) ⟨rfl, rfl⟩ (by decide +kernel) ⟨by decide, by decide⟩ ⟨by decide, by decide⟩ rfl hl.1 rfl (Nat.le_of_ble_eq_true rfl) dX1_put_20 (fun H locs hR hS => ?_)
      exact m_ri hx hb hrt (rfl) hlk hR hS hQ (Eq.trans (if_neg c1) (if_pos c3)) dX1_put_23
  · refine lv_iconst (v := (-1)) hx hb dX1_put_8 (by decide) ?_
    exact m_ri hx hb hrt (rfl) hlk hR hS hQ (if_pos c1) dX1_put_9
theorem m_mean_o2 (S : MS) (x1 : Int32) (hI : MInv S) (hn : ¬ (m_isTrain S x1) = 0 → 0 ≤ x1 ∧ x1 < 16) (hm : 0 ≤ x1 ∧ x1 < 16 → 0 ≤ S.1 11 (Int32.toNatClampNeg x1) ∧ S.1 11 (Int32.toNatClampNeg x1) ≤ 3 ∧ 0 ≤ S.1 12 (Int32.toNatClampNeg x1) ∧ S.1 12 (Int32.toNatClampNeg x1) ≤ 24 ∧ (S.1 11 (Int32.toNatClampNeg x1) = 0 ∨ 1 ≤ S.1 12 (Int32.toNatClampNeg x1)) ∧ 0 ≤ S.1 14 (Int32.toNatClampNeg x1) ∧ (S.1 14 (Int32.toNatClampNeg x1) < S.1 12 (Int32.toNatClampNeg x1) ∨ S.1 14 (Int32.toNatClampNeg x1) = 0)) (c1 : ¬ (m_isTrain S x1) = 0) : 0 ≤ x1 ∧ x1 < 16 := by 
  clear hI
  try simp only [i_le, i_lt, i_eq, Int32.reduceToInt] at *
  try simp only [Int32.reduceToInt] at *
  omega
theorem m_mean_o4 (S : MS) (x1 : Int32) (hI : MInv S) (hn : ¬ (m_isTrain S x1) = 0 → 0 ≤ x1 ∧ x1 < 16) (hm : 0 ≤ x1 ∧ x1 < 16 → 0 ≤ S.1 11 (Int32.toNatClampNeg x1) ∧ S.1 11 (Int32.toNatClampNeg x1) ≤ 3 ∧ 0 ≤ S.1 12 (Int32.toNatClampNeg x1) ∧ S.1 12 (Int32.toNatClampNeg x1) ≤ 24 ∧ (S.1 11 (Int32.toNatClampNeg x1) = 0 ∨ 1 ≤ S.1 12 (Int32.toNatClampNeg x1)) ∧ 0 ≤ S.1 14 (Int32.toNatClampNeg x1) ∧ (S.1 14 (Int32.toNatClampNeg x1) < S.1 12 (Int32.toNatClampNeg x1) ∨ S.1 14 (Int32.toNatClampNeg x1) = 0)) (c1 : ¬ (m_isTrain S x1) = 0) (c3 : ¬ (S.1 12 (Int32.toNatClampNeg x1)) = 0) : 0 ≤ x1 ∧ x1 < 16 := by 
  clear hI
  try simp only [i_le, i_lt, i_eq, Int32.reduceToInt] at *
  try simp only [Int32.reduceToInt] at *
  omega
theorem m_mean_o5 (S : MS) (x1 : Int32) (hI : MInv S) (hn : ¬ (m_isTrain S x1) = 0 → 0 ≤ x1 ∧ x1 < 16) (hm : 0 ≤ x1 ∧ x1 < 16 → 0 ≤ S.1 11 (Int32.toNatClampNeg x1) ∧ S.1 11 (Int32.toNatClampNeg x1) ≤ 3 ∧ 0 ≤ S.1 12 (Int32.toNatClampNeg x1) ∧ S.1 12 (Int32.toNatClampNeg x1) ≤ 24 ∧ (S.1 11 (Int32.toNatClampNeg x1) = 0 ∨ 1 ≤ S.1 12 (Int32.toNatClampNeg x1)) ∧ 0 ≤ S.1 14 (Int32.toNatClampNeg x1) ∧ (S.1 14 (Int32.toNatClampNeg x1) < S.1 12 (Int32.toNatClampNeg x1) ∨ S.1 14 (Int32.toNatClampNeg x1) = 0)) (c1 : ¬ (m_isTrain S x1) = 0) (c3 : ¬ (S.1 12 (Int32.toNatClampNeg x1)) = 0) : 0 ≤ S.1 12 (Int32.toNatClampNeg x1) ∧ S.1 12 (Int32.toNatClampNeg x1) ≤ 24 := by 
  clear hI
  try simp only [i_le, i_lt, i_eq, Int32.reduceToInt] at *
  try simp only [Int32.reduceToInt] at *
  omega
def m_mean (S : MS) (x1 : Int32) : Int32 × MS := (if (m_isTrain S x1) = 0 then ((-1), S) else (if (S.1 12 (Int32.toNatClampNeg x1)) = 0 then ((m_meets S 4).1, (m_meets S 4).2) else (((m_over S x1 0) / (S.1 12 (Int32.toNatClampNeg x1))), S)))
set_option maxHeartbeats 4000000 in
theorem mt_mean (l : Launch) (D : va_G) (d : Nat → ClassId) (A : Nat → Prop) (a : Nat → Nat) (S : MS) (x1 : Int32) (hI : MInv S) : MI l yX1_mean cX1_mean 2 .int (rm_ 2) D d A a S [.int x1] (m_mean S x1) := by
  refine m_startI rfl (Nat.le_of_ble_eq_true rfl) ?_
  intro p e s m av below meth c ls Q X hrt hlk hl hR hQ
  have hx := X.1.1
  have hb := X.1.2.1
  have hown := X.1.2.2.2.1
  have hts := X.1.2.2.2.2
  have hS : va_S A s.heap s.heap [] := va_S.rf
  have hl : lv_has ls 2 [(0, .ref (a 0)), (1, .int x1)] := hl
  have hn : ¬ (m_isTrain S x1) = 0 → 0 ≤ x1 ∧ x1 < 16 := isTrain_ok hI
  have hm : 0 ≤ x1 ∧ x1 < 16 → 0 ≤ S.1 11 (Int32.toNatClampNeg x1) ∧ S.1 11 (Int32.toNatClampNeg x1) ≤ 3 ∧ 0 ≤ S.1 12 (Int32.toNatClampNeg x1) ∧ S.1 12 (Int32.toNatClampNeg x1) ≤ 24 ∧ (S.1 11 (Int32.toNatClampNeg x1) = 0 ∨ 1 ≤ S.1 12 (Int32.toNatClampNeg x1)) ∧ 0 ≤ S.1 14 (Int32.toNatClampNeg x1) ∧ (S.1 14 (Int32.toNatClampNeg x1) < S.1 12 (Int32.toNatClampNeg x1) ∨ S.1 14 (Int32.toNatClampNeg x1) = 0) := mi_n hI
  refine lv_aload_n hx hb dX1_mean_0 rfl (lv_at hl 0 rfl) ?_
  refine lv_iload_n hx hb dX1_mean_1 rfl (lv_at hl 1 rfl) ?_
  refine m_cr X hR hS (mt_isTrain l D d A a S x1) 1 (lw_V q1373 q1375 qs28 q59 q1376) ⟨rfl, rfl⟩ (by decide +kernel) ⟨by decide, by decide⟩ ⟨by decide, by decide⟩ rfl hl.1 rfl (Nat.le_of_ble_eq_true rfl) dX1_mean_2 (fun H locs hR hS => ?_)
  refine lv_if_ne (tgt := 12) hx hb dX1_mean_5 (by decide) (fun c1 => ?_) (fun c1 => ?_)
  · refine lv_aload_n hx hb dX1_mean_12 rfl (lv_at hl 0 rfl) ?_
    refine mg_a X hR 12 (by decide) (by decide) q1149 dX1_mean_13 ?_
    refine lv_iload_n hx hb dX1_mean_16 rfl (lv_at hl 1 rfl) ?_
    refine m_ld X hR ⟨by decide, rfl, by decide⟩ (ixl 16 16 (by decide) rfl (m_mean_o2 S x1 hI hn hm c1)) (v := S.1 12 (Int32.toNatClampNeg x1)) rfl dX1_mean_17 ?_
    refine lv_if_ne (tgt := 29) hx hb dX1_mean_18 (by decide) (fun c3 => ?_) (fun c3 => ?_)
    · refine lv_aload_n hx hb dX1_mean_29 rfl (lv_at hl 0 rfl) ?_
      refine lv_iload_n hx hb dX1_mean_30 rfl (lv_at hl 1 rfl) ?_
      refine lv_iconst (v := 0) hx hb dX1_mean_31 (by decide) ?_
      refine m_cr X hR hS (mt_over l D d A a S x1 0 (m_mean_o4 S x1 hI hn hm c1 c3) (m_mean_o5 S x1 hI hn hm c1 c3)) 2 (lw_V q1402 q1404 qs31 q59 q1405) ⟨rfl, rfl⟩ (by decide +kernel) ⟨by decide, by decide⟩ ⟨by decide, by decide⟩ rfl hl.1 rfl (Nat.le_of_ble_eq_true rfl) dX1_mean_32 (fun H locs hR hS => ?_)
      refine lv_aload_n hx hb dX1_mean_35 rfl (lv_at hl 0 rfl) ?_
      refine mg_a X hR 12 (by decide) (by decide) q1149 dX1_mean_36 ?_
      refine lv_iload_n hx hb dX1_mean_39 rfl (lv_at hl 1 rfl) ?_
      refine m_ld X hR ⟨by decide, rfl, by decide⟩ (ixl 16 16 (by decide) rfl (m_mean_o4 S x1 hI hn hm c1 c3)) (v := S.1 12 (Int32.toNatClampNeg x1)) rfl dX1_mean_40 ?_
      refine lv_idiv hx hb dX1_mean_41 (c3) ?_
      exact m_ri hx hb hrt (rfl) hlk hR hS hQ (Eq.trans (if_neg c1) (if_neg c3)) dX1_mean_42
    · refine lv_aload_n hx hb dX1_mean_21 rfl (lv_at hl 0 rfl) ?_
      refine lv_iconst (v := 4) hx hb dX1_mean_22 (by decide) ?_
      refine m_ci X hR hS (mt_meets l D d A a S 4 (by decide)) 1 (lw_V q1317 q1319 qs22 q59 q1320) ⟨rfl, rfl⟩ (by decide +kernel) ⟨by decide, by decide⟩ ⟨by decide, by decide⟩ rfl hl.1 rfl (Nat.le_of_ble_eq_true rfl) dX1_mean_23 (fun H locs hR hS => ?_)
      refine lv_goto (tgt := 42) hx hb dX1_mean_26 (by decide) ?_
      exact m_ri hx hb hrt (rfl) hlk hR hS hQ (Eq.trans (if_neg c1) (if_pos c3)) dX1_mean_42
  · refine lv_iconst (v := (-1)) hx hb dX1_mean_8 (by decide) ?_
    refine lv_goto (tgt := 42) hx hb dX1_mean_9 (by decide) ?_
    exact m_ri hx hb hrt (rfl) hlk hR hS hQ (if_pos c1) dX1_mean_42
theorem m_askedFor_o2 (x1 : Int32) (c1 : ¬ (m_isNumber x1) = 0) : 0 ≤ x1 ∧ x1 < 4 := by 
  try simp only [m_in_eq, m_isNumber_eq] at *
  try simp only [i_le, i_lt, i_eq, Int32.reduceToInt] at *
  try simp only [Int32.reduceToInt] at *
  omega
def m_askedFor (S : MS) (x1 : Int32) : Int32 × MS := (if (m_isNumber x1) = 0 then ((-1), S) else (if (S.1 26 (Int32.toNatClampNeg x1)) = 0 then ((m_meets S 1).1, (m_meets S 1).2) else (0, S)))
set_option maxHeartbeats 4000000 in
theorem mt_askedFor (l : Launch) (D : va_G) (d : Nat → ClassId) (A : Nat → Prop) (a : Nat → Nat) (S : MS) (x1 : Int32) : MI l yX1_askedFor cX1_askedFor 2 .int (rm_ 2) D d A a S [.int x1] (m_askedFor S x1) := by
  refine m_startI rfl (Nat.le_of_ble_eq_true rfl) ?_
  intro p e s m av below meth c ls Q X hrt hlk hl hR hQ
  have hx := X.1.1
  have hb := X.1.2.1
  have hown := X.1.2.2.2.1
  have hts := X.1.2.2.2.2
  have hS : va_S A s.heap s.heap [] := va_S.rf
  have hl : lv_has ls 2 [(0, .ref (a 0)), (1, .int x1)] := hl
  refine lv_iload_n hx hb dX1_askedFor_0 rfl (lv_at hl 1 rfl) ?_
  refine s_ci X.1 (st_m_isNumber l x1) 1 (lw_S q1430 q1431 q59 q1432) ⟨rfl, rfl⟩ (by decide +kernel) ⟨by decide, by decide⟩ ⟨by decide, by decide⟩ rfl hl.1 rfl (Nat.le_of_ble_eq_true rfl) dX1_askedFor_1 ?_
  refine lv_if_ne (tgt := 11) hx hb dX1_askedFor_4 (by decide) (fun c1 => ?_) (fun c1 => ?_)
  · refine lv_aload_n hx hb dX1_askedFor_11 rfl (lv_at hl 0 rfl) ?_
    refine mg_a X hR 26 (by decide) (by decide) q1163 dX1_askedFor_12 ?_
    refine lv_iload_n hx hb dX1_askedFor_15 rfl (lv_at hl 1 rfl) ?_
    refine m_zld X hR ⟨by decide, rfl, by decide⟩ (ixl 4 4 (by decide) rfl (m_askedFor_o2 x1 c1)) (v := S.1 26 (Int32.toNatClampNeg x1)) rfl dX1_askedFor_16 ?_
    refine lv_if_eq (tgt := 24) hx hb dX1_askedFor_17 (by decide) (fun c3 => ?_) (fun c3 => ?_)
    · refine lv_aload_n hx hb dX1_askedFor_24 rfl (lv_at hl 0 rfl) ?_
      refine lv_iconst (v := 1) hx hb dX1_askedFor_25 (by decide) ?_
      refine m_ci X hR hS (mt_meets l D d A a S 1 (by decide)) 1 (lw_V q1317 q1319 qs22 q59 q1320) ⟨rfl, rfl⟩ (by decide +kernel) ⟨by decide, by decide⟩ ⟨by decide, by decide⟩ rfl hl.1 rfl (Nat.le_of_ble_eq_true rfl) dX1_askedFor_26 (fun H locs hR hS => ?_)
      exact m_ri hx hb hrt (rfl) hlk hR hS hQ (Eq.trans (if_neg c1) (if_pos c3)) dX1_askedFor_29
    · refine lv_iconst (v := 0) hx hb dX1_askedFor_20 (by decide) ?_
      refine lv_goto (tgt := 29) hx hb dX1_askedFor_21 (by decide) ?_
      exact m_ri hx hb hrt (rfl) hlk hR hS hQ (Eq.trans (if_neg c1) (if_neg c3)) dX1_askedFor_29
  · refine lv_iconst (v := (-1)) hx hb dX1_askedFor_7 (by decide) ?_
    refine lv_goto (tgt := 29) hx hb dX1_askedFor_8 (by decide) ?_
    exact m_ri hx hb hrt (rfl) hlk hR hS hQ (if_pos c1) dX1_askedFor_29
theorem m_free_o2 (S : MS) (x1 : Int32) (hp : 0 ≤ x1 ∧ x1 < 8) (hh : S.1 35 (Int32.toNatClampNeg x1) < 16) (c1 : ¬ (S.1 35 (Int32.toNatClampNeg x1)) < 0) : 0 ≤ (S.1 35 (Int32.toNatClampNeg x1)) ∧ (S.1 35 (Int32.toNatClampNeg x1)) < 16 := by 
  try simp only [i_le, i_lt, i_eq, Int32.reduceToInt] at *
  try simp only [Int32.reduceToInt] at *
  omega
def m_free_j22_S (S : MS) (x1 : Int32) : MS := (if (S.1 35 (Int32.toNatClampNeg x1)) < 0 then S else (mu S 22 (Int32.toNatClampNeg (S.1 35 (Int32.toNatClampNeg x1))) (-9)))
def m_free (S : MS) (x1 : Int32) : MS := (mu (mu (m_free_j22_S S x1) 35 (Int32.toNatClampNeg x1) (-9)) 36 (Int32.toNatClampNeg x1) 0)
set_option maxHeartbeats 4000000 in
theorem mt_free (l : Launch) (D : va_G) (d : Nat → ClassId) (A : Nat → Prop) (a : Nat → Nat) (S : MS) (x1 : Int32) (hp : 0 ≤ x1 ∧ x1 < 8) (hh : S.1 35 (Int32.toNatClampNeg x1) < 16) : MV l yX1_free cX1_free 2 (rm_ 0) D d A a S [.int x1] (m_free S x1) := by
  refine m_startV rfl (Nat.le_of_ble_eq_true rfl) ?_
  intro p e s m av below meth c ls Q X hrt hlk hl hR hQ
  have hx := X.1.1
  have hb := X.1.2.1
  have hown := X.1.2.2.2.1
  have hts := X.1.2.2.2.2
  have hS : va_S A s.heap s.heap [] := va_S.rf
  have hl : lv_has ls 2 [(0, .ref (a 0)), (1, .int x1)] := hl
  refine lv_aload_n hx hb dX1_free_0 rfl (lv_at hl 0 rfl) ?_
  refine mg_a X hR 35 (by decide) (by decide) q1172 dX1_free_1 ?_
  refine lv_iload_n hx hb dX1_free_4 rfl (lv_at hl 1 rfl) ?_
  refine m_ld X hR ⟨by decide, rfl, by decide⟩ (ixl 8 8 (by decide) rfl (hp)) (v := S.1 35 (Int32.toNatClampNeg x1)) rfl dX1_free_5 ?_
  have J4 : ∀ (w3 : MS) (H : Heap) (locs : List Loc) (ls : Array Slot), w3 = (m_free_j22_S S x1) → MR D d A a w3 H → va_S A s.heap H locs → lv_has ls 2 [(0, .ref (a 0)), (1, .int x1)] → W p l e (rm_ 0) s m av below meth c H locs 0 0 Q (F0 m 22 ls []) := by
    intro w3 H locs ls ew3 hR hS hl
    subst ew3
    refine lv_aload_n hx hb dX1_free_22 rfl (lv_at hl 0 rfl) ?_
    refine mg_a X hR 35 (by decide) (by decide) q1172 dX1_free_23 ?_
    refine lv_iload_n hx hb dX1_free_26 rfl (lv_at hl 1 rfl) ?_
    refine lv_bipush (v := (-9)) hx hb dX1_free_27 (by decide) ?_
    refine m_st X hR hS ⟨by decide, rfl, by decide⟩ (ixl 8 8 (by decide) rfl (hp)) dX1_free_29 (fun H locs hR hS => ?_)
    refine lv_aload_n hx hb dX1_free_30 rfl (lv_at hl 0 rfl) ?_
    refine mg_a X hR 36 (by decide) (by decide) q1173 dX1_free_31 ?_
    refine lv_iload_n hx hb dX1_free_34 rfl (lv_at hl 1 rfl) ?_
    refine lv_iconst (v := 0) hx hb dX1_free_35 (by decide) ?_
    refine m_zst X hR hS ⟨by decide, rfl, by decide⟩ (ixl 8 8 (by decide) rfl (hp)) (Or.inl rfl) dX1_free_36 (fun H locs hR hS => ?_)
    exact m_rv hx hb hrt hlk hR hS hQ rfl dX1_free_37
  refine lv_if_lt (tgt := 22) hx hb dX1_free_6 (by decide) (fun c1 => ?_) (fun c1 => ?_)
  · exact J4 _ _ _  _ (Eq.symm (if_pos c1)) hR hS  (lv_sub hl [0, 1] rfl)
  · refine lv_aload_n hx hb dX1_free_9 rfl (lv_at hl 0 rfl) ?_
    refine mg_a X hR 22 (by decide) (by decide) q1159 dX1_free_10 ?_
    refine lv_aload_n hx hb dX1_free_13 rfl (lv_at hl 0 rfl) ?_
    refine mg_a X hR 35 (by decide) (by decide) q1172 dX1_free_14 ?_
    refine lv_iload_n hx hb dX1_free_17 rfl (lv_at hl 1 rfl) ?_
    refine m_ld X hR ⟨by decide, rfl, by decide⟩ (ixl 8 8 (by decide) rfl (hp)) (v := S.1 35 (Int32.toNatClampNeg x1)) rfl dX1_free_18 ?_
    refine lv_bipush (v := (-9)) hx hb dX1_free_19 (by decide) ?_
    refine m_st X hR hS ⟨by decide, rfl, by decide⟩ (ixl 16 16 (by decide) rfl (m_free_o2 S x1 hp hh c1)) dX1_free_21 (fun H locs hR hS => ?_)
    exact J4 _ _ _  _ (Eq.symm (if_neg c1)) hR hS  (lv_sub hl [0, 1] rfl)
