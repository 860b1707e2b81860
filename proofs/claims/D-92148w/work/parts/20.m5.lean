/-! PRINTED by gen/run_m3.py -/
set_option maxRecDepth 100000
theorem m_gear_o4 (S : MS) (x1 : Int32) (x2 : Int32) (x3 : Int32) (hI : MInv S) (hn : ¬ (m_isTrain S x1) = 0 → 0 ≤ x1 ∧ x1 < 16) (c1 : ¬ (m_isTrain S x1) = 0) (c2 : ¬ (m_in x2 1 60) = 0) (c3 : ¬ (m_in x3 0 100000) = 0) : 0 ≤ x1 ∧ x1 < 16 := by 
  clear hI
  try simp only [m_in_eq] at *
  try simp only [i_le, i_lt, i_eq, Int32.reduceToInt] at *
  try simp only [Int32.reduceToInt] at *
  omega
def m_gear_v36 (S : MS) (x1 : Int32) : Int32 := (S.1 20 (Int32.toNatClampNeg x1))
def m_gear (S : MS) (x1 : Int32) (x2 : Int32) (x3 : Int32) : Int32 × MS := (if (m_isTrain S x1) = 0 then ((-1), S) else (if (m_in x2 1 60) = 0 then ((-1), S) else (if (m_in x3 0 100000) = 0 then ((-1), S) else ((m_gear_v36 S x1), (mu (mu (mu S 18 (Int32.toNatClampNeg x1) x2) 19 (Int32.toNatClampNeg x1) x3) 20 (Int32.toNatClampNeg x1) x3)))))
set_option maxHeartbeats 4000000 in
theorem mt_gear (l : Launch) (D : va_G) (d : Nat → ClassId) (A : Nat → Prop) (a : Nat → Nat) (S : MS) (x1 : Int32) (x2 : Int32) (x3 : Int32) (hI : MInv S) : MI l yX1_gear cX1_gear 5 .int (rm_ 2) D d A a S [.int x1, .int x2, .int x3] (m_gear S x1 x2 x3) := by
  refine m_startI rfl (Nat.le_of_ble_eq_true rfl) ?_
  intro p e s m av below meth c ls Q X hrt hlk hl hR hQ
  have hx := X.1.1
  have hb := X.1.2.1
  have hown := X.1.2.2.2.1
  have hts := X.1.2.2.2.2
  have hS : va_S A s.heap s.heap [] := va_S.rf
  have hl : lv_has ls 5 [(0, .ref (a 0)), (1, .int x1), (2, .int x2), (3, .int x3)] := hl
  have hn : ¬ (m_isTrain S x1) = 0 → 0 ≤ x1 ∧ x1 < 16 := isTrain_ok hI
  refine lv_aload_n hx hb dX1_gear_0 rfl (lv_at hl 0 rfl) ?_
  refine lv_iload_n hx hb dX1_gear_1 rfl (lv_at hl 1 rfl) ?_
  refine m_cr X hR hS (mt_isTrain l D d A a S x1) 1 (lw_V q1373 q1375 qs28 q59 q1376) ⟨rfl, rfl⟩ (by decide +kernel) ⟨by decide, by decide⟩ ⟨by decide, by decide⟩ rfl hl.1 rfl (Nat.le_of_ble_eq_true rfl) dX1_gear_2 (fun H locs hR hS => ?_)
  refine lv_if_eq (tgt := 28) hx hb dX1_gear_5 (by decide) (fun c1 => ?_) (fun c1 => ?_)
  · refine lv_iconst (v := (-1)) hx hb dX1_gear_28 (by decide) ?_
    exact m_ri hx hb hrt (rfl) hlk hR hS hQ (if_pos c1) dX1_gear_29
  · refine lv_iload_n hx hb dX1_gear_8 rfl (lv_at hl 2 rfl) ?_
    refine lv_iconst (v := 1) hx hb dX1_gear_9 (by decide) ?_
    refine lv_bipush (v := 60) hx hb dX1_gear_10 (by decide) ?_
    refine s_ci X.1 (st_m_in l x2 1 60) 3 (lw_S q1314 q1315 q59 q1316) ⟨rfl, rfl⟩ (by decide +kernel) ⟨by decide, by decide⟩ ⟨by decide, by decide⟩ rfl hl.1 rfl (Nat.le_of_ble_eq_true rfl) dX1_gear_12 ?_
    refine lv_if_eq (tgt := 28) hx hb dX1_gear_15 (by decide) (fun c2 => ?_) (fun c2 => ?_)
    · refine lv_iconst (v := (-1)) hx hb dX1_gear_28 (by decide) ?_
      exact m_ri hx hb hrt (rfl) hlk hR hS hQ (Eq.trans (if_neg c1) (if_pos c2)) dX1_gear_29
    · refine lv_iload_n hx hb dX1_gear_18 rfl (lv_at hl 3 rfl) ?_
      refine lv_iconst (v := 0) hx hb dX1_gear_19 (by decide) ?_
      refine lv_ldc hx hb hown (hts _ q1377) dX1_gear_20 ?_
      refine s_ci X.1 (st_m_in l x3 0 100000) 3 (lw_S q1314 q1315 q59 q1316) ⟨rfl, rfl⟩ (by decide +kernel) ⟨by decide, by decide⟩ ⟨by decide, by decide⟩ rfl hl.1 rfl (Nat.le_of_ble_eq_true rfl) dX1_gear_22 ?_
      refine lv_if_ne (tgt := 30) hx hb dX1_gear_25 (by decide) (fun c3 => ?_) (fun c3 => ?_)
      · refine lv_aload_n hx hb dX1_gear_30 rfl (lv_at hl 0 rfl) ?_
        refine mg_a X hR 20 (by decide) (by decide) q1157 dX1_gear_31 ?_
        refine lv_iload_n hx hb dX1_gear_34 rfl (lv_at hl 1 rfl) ?_
        refine m_ld X hR ⟨by decide, rfl, by decide⟩ (ixl 16 16 (by decide) rfl (m_gear_o4 S x1 x2 x3 hI hn c1 c2 c3)) (v := S.1 20 (Int32.toNatClampNeg x1)) rfl dX1_gear_35 ?_
        refine lv_istore (lv' := [(4, .int (m_gear_v36 S x1)), (0, .ref (a 0)), (1, .int x1), (2, .int x2), (3, .int x3)]) hx hb dX1_gear_36 hl (by decide) rfl (fun ls hl => ?_)
        refine lv_aload_n hx hb dX1_gear_38 rfl (lv_at hl 1 rfl) ?_
        refine mg_a X hR 18 (by decide) (by decide) q1155 dX1_gear_39 ?_
        refine lv_iload_n hx hb dX1_gear_42 rfl (lv_at hl 2 rfl) ?_
        refine lv_iload_n hx hb dX1_gear_43 rfl (lv_at hl 3 rfl) ?_
        refine m_st X hR hS ⟨by decide, rfl, by decide⟩ (ixl 16 16 (by decide) rfl (m_gear_o4 S x1 x2 x3 hI hn c1 c2 c3)) dX1_gear_44 (fun H locs hR hS => ?_)
        refine lv_aload_n hx hb dX1_gear_45 rfl (lv_at hl 1 rfl) ?_
        refine mg_a X hR 19 (by decide) (by decide) q1156 dX1_gear_46 ?_
        refine lv_iload_n hx hb dX1_gear_49 rfl (lv_at hl 2 rfl) ?_
        refine lv_iload_n hx hb dX1_gear_50 rfl (lv_at hl 4 rfl) ?_
        refine m_st X hR hS ⟨by decide, rfl, by decide⟩ (ixl 16 16 (by decide) rfl (m_gear_o4 S x1 x2 x3 hI hn c1 c2 c3)) dX1_gear_51 (fun H locs hR hS => ?_)
        refine lv_aload_n hx hb dX1_gear_52 rfl (lv_at hl 1 rfl) ?_
        refine mg_a X hR 20 (by decide) (by decide) q1157 dX1_gear_53 ?_
        refine lv_iload_n hx hb dX1_gear_56 rfl (lv_at hl 2 rfl) ?_
        refine lv_iload_n hx hb dX1_gear_57 rfl (lv_at hl 4 rfl) ?_
        refine m_st X hR hS ⟨by decide, rfl, by decide⟩ (ixl 16 16 (by decide) rfl (m_gear_o4 S x1 x2 x3 hI hn c1 c2 c3)) dX1_gear_58 (fun H locs hR hS => ?_)
        refine lv_iload hx hb dX1_gear_59 (lv_at hl 0 rfl) ?_
        exact m_ri hx hb hrt (rfl) hlk hR hS hQ (Eq.trans (if_neg c1) (Eq.trans (if_neg c2) (if_neg c3))) dX1_gear_61
      · refine lv_iconst (v := (-1)) hx hb dX1_gear_28 (by decide) ?_
        exact m_ri hx hb hrt (rfl) hlk hR hS hQ (Eq.trans (if_neg c1) (Eq.trans (if_neg c2) (if_pos c3))) dX1_gear_29
theorem m_wind_o2 (S : MS) (x1 : Int32) (hI : MInv S) (hn : ¬ (m_isTrain S x1) = 0 → 0 ≤ x1 ∧ x1 < 16) (c1 : ¬ (m_isTrain S x1) = 0) : 0 ≤ x1 ∧ x1 < 16 := by 
  clear hI
  try simp only [i_le, i_lt, i_eq, Int32.reduceToInt] at *
  try simp only [Int32.reduceToInt] at *
  omega
def m_wind_v23 (S : MS) (x1 : Int32) : Int32 := ((S.1 19 (Int32.toNatClampNeg x1)) - (S.1 20 (Int32.toNatClampNeg x1)))
def m_wind (S : MS) (x1 : Int32) : Int32 × MS := (if (m_isTrain S x1) = 0 then ((-1), S) else ((m_wind_v23 S x1), (mu S 20 (Int32.toNatClampNeg x1) (S.1 19 (Int32.toNatClampNeg x1)))))
set_option maxHeartbeats 4000000 in
theorem mt_wind (l : Launch) (D : va_G) (d : Nat → ClassId) (A : Nat → Prop) (a : Nat → Nat) (S : MS) (x1 : Int32) (hI : MInv S) : MI l yX1_wind cX1_wind 3 .int (rm_ 2) D d A a S [.int x1] (m_wind S x1) := by
  refine m_startI rfl (Nat.le_of_ble_eq_true rfl) ?_
  intro p e s m av below meth c ls Q X hrt hlk hl hR hQ
  have hx := X.1.1
  have hb := X.1.2.1
  have hown := X.1.2.2.2.1
  have hts := X.1.2.2.2.2
  have hS : va_S A s.heap s.heap [] := va_S.rf
  have hl : lv_has ls 3 [(0, .ref (a 0)), (1, .int x1)] := hl
  have hn : ¬ (m_isTrain S x1) = 0 → 0 ≤ x1 ∧ x1 < 16 := isTrain_ok hI
  refine lv_aload_n hx hb dX1_wind_0 rfl (lv_at hl 0 rfl) ?_
  refine lv_iload_n hx hb dX1_wind_1 rfl (lv_at hl 1 rfl) ?_
  refine m_cr X hR hS (mt_isTrain l D d A a S x1) 1 (lw_V q1373 q1375 qs28 q59 q1376) ⟨rfl, rfl⟩ (by decide +kernel) ⟨by decide, by decide⟩ ⟨by decide, by decide⟩ rfl hl.1 rfl (Nat.le_of_ble_eq_true rfl) dX1_wind_2 (fun H locs hR hS => ?_)
  refine lv_if_ne (tgt := 10) hx hb dX1_wind_5 (by decide) (fun c1 => ?_) (fun c1 => ?_)
  · refine lv_aload_n hx hb dX1_wind_10 rfl (lv_at hl 0 rfl) ?_
    refine mg_a X hR 19 (by decide) (by decide) q1156 dX1_wind_11 ?_
    refine lv_iload_n hx hb dX1_wind_14 rfl (lv_at hl 1 rfl) ?_
    refine m_ld X hR ⟨by decide, rfl, by decide⟩ (ixl 16 16 (by decide) rfl (m_wind_o2 S x1 hI hn c1)) (v := S.1 19 (Int32.toNatClampNeg x1)) rfl dX1_wind_15 ?_
    refine lv_aload_n hx hb dX1_wind_16 rfl (lv_at hl 0 rfl) ?_
    refine mg_a X hR 20 (by decide) (by decide) q1157 dX1_wind_17 ?_
    refine lv_iload_n hx hb dX1_wind_20 rfl (lv_at hl 1 rfl) ?_
    refine m_ld X hR ⟨by decide, rfl, by decide⟩ (ixl 16 16 (by decide) rfl (m_wind_o2 S x1 hI hn c1)) (v := S.1 20 (Int32.toNatClampNeg x1)) rfl dX1_wind_21 ?_
    refine lv_isub hx hb dX1_wind_22 ?_
    refine lv_istore_n (lv' := [(2, .int (m_wind_v23 S x1)), (0, .ref (a 0)), (1, .int x1)]) hx hb dX1_wind_23 rfl hl (by decide) rfl (fun ls hl => ?_)
    refine lv_aload_n hx hb dX1_wind_24 rfl (lv_at hl 1 rfl) ?_
    refine mg_a X hR 20 (by decide) (by decide) q1157 dX1_wind_25 ?_
    refine lv_iload_n hx hb dX1_wind_28 rfl (lv_at hl 2 rfl) ?_
    refine lv_aload_n hx hb dX1_wind_29 rfl (lv_at hl 1 rfl) ?_
    refine mg_a X hR 19 (by decide) (by decide) q1156 dX1_wind_30 ?_
    refine lv_iload_n hx hb dX1_wind_33 rfl (lv_at hl 2 rfl) ?_
    refine m_ld X hR ⟨by decide, rfl, by decide⟩ (ixl 16 16 (by decide) rfl (m_wind_o2 S x1 hI hn c1)) (v := S.1 19 (Int32.toNatClampNeg x1)) rfl dX1_wind_34 ?_
    refine m_st X hR hS ⟨by decide, rfl, by decide⟩ (ixl 16 16 (by decide) rfl (m_wind_o2 S x1 hI hn c1)) dX1_wind_35 (fun H locs hR hS => ?_)
    refine lv_iload_n hx hb dX1_wind_36 rfl (lv_at hl 0 rfl) ?_
    exact m_ri hx hb hrt (rfl) hlk hR hS hQ (if_neg c1) dX1_wind_37
  · refine lv_iconst (v := (-1)) hx hb dX1_wind_8 (by decide) ?_
    exact m_ri hx hb hrt (rfl) hlk hR hS hQ (if_pos c1) dX1_wind_9
theorem m_broken_o3 (S : MS) (x1 : Int32) (x2 : Int32) (hI : MInv S) (hn : ¬ (m_isTrain S x1) = 0 → 0 ≤ x1 ∧ x1 < 16) (c1 : ¬ (m_isTrain S x1) = 0) (c2 : ¬ (m_in x2 0 255) = 0) : 0 ≤ x1 ∧ x1 < 16 := by 
  clear hI
  try simp only [m_in_eq] at *
  try simp only [i_le, i_lt, i_eq, Int32.reduceToInt] at *
  try simp only [Int32.reduceToInt] at *
  omega
def m_broken_v27 (S : MS) (x1 : Int32) : Int32 := (S.1 23 (Int32.toNatClampNeg x1))
def m_broken (S : MS) (x1 : Int32) (x2 : Int32) : Int32 × MS := (if (m_isTrain S x1) = 0 then ((-1), S) else (if (m_in x2 0 255) = 0 then ((-1), S) else ((m_broken_v27 S x1), (mu S 23 (Int32.toNatClampNeg x1) x2))))
set_option maxHeartbeats 4000000 in
theorem mt_broken (l : Launch) (D : va_G) (d : Nat → ClassId) (A : Nat → Prop) (a : Nat → Nat) (S : MS) (x1 : Int32) (x2 : Int32) (hI : MInv S) : MI l yX1_broken cX1_broken 4 .int (rm_ 2) D d A a S [.int x1, .int x2] (m_broken S x1 x2) := by
  refine m_startI rfl (Nat.le_of_ble_eq_true rfl) ?_
  intro p e s m av below meth c ls Q X hrt hlk hl hR hQ
  have hx := X.1.1
  have hb := X.1.2.1
  have hown := X.1.2.2.2.1
  have hts := X.1.2.2.2.2
  have hS : va_S A s.heap s.heap [] := va_S.rf
  have hl : lv_has ls 4 [(0, .ref (a 0)), (1, .int x1), (2, .int x2)] := hl
  have hn : ¬ (m_isTrain S x1) = 0 → 0 ≤ x1 ∧ x1 < 16 := isTrain_ok hI
  refine lv_aload_n hx hb dX1_broken_0 rfl (lv_at hl 0 rfl) ?_
  refine lv_iload_n hx hb dX1_broken_1 rfl (lv_at hl 1 rfl) ?_
  refine m_cr X hR hS (mt_isTrain l D d A a S x1) 1 (lw_V q1373 q1375 qs28 q59 q1376) ⟨rfl, rfl⟩ (by decide +kernel) ⟨by decide, by decide⟩ ⟨by decide, by decide⟩ rfl hl.1 rfl (Nat.le_of_ble_eq_true rfl) dX1_broken_2 (fun H locs hR hS => ?_)
  refine lv_if_eq (tgt := 19) hx hb dX1_broken_5 (by decide) (fun c1 => ?_) (fun c1 => ?_)
  · refine lv_iconst (v := (-1)) hx hb dX1_broken_19 (by decide) ?_
    exact m_ri hx hb hrt (rfl) hlk hR hS hQ (if_pos c1) dX1_broken_20
  · refine lv_iload_n hx hb dX1_broken_8 rfl (lv_at hl 2 rfl) ?_
    refine lv_iconst (v := 0) hx hb dX1_broken_9 (by decide) ?_
    refine lv_sipush (v := 255) hx hb dX1_broken_10 (by decide) ?_
    refine s_ci X.1 (st_m_in l x2 0 255) 3 (lw_S q1314 q1315 q59 q1316) ⟨rfl, rfl⟩ (by decide +kernel) ⟨by decide, by decide⟩ ⟨by decide, by decide⟩ rfl hl.1 rfl (Nat.le_of_ble_eq_true rfl) dX1_broken_13 ?_
    refine lv_if_ne (tgt := 21) hx hb dX1_broken_16 (by decide) (fun c2 => ?_) (fun c2 => ?_)
    · refine lv_aload_n hx hb dX1_broken_21 rfl (lv_at hl 0 rfl) ?_
      refine mg_a X hR 23 (by decide) (by decide) q1160 dX1_broken_22 ?_
      refine lv_iload_n hx hb dX1_broken_25 rfl (lv_at hl 1 rfl) ?_
      refine m_ld X hR ⟨by decide, rfl, by decide⟩ (ixl 16 16 (by decide) rfl (m_broken_o3 S x1 x2 hI hn c1 c2)) (v := S.1 23 (Int32.toNatClampNeg x1)) rfl dX1_broken_26 ?_
      refine lv_istore_n (lv' := [(3, .int (m_broken_v27 S x1)), (0, .ref (a 0)), (1, .int x1), (2, .int x2)]) hx hb dX1_broken_27 rfl hl (by decide) rfl (fun ls hl => ?_)
      refine lv_aload_n hx hb dX1_broken_28 rfl (lv_at hl 1 rfl) ?_
      refine mg_a X hR 23 (by decide) (by decide) q1160 dX1_broken_29 ?_
      refine lv_iload_n hx hb dX1_broken_32 rfl (lv_at hl 2 rfl) ?_
      refine lv_iload_n hx hb dX1_broken_33 rfl (lv_at hl 3 rfl) ?_
      refine m_st X hR hS ⟨by decide, rfl, by decide⟩ (ixl 16 16 (by decide) rfl (m_broken_o3 S x1 x2 hI hn c1 c2)) dX1_broken_34 (fun H locs hR hS => ?_)
      refine lv_iload_n hx hb dX1_broken_35 rfl (lv_at hl 0 rfl) ?_
      exact m_ri hx hb hrt (rfl) hlk hR hS hQ (Eq.trans (if_neg c1) (if_neg c2)) dX1_broken_36
    · refine lv_iconst (v := (-1)) hx hb dX1_broken_19 (by decide) ?_
      exact m_ri hx hb hrt (rfl) hlk hR hS hQ (Eq.trans (if_neg c1) (if_pos c2)) dX1_broken_20
def m_trainTells (S : MS) (x1 : Int32) (x2 : Int32) : Int32 := (if x2 = 0 then (S.1 11 (Int32.toNatClampNeg x1)) else (if x2 = 1 then (S.1 12 (Int32.toNatClampNeg x1)) else (if x2 = 2 then (if (m_isPlate S x1) = 0 then (-9) else (S.1 14 (Int32.toNatClampNeg x1))) else (if x2 = 3 then (S.1 18 (Int32.toNatClampNeg x1)) else (if x2 = 4 then (S.1 20 (Int32.toNatClampNeg x1)) else (if x2 = 5 then (S.1 21 (Int32.toNatClampNeg x1)) else (if x2 = 6 then (if 0 ≤ (S.1 22 (Int32.toNatClampNeg x1)) then ((S.1 22 (Int32.toNatClampNeg x1)) / 2) else (-9)) else (S.1 24 (Int32.toNatClampNeg x1)))))))))
set_option maxHeartbeats 4000000 in
theorem mt_trainTells (l : Launch) (D : va_G) (d : Nat → ClassId) (A : Nat → Prop) (a : Nat → Nat) (S : MS) (x1 : Int32) (x2 : Int32) (hn : 0 ≤ x1 ∧ x1 < 16) : MI l yX1_trainTells cX1_trainTells 3 .int (rm_ 1) D d A a S [.int x1, .int x2] ((m_trainTells S x1 x2), S) := by
  refine m_startI rfl (Nat.le_of_ble_eq_true rfl) ?_
  intro p e s m av below meth c ls Q X hrt hlk hl hR hQ
  have hx := X.1.1
  have hb := X.1.2.1
  have hown := X.1.2.2.2.1
  have hts := X.1.2.2.2.2
  have hS : va_S A s.heap s.heap [] := va_S.rf
  have hl : lv_has ls 3 [(0, .ref (a 0)), (1, .int x1), (2, .int x2)] := hl
  refine lv_iload_n hx hb dX1_trainTells_0 rfl (lv_at hl 2 rfl) ?_
  by_cases c1 : x2 = 0
  · refine lv_tableIn (off := 43) (tgt := 44) hx hb dX1_trainTells_1 (by rw [c1]; decide) (by rw [c1]; decide) (by rw [c1]; rfl) (by decide) ?_
    refine lv_aload_n hx hb dX1_trainTells_44 rfl (lv_at hl 0 rfl) ?_
    refine mg_a X hR 11 (by decide) (by decide) q1148 dX1_trainTells_45 ?_
    refine lv_iload_n hx hb dX1_trainTells_48 rfl (lv_at hl 1 rfl) ?_
    refine m_ld X hR ⟨by decide, rfl, by decide⟩ (ixl 16 16 (by decide) rfl (hn)) (v := S.1 11 (Int32.toNatClampNeg x1)) rfl dX1_trainTells_49 ?_
    exact m_ri hx hb hrt (rfl) hlk hR hS hQ (hF1 (if_pos c1)) dX1_trainTells_50
  · by_cases c2 : x2 = 1
    · refine lv_tableIn (off := 50) (tgt := 51) hx hb dX1_trainTells_1 (by rw [c2]; decide) (by rw [c2]; decide) (by rw [c2]; rfl) (by decide) ?_
      refine lv_aload_n hx hb dX1_trainTells_51 rfl (lv_at hl 0 rfl) ?_
      refine mg_a X hR 12 (by decide) (by decide) q1149 dX1_trainTells_52 ?_
      refine lv_iload_n hx hb dX1_trainTells_55 rfl (lv_at hl 1 rfl) ?_
      refine m_ld X hR ⟨by decide, rfl, by decide⟩ (ixl 16 16 (by decide) rfl (hn)) (v := S.1 12 (Int32.toNatClampNeg x1)) rfl dX1_trainTells_56 ?_
      exact m_ri hx hb hrt (rfl) hlk hR hS hQ (hF1 (Eq.trans (if_neg c1) (if_pos c2))) dX1_trainTells_57
    · by_cases c3 : x2 = 2
      · refine lv_tableIn (off := 57) (tgt := 58) hx hb dX1_trainTells_1 (by rw [c3]; decide) (by rw [c3]; decide) (by rw [c3]; rfl) (by decide) ?_
        refine lv_aload_n hx hb dX1_trainTells_58 rfl (lv_at hl 0 rfl) ?_
        refine lv_iload_n hx hb dX1_trainTells_59 rfl (lv_at hl 1 rfl) ?_
        refine m_cr X hR hS (mt_isPlate l D d A a S x1 (hn)) 1 (lw_V q1394 q1396 qs30 q59 q1397) ⟨rfl, rfl⟩ (by decide +kernel) ⟨by decide, by decide⟩ ⟨by decide, by decide⟩ rfl hl.1 rfl (Nat.le_of_ble_eq_true rfl) dX1_trainTells_60 (fun H locs hR hS => ?_)
        refine lv_if_eq (tgt := 75) hx hb dX1_trainTells_63 (by decide) (fun c4 => ?_) (fun c4 => ?_)
        · refine lv_bipush (v := (-9)) hx hb dX1_trainTells_75 (by decide) ?_
          exact m_ri hx hb hrt (rfl) hlk hR hS hQ (hF1 (Eq.trans (if_neg c1) (Eq.trans (if_neg c2) (Eq.trans (if_pos c3) (if_pos c4))))) dX1_trainTells_77
        · refine lv_aload_n hx hb dX1_trainTells_66 rfl (lv_at hl 0 rfl) ?_
          refine mg_a X hR 14 (by decide) (by decide) q1151 dX1_trainTells_67 ?_
          refine lv_iload_n hx hb dX1_trainTells_70 rfl (lv_at hl 1 rfl) ?_
          refine m_ld X hR ⟨by decide, rfl, by decide⟩ (ixl 16 16 (by decide) rfl (hn)) (v := S.1 14 (Int32.toNatClampNeg x1)) rfl dX1_trainTells_71 ?_
          refine lv_goto (tgt := 77) hx hb dX1_trainTells_72 (by decide) ?_
          exact m_ri hx hb hrt (rfl) hlk hR hS hQ (hF1 (Eq.trans (if_neg c1) (Eq.trans (if_neg c2) (Eq.trans (if_pos c3) (if_neg c4))))) dX1_trainTells_77
      · by_cases c5 : x2 = 3
        · refine lv_tableIn (off := 77) (tgt := 78) hx hb dX1_trainTells_1 (by rw [c5]; decide) (by rw [c5]; decide) (by rw [c5]; rfl) (by decide) ?_
          refine lv_aload_n hx hb dX1_trainTells_78 rfl (lv_at hl 0 rfl) ?_
          refine mg_a X hR 18 (by decide) (by decide) q1155 dX1_trainTells_79 ?_
          refine lv_iload_n hx hb dX1_trainTells_82 rfl (lv_at hl 1 rfl) ?_
          refine m_ld X hR ⟨by decide, rfl, by decide⟩ (ixl 16 16 (by decide) rfl (hn)) (v := S.1 18 (Int32.toNatClampNeg x1)) rfl dX1_trainTells_83 ?_
          exact m_ri hx hb hrt (rfl) hlk hR hS hQ (hF1 (Eq.trans (if_neg c1) (Eq.trans (if_neg c2) (Eq.trans (if_neg c3) (if_pos c5))))) dX1_trainTells_84
        · by_cases c6 : x2 = 4
          · refine lv_tableIn (off := 84) (tgt := 85) hx hb dX1_trainTells_1 (by rw [c6]; decide) (by rw [c6]; decide) (by rw [c6]; rfl) (by decide) ?_
            refine lv_aload_n hx hb dX1_trainTells_85 rfl (lv_at hl 0 rfl) ?_
            refine mg_a X hR 20 (by decide) (by decide) q1157 dX1_trainTells_86 ?_
            refine lv_iload_n hx hb dX1_trainTells_89 rfl (lv_at hl 1 rfl) ?_
            refine m_ld X hR ⟨by decide, rfl, by decide⟩ (ixl 16 16 (by decide) rfl (hn)) (v := S.1 20 (Int32.toNatClampNeg x1)) rfl dX1_trainTells_90 ?_
            exact m_ri hx hb hrt (rfl) hlk hR hS hQ (hF1 (Eq.trans (if_neg c1) (Eq.trans (if_neg c2) (Eq.trans (if_neg c3) (Eq.trans (if_neg c5) (if_pos c6)))))) dX1_trainTells_91
          · by_cases c7 : x2 = 5
            · refine lv_tableIn (off := 91) (tgt := 92) hx hb dX1_trainTells_1 (by rw [c7]; decide) (by rw [c7]; decide) (by rw [c7]; rfl) (by decide) ?_
              refine lv_aload_n hx hb dX1_trainTells_92 rfl (lv_at hl 0 rfl) ?_
              refine mg_a X hR 21 (by decide) (by decide) q1158 dX1_trainTells_93 ?_
              refine lv_iload_n hx hb dX1_trainTells_96 rfl (lv_at hl 1 rfl) ?_
              refine m_ld X hR ⟨by decide, rfl, by decide⟩ (ixl 16 16 (by decide) rfl (hn)) (v := S.1 21 (Int32.toNatClampNeg x1)) rfl dX1_trainTells_97 ?_
              exact m_ri hx hb hrt (rfl) hlk hR hS hQ (hF1 (Eq.trans (if_neg c1) (Eq.trans (if_neg c2) (Eq.trans (if_neg c3) (Eq.trans (if_neg c5) (Eq.trans (if_neg c6) (if_pos c7))))))) dX1_trainTells_98
            · by_cases c8 : x2 = 6
              · refine lv_tableIn (off := 98) (tgt := 99) hx hb dX1_trainTells_1 (by rw [c8]; decide) (by rw [c8]; decide) (by rw [c8]; rfl) (by decide) ?_
                refine lv_aload_n hx hb dX1_trainTells_99 rfl (lv_at hl 0 rfl) ?_
                refine mg_a X hR 22 (by decide) (by decide) q1159 dX1_trainTells_100 ?_
                refine lv_iload_n hx hb dX1_trainTells_103 rfl (lv_at hl 1 rfl) ?_
                refine m_ld X hR ⟨by decide, rfl, by decide⟩ (ixl 16 16 (by decide) rfl (hn)) (v := S.1 22 (Int32.toNatClampNeg x1)) rfl dX1_trainTells_104 ?_
                refine lv_if_ge (tgt := 113) hx hb dX1_trainTells_105 (by decide) (fun c9 => ?_) (fun c9 => ?_)
                · refine lv_aload_n hx hb dX1_trainTells_113 rfl (lv_at hl 0 rfl) ?_
                  refine mg_a X hR 22 (by decide) (by decide) q1159 dX1_trainTells_114 ?_
                  refine lv_iload_n hx hb dX1_trainTells_117 rfl (lv_at hl 1 rfl) ?_
                  refine m_ld X hR ⟨by decide, rfl, by decide⟩ (ixl 16 16 (by decide) rfl (hn)) (v := S.1 22 (Int32.toNatClampNeg x1)) rfl dX1_trainTells_118 ?_
                  refine lv_iconst (v := 2) hx hb dX1_trainTells_119 (by decide) ?_
                  refine lv_idiv hx hb dX1_trainTells_120 (by decide) ?_
                  exact m_ri hx hb hrt (rfl) hlk hR hS hQ (hF1 (Eq.trans (if_neg c1) (Eq.trans (if_neg c2) (Eq.trans (if_neg c3) (Eq.trans (if_neg c5) (Eq.trans (if_neg c6) (Eq.trans (if_neg c7) (Eq.trans (if_pos c8) (if_pos c9))))))))) dX1_trainTells_121
                · refine lv_bipush (v := (-9)) hx hb dX1_trainTells_108 (by decide) ?_
                  refine lv_goto (tgt := 121) hx hb dX1_trainTells_110 (by decide) ?_
                  exact m_ri hx hb hrt (rfl) hlk hR hS hQ (hF1 (Eq.trans (if_neg c1) (Eq.trans (if_neg c2) (Eq.trans (if_neg c3) (Eq.trans (if_neg c5) (Eq.trans (if_neg c6) (Eq.trans (if_neg c7) (Eq.trans (if_pos c8) (if_neg c9))))))))) dX1_trainTells_121
              · refine lv_tableOut (tgt := 122) hx hb dX1_trainTells_1 (sw_out _ _ _ (fun k hk => by match k, hk with | 0, _ => exact c1 | 1, _ => exact c2 | 2, _ => exact c3 | 3, _ => exact c5 | 4, _ => exact c6 | 5, _ => exact c7 | 6, _ => exact c8)) (by decide) ?_
                refine lv_aload_n hx hb dX1_trainTells_122 rfl (lv_at hl 0 rfl) ?_
                refine mg_a X hR 24 (by decide) (by decide) q1161 dX1_trainTells_123 ?_
                refine lv_iload_n hx hb dX1_trainTells_126 rfl (lv_at hl 1 rfl) ?_
                refine m_ld X hR ⟨by decide, rfl, by decide⟩ (ixl 16 16 (by decide) rfl (hn)) (v := S.1 24 (Int32.toNatClampNeg x1)) rfl dX1_trainTells_127 ?_
                exact m_ri hx hb hrt (rfl) hlk hR hS hQ (hF1 (Eq.trans (if_neg c1) (Eq.trans (if_neg c2) (Eq.trans (if_neg c3) (Eq.trans (if_neg c5) (Eq.trans (if_neg c6) (Eq.trans (if_neg c7) (if_neg c8)))))))) dX1_trainTells_128
theorem m_told_o3 (S : MS) (x1 : Int32) (x2 : Int32) (hI : MInv S) (hn : ¬ (m_isTrain S x1) = 0 → 0 ≤ x1 ∧ x1 < 16) (c1 : ¬ (m_isTrain S x1) = 0) (c2 : ¬ (m_in x2 0 7) = 0) : 0 ≤ x1 ∧ x1 < 16 := by 
  clear hI
  try simp only [m_in_eq] at *
  try simp only [i_le, i_lt, i_eq, Int32.reduceToInt] at *
  try simp only [Int32.reduceToInt] at *
  omega
def m_told (S : MS) (x1 : Int32) (x2 : Int32) : Int32 := (if (m_isTrain S x1) = 0 then (-1) else (if (m_in x2 0 7) = 0 then (-1) else (m_trainTells S x1 x2)))
set_option maxHeartbeats 4000000 in
theorem mt_told (l : Launch) (D : va_G) (d : Nat → ClassId) (A : Nat → Prop) (a : Nat → Nat) (S : MS) (x1 : Int32) (x2 : Int32) (hI : MInv S) : MI l yX1_told cX1_told 3 .int (rm_ 2) D d A a S [.int x1, .int x2] ((m_told S x1 x2), S) := by
  refine m_startI rfl (Nat.le_of_ble_eq_true rfl) ?_
  intro p e s m av below meth c ls Q X hrt hlk hl hR hQ
  have hx := X.1.1
  have hb := X.1.2.1
  have hown := X.1.2.2.2.1
  have hts := X.1.2.2.2.2
  have hS : va_S A s.heap s.heap [] := va_S.rf
  have hl : lv_has ls 3 [(0, .ref (a 0)), (1, .int x1), (2, .int x2)] := hl
  have hn : ¬ (m_isTrain S x1) = 0 → 0 ≤ x1 ∧ x1 < 16 := isTrain_ok hI
  refine lv_aload_n hx hb dX1_told_0 rfl (lv_at hl 0 rfl) ?_
  refine lv_iload_n hx hb dX1_told_1 rfl (lv_at hl 1 rfl) ?_
  refine m_cr X hR hS (mt_isTrain l D d A a S x1) 1 (lw_V q1373 q1375 qs28 q59 q1376) ⟨rfl, rfl⟩ (by decide +kernel) ⟨by decide, by decide⟩ ⟨by decide, by decide⟩ rfl hl.1 rfl (Nat.le_of_ble_eq_true rfl) dX1_told_2 (fun H locs hR hS => ?_)
  refine lv_if_eq (tgt := 27) hx hb dX1_told_5 (by decide) (fun c1 => ?_) (fun c1 => ?_)
  · refine lv_iconst (v := (-1)) hx hb dX1_told_27 (by decide) ?_
    exact m_ri hx hb hrt (rfl) hlk hR hS hQ (hF1 (if_pos c1)) dX1_told_28
  · refine lv_iload_n hx hb dX1_told_8 rfl (lv_at hl 2 rfl) ?_
    refine lv_iconst (v := 0) hx hb dX1_told_9 (by decide) ?_
    refine lv_bipush (v := 7) hx hb dX1_told_10 (by decide) ?_
    refine s_ci X.1 (st_m_in l x2 0 7) 3 (lw_S q1314 q1315 q59 q1316) ⟨rfl, rfl⟩ (by decide +kernel) ⟨by decide, by decide⟩ ⟨by decide, by decide⟩ rfl hl.1 rfl (Nat.le_of_ble_eq_true rfl) dX1_told_12 ?_
    refine lv_if_eq (tgt := 27) hx hb dX1_told_15 (by decide) (fun c2 => ?_) (fun c2 => ?_)
    · refine lv_iconst (v := (-1)) hx hb dX1_told_27 (by decide) ?_
      exact m_ri hx hb hrt (rfl) hlk hR hS hQ (hF1 (Eq.trans (if_neg c1) (if_pos c2))) dX1_told_28
    · refine lv_aload_n hx hb dX1_told_18 rfl (lv_at hl 0 rfl) ?_
      refine lv_iload_n hx hb dX1_told_19 rfl (lv_at hl 1 rfl) ?_
      refine lv_iload_n hx hb dX1_told_20 rfl (lv_at hl 2 rfl) ?_
      refine m_cr X hR hS (mt_trainTells l D d A a S x1 x2 (m_told_o3 S x1 x2 hI hn c1 c2)) 2 (lw_V q1390 q1392 qs29 q59 q1393) ⟨rfl, rfl⟩ (by decide +kernel) ⟨by decide, by decide⟩ ⟨by decide, by decide⟩ rfl hl.1 rfl (Nat.le_of_ble_eq_true rfl) dX1_told_21 (fun H locs hR hS => ?_)
      refine lv_goto (tgt := 28) hx hb dX1_told_24 (by decide) ?_
      exact m_ri hx hb hrt (rfl) hlk hR hS hQ (hF1 (Eq.trans (if_neg c1) (if_neg c2))) dX1_told_28
theorem m_over_o2 (S : MS) (x1 : Int32) (y4_5 : Int32) (hn : 0 ≤ x1 ∧ x1 < 16) (hm : 0 ≤ S.1 12 (Int32.toNatClampNeg x1) ∧ S.1 12 (Int32.toNatClampNeg x1) ≤ 24) (hi4 : 0 ≤ y4_5) (c1 : ¬ (S.1 12 (Int32.toNatClampNeg x1)) ≤ y4_5) : 0 ≤ ((24 * x1) + y4_5) ∧ ((24 * x1) + y4_5) < 384 := by 
  try simp only [i_le, i_lt, i_eq, Int32.reduceToInt] at *
  first | (have e_0 := m32 (x := 24) (y := x1) (by (try simp only [Int32.reduceToInt]); omega); (try simp only [Int32.reduceToInt] at e_0)) | skip
  first | (have e_1 := a32 (x := (24 * x1)) (y := y4_5) (by (try simp only [Int32.reduceToInt]); omega); (try simp only [Int32.reduceToInt] at e_1)) | skip
  try simp only [Int32.reduceToInt] at *
  omega
def m_over_v28 (S : MS) (x1 : Int32) (y4_5 : Int32) : Int32 := (S.1 13 (Int32.toNatClampNeg ((24 * x1) + y4_5)))
def m_over_j53_s0 (S : MS) (x1 : Int32) (x2 : Int32) (y3_5 : Int32) (y4_5 : Int32) : Int32 := (if x2 = 0 then (y3_5 + (m_over_v28 S x1 y4_5)) else (if (m_over_v28 S x1 y4_5) ≤ y3_5 then y3_5 else (m_over_v28 S x1 y4_5)))
def m_over_L5 (S : MS) (x1 : Int32) (x2 : Int32) : Nat → Int32 → Int32 → Int32 × Int32
  | 0, y3_5, y4_5 => (y3_5, y4_5)
  | f5 + 1, y3_5, y4_5 => (if (S.1 12 (Int32.toNatClampNeg x1)) ≤ y4_5 then (y3_5, y4_5) else (m_over_L5 S x1 x2 f5 (m_over_j53_s0 S x1 x2 y3_5 y4_5) (y4_5 + 1)))
theorem m_over_L5_s (S : MS) (x1 : Int32) (x2 : Int32) (f5 : Nat) (y3_5 : Int32) (y4_5 : Int32) : m_over_L5 S x1 x2 (f5 + 1) y3_5 y4_5 = (if (S.1 12 (Int32.toNatClampNeg x1)) ≤ y4_5 then (y3_5, y4_5) else (m_over_L5 S x1 x2 f5 (m_over_j53_s0 S x1 x2 y3_5 y4_5) (y4_5 + 1))) := rfl
def m_over_R5 (S : MS) (x1 : Int32) (x2 : Int32) : Int32 × Int32 := m_over_L5 S x1 x2 ((S.1 12 (Int32.toNatClampNeg x1) - 0 : Int32).toNatClampNeg + 1) 0 0
theorem m_over_o7 (S : MS) (x1 : Int32) (y4_5 : Int32) (hn : 0 ≤ x1 ∧ x1 < 16) (hm : 0 ≤ S.1 12 (Int32.toNatClampNeg x1) ∧ S.1 12 (Int32.toNatClampNeg x1) ≤ 24) (hi4 : 0 ≤ y4_5) (c1 : ¬ (S.1 12 (Int32.toNatClampNeg x1)) ≤ y4_5) : 0 ≤ (y4_5 + 1) := by 
  try simp only [i_le, i_lt, i_eq, Int32.reduceToInt] at *
  first | (have e_0 := a32 (x := y4_5) (y := 1) (by (try simp only [Int32.reduceToInt]); omega); (try simp only [Int32.reduceToInt] at e_0)) | skip
  try simp only [Int32.reduceToInt] at *
  omega
theorem m_over_o8 (S : MS) (x1 : Int32) (y4_5 : Int32) (hn : 0 ≤ x1 ∧ x1 < 16) (hm : 0 ≤ S.1 12 (Int32.toNatClampNeg x1) ∧ S.1 12 (Int32.toNatClampNeg x1) ≤ 24) (hi4 : 0 ≤ y4_5) (c1 : ¬ (S.1 12 (Int32.toNatClampNeg x1)) ≤ y4_5) : y4_5 < S.1 12 (Int32.toNatClampNeg x1) := by 
  try simp only [i_le, i_lt, i_eq, Int32.reduceToInt] at *
  try simp only [Int32.reduceToInt] at *
  omega
def m_over (S : MS) (x1 : Int32) (x2 : Int32) : Int32 := (m_over_R5 S x1 x2).1
set_option maxHeartbeats 4000000 in
theorem mt_over (l : Launch) (D : va_G) (d : Nat → ClassId) (A : Nat → Prop) (a : Nat → Nat) (S : MS) (x1 : Int32) (x2 : Int32) (hn : 0 ≤ x1 ∧ x1 < 16) (hm : 0 ≤ S.1 12 (Int32.toNatClampNeg x1) ∧ S.1 12 (Int32.toNatClampNeg x1) ≤ 24) : MI l yX1_over cX1_over 6 .int (rm_ 0) D d A a S [.int x1, .int x2] ((m_over S x1 x2), S) := by
  refine m_startI rfl (Nat.le_of_ble_eq_true rfl) ?_
  intro p e s m av below meth c ls Q X hrt hlk hl hR hQ
  have hx := X.1.1
  have hb := X.1.2.1
  have hown := X.1.2.2.2.1
  have hts := X.1.2.2.2.2
  have hS : va_S A s.heap s.heap [] := va_S.rf
  have hl : lv_has ls 6 [(0, .ref (a 0)), (1, .int x1), (2, .int x2)] := hl
  refine lv_iconst (v := 0) hx hb dX1_over_0 (by decide) ?_
  refine lv_istore_n (lv' := [(3, .int 0), (0, .ref (a 0)), (1, .int x1), (2, .int x2)]) hx hb dX1_over_1 rfl hl (by decide) rfl (fun ls hl => ?_)
  refine lv_iconst (v := 0) hx hb dX1_over_2 (by decide) ?_
  refine lv_istore (lv' := [(4, .int 0), (3, .int 0), (0, .ref (a 0)), (1, .int x1), (2, .int x2)]) hx hb dX1_over_3 hl (by decide) rfl (fun ls hl => ?_)
  have K5 : ∀ (H : Heap) (locs : List Loc) (ls : Array Slot), MR D d A a S H → va_S A s.heap H locs → lv_has ls 6 [(4, .int ((m_over_R5 S x1 x2).2)), (3, .int ((m_over_R5 S x1 x2).1)), (0, .ref (a 0)), (1, .int x1), (2, .int x2)] → W p l e (rm_ 0) s m av below meth c H locs 0 0 Q (F0 m 60 ls []) := by
    intro H locs ls hR hS hl
    refine lv_iload_n hx hb dX1_over_60 rfl (lv_at hl 1 rfl) ?_
    exact m_ri hx hb hrt (rfl) hlk hR hS hQ (hF1 rfl) dX1_over_61
  have L5 : ∀ (f5 : Nat) (y3_5 : Int32) (y4_5 : Int32) (H : Heap) (locs : List Loc) (ls : Array Slot), (S.1 12 (Int32.toNatClampNeg x1) - y4_5 : Int32).toNatClampNeg < f5 → 0 ≤ y4_5 → m_over_L5 S x1 x2 (f5) y3_5 y4_5 = (m_over_R5 S x1 x2) → MR D d A a S H → va_S A s.heap H locs → lv_has ls 6 [(4, .int y4_5), (3, .int y3_5), (0, .ref (a 0)), (1, .int x1), (2, .int x2)] → W p l e (rm_ 0) s m av below meth c H locs 0 0 Q (F0 m 5 ls []) := by
    intro f5
    induction f5 with
    | zero => intro y3_5 y4_5 H locs ls hf; exact absurd hf (Nat.not_lt_zero _)
    | succ f5 ih =>
      intro y3_5 y4_5 H locs ls hf hi4 hE hR hS hl
      refine lv_iload hx hb dX1_over_5 (lv_at hl 0 rfl) ?_
      refine lv_aload_n hx hb dX1_over_7 rfl (lv_at hl 2 rfl) ?_
      refine mg_a X hR 12 (by decide) (by decide) q1149 dX1_over_8 ?_
      refine lv_iload_n hx hb dX1_over_11 rfl (lv_at hl 3 rfl) ?_
      refine m_ld X hR ⟨by decide, rfl, by decide⟩ (ixl 16 16 (by decide) rfl (hn)) (v := S.1 12 (Int32.toNatClampNeg x1)) rfl dX1_over_12 ?_
      refine lv_icmp_ge (tgt := 60) hx hb dX1_over_13 (by decide) (fun c1 => ?_) (fun c1 => ?_)
      · have e0 : (m_over_R5 S x1 x2) = (y3_5, y4_5) := Eq.trans (Eq.symm hE) (Eq.trans (m_over_L5_s _ _ _ _ _ _) (if_pos c1))
        exact K5 _ _ _ hR hS (by rw [e0]; exact lv_sub hl [0, 1, 2, 3, 4] rfl)
      · refine lv_aload_n hx hb dX1_over_16 rfl (lv_at hl 2 rfl) ?_
        refine mg_a X hR 13 (by decide) (by decide) q1150 dX1_over_17 ?_
        refine lv_bipush (v := 24) hx hb dX1_over_20 (by decide) ?_
        refine lv_iload_n hx hb dX1_over_22 rfl (lv_at hl 3 rfl) ?_
        refine lv_imul hx hb dX1_over_23 ?_
        refine lv_iload hx hb dX1_over_24 (lv_at hl 0 rfl) ?_
        refine lv_iadd hx hb dX1_over_26 ?_
        refine m_ld X hR ⟨by decide, rfl, by decide⟩ (ixl 384 384 (by decide) rfl (m_over_o2 S x1 y4_5 hn hm hi4 c1)) (v := S.1 13 (Int32.toNatClampNeg ((24 * x1) + y4_5))) rfl dX1_over_27 ?_
        refine lv_istore (lv' := [(5, .int (m_over_v28 S x1 y4_5)), (4, .int y4_5), (3, .int y3_5), (0, .ref (a 0)), (1, .int x1), (2, .int x2)]) hx hb dX1_over_28 hl (by decide) rfl (fun ls hl => ?_)
        refine lv_iload_n hx hb dX1_over_30 rfl (lv_at hl 5 rfl) ?_
        have J6 : ∀ (w5 : Int32) (H : Heap) (locs : List Loc) (ls : Array Slot), w5 = (m_over_j53_s0 S x1 x2 y3_5 y4_5) → MR D d A a S H → va_S A s.heap H locs → lv_has ls 6 [(5, .int (m_over_v28 S x1 y4_5)), (4, .int y4_5), (3, .int y3_5), (0, .ref (a 0)), (1, .int x1), (2, .int x2)] → W p l e (rm_ 0) s m av below meth c H locs 0 0 Q (F0 m 53 ls [.int w5]) := by
          intro w5 H locs ls ew5 hR hS hl
          subst ew5
          refine lv_istore_n (lv' := [(3, .int (m_over_j53_s0 S x1 x2 y3_5 y4_5)), (5, .int (m_over_v28 S x1 y4_5)), (4, .int y4_5), (0, .ref (a 0)), (1, .int x1), (2, .int x2)]) hx hb dX1_over_53 rfl hl (by decide) rfl (fun ls hl => ?_)
          refine lv_iinc (v := (y4_5 + 1)) (lv' := [(4, .int (y4_5 + 1)), (3, .int (m_over_j53_s0 S x1 x2 y3_5 y4_5)), (5, .int (m_over_v28 S x1 y4_5)), (0, .ref (a 0)), (1, .int x1), (2, .int x2)]) hx hb dX1_over_54 hl (k := 2) rfl rfl (by decide) rfl (fun ls hl => ?_)
          refine lv_goto (tgt := 5) hx hb dX1_over_57 (by decide) ?_
          exact ih (m_over_j53_s0 S x1 x2 y3_5 y4_5) (y4_5 + 1) _ _  _ (Nat.lt_of_lt_of_le (up_ hi4 (m_over_o8 S x1 y4_5 hn hm hi4 c1)) (Nat.le_of_lt_succ hf)) (m_over_o7 S x1 y4_5 hn hm hi4 c1) (Eq.trans (Eq.symm (Eq.trans (m_over_L5_s _ _ _ _ _ _) (if_neg c1))) hE) hR hS (lv_sub hl [0, 1, 3, 4, 5] rfl)
        refine lv_if_eq (tgt := 49) hx hb dX1_over_31 (by decide) (fun c3 => ?_) (fun c3 => ?_)
        · refine lv_iload_n hx hb dX1_over_49 rfl (lv_at hl 2 rfl) ?_
          refine lv_iload hx hb dX1_over_50 (lv_at hl 0 rfl) ?_
          refine lv_iadd hx hb dX1_over_52 ?_
          exact J6 _ _ _  _ (Eq.symm (if_pos c3)) hR hS  (lv_sub hl [0, 1, 2, 3, 4, 5] rfl)
        · refine lv_iload hx hb dX1_over_34 (lv_at hl 0 rfl) ?_
          refine lv_iload_n hx hb dX1_over_36 rfl (lv_at hl 2 rfl) ?_
          refine lv_icmp_le (tgt := 45) hx hb dX1_over_37 (by decide) (fun c4 => ?_) (fun c4 => ?_)
          · refine lv_iload_n hx hb dX1_over_45 rfl (lv_at hl 2 rfl) ?_
            refine lv_goto (tgt := 53) hx hb dX1_over_46 (by decide) ?_
            exact J6 _ _ _  _ (Eq.symm (Eq.trans (if_neg c3) (if_pos c4))) hR hS  (lv_sub hl [0, 1, 2, 3, 4, 5] rfl)
          · refine lv_iload hx hb dX1_over_40 (lv_at hl 0 rfl) ?_
            refine lv_goto (tgt := 53) hx hb dX1_over_42 (by decide) ?_
            exact J6 _ _ _  _ (Eq.symm (Eq.trans (if_neg c3) (if_neg c4))) hR hS  (lv_sub hl [0, 1, 2, 3, 4, 5] rfl)
  exact L5 _ 0 0 _ _  _ (Nat.lt_succ_self _) (by decide) rfl hR hS (lv_sub hl [0, 1, 2, 3, 4] rfl)
theorem m_mark_o3 (S : MS) (x1 : Int32) (x2 : Int32) (hI : MInv S) (hn : ¬ (m_isTrain S x1) = 0 → 0 ≤ x1 ∧ x1 < 16) (hm : 0 ≤ x1 ∧ x1 < 16 → 0 ≤ S.1 11 (Int32.toNatClampNeg x1) ∧ S.1 11 (Int32.toNatClampNeg x1) ≤ 3 ∧ 0 ≤ S.1 12 (Int32.toNatClampNeg x1) ∧ S.1 12 (Int32.toNatClampNeg x1) ≤ 24 ∧ (S.1 11 (Int32.toNatClampNeg x1) = 0 ∨ 1 ≤ S.1 12 (Int32.toNatClampNeg x1)) ∧ 0 ≤ S.1 14 (Int32.toNatClampNeg x1) ∧ (S.1 14 (Int32.toNatClampNeg x1) < S.1 12 (Int32.toNatClampNeg x1) ∨ S.1 14 (Int32.toNatClampNeg x1) = 0)) (c1 : ¬ (m_isTrain S x1) = 0) (c2 : ¬ (m_in x2 1 3) = 0) : 0 ≤ x1 ∧ x1 < 16 := by 
  clear hI
  try simp only [m_in_eq] at *
  try simp only [i_le, i_lt, i_eq, Int32.reduceToInt] at *
  try simp only [Int32.reduceToInt] at *
  omega
theorem m_mark_o7 (S : MS) (x1 : Int32) (x2 : Int32) (hI : MInv S) (hn : ¬ (m_isTrain S x1) = 0 → 0 ≤ x1 ∧ x1 < 16) (hm : 0 ≤ x1 ∧ x1 < 16 → 0 ≤ S.1 11 (Int32.toNatClampNeg x1) ∧ S.1 11 (Int32.toNatClampNeg x1) ≤ 3 ∧ 0 ≤ S.1 12 (Int32.toNatClampNeg x1) ∧ S.1 12 (Int32.toNatClampNeg x1) ≤ 24 ∧ (S.1 11 (Int32.toNatClampNeg x1) = 0 ∨ 1 ≤ S.1 12 (Int32.toNatClampNeg x1)) ∧ 0 ≤ S.1 14 (Int32.toNatClampNeg x1) ∧ (S.1 14 (Int32.toNatClampNeg x1) < S.1 12 (Int32.toNatClampNeg x1) ∨ S.1 14 (Int32.toNatClampNeg x1) = 0)) (c1 : ¬ (m_isTrain S x1) = 0) (c2 : ¬ (m_in x2 1 3) = 0) (c4 : (S.1 11 (Int32.toNatClampNeg x1)) = x2) (c5 : ¬ x2 = 3) (c6 : ¬ x2 = 2) : 0 ≤ x1 ∧ x1 < 16 := by 
  clear hI
  try simp only [m_in_eq] at *
  try simp only [i_le, i_lt, i_eq, Int32.reduceToInt] at *
  try simp only [Int32.reduceToInt] at *
  omega
theorem m_mark_o8 (S : MS) (x1 : Int32) (x2 : Int32) (hI : MInv S) (hn : ¬ (m_isTrain S x1) = 0 → 0 ≤ x1 ∧ x1 < 16) (hm : 0 ≤ x1 ∧ x1 < 16 → 0 ≤ S.1 11 (Int32.toNatClampNeg x1) ∧ S.1 11 (Int32.toNatClampNeg x1) ≤ 3 ∧ 0 ≤ S.1 12 (Int32.toNatClampNeg x1) ∧ S.1 12 (Int32.toNatClampNeg x1) ≤ 24 ∧ (S.1 11 (Int32.toNatClampNeg x1) = 0 ∨ 1 ≤ S.1 12 (Int32.toNatClampNeg x1)) ∧ 0 ≤ S.1 14 (Int32.toNatClampNeg x1) ∧ (S.1 14 (Int32.toNatClampNeg x1) < S.1 12 (Int32.toNatClampNeg x1) ∨ S.1 14 (Int32.toNatClampNeg x1) = 0)) (c1 : ¬ (m_isTrain S x1) = 0) (c2 : ¬ (m_in x2 1 3) = 0) (c4 : (S.1 11 (Int32.toNatClampNeg x1)) = x2) (c5 : ¬ x2 = 3) (c6 : ¬ x2 = 2) : 0 ≤ S.1 12 (Int32.toNatClampNeg x1) ∧ S.1 12 (Int32.toNatClampNeg x1) ≤ 24 := by 
  clear hI
  try simp only [m_in_eq] at *
  try simp only [i_le, i_lt, i_eq, Int32.reduceToInt] at *
  try simp only [Int32.reduceToInt] at *
  omega
theorem m_mark_o9 (S : MS) (x1 : Int32) (x2 : Int32) (hI : MInv S) (hn : ¬ (m_isTrain S x1) = 0 → 0 ≤ x1 ∧ x1 < 16) (hm : 0 ≤ x1 ∧ x1 < 16 → 0 ≤ S.1 11 (Int32.toNatClampNeg x1) ∧ S.1 11 (Int32.toNatClampNeg x1) ≤ 3 ∧ 0 ≤ S.1 12 (Int32.toNatClampNeg x1) ∧ S.1 12 (Int32.toNatClampNeg x1) ≤ 24 ∧ (S.1 11 (Int32.toNatClampNeg x1) = 0 ∨ 1 ≤ S.1 12 (Int32.toNatClampNeg x1)) ∧ 0 ≤ S.1 14 (Int32.toNatClampNeg x1) ∧ (S.1 14 (Int32.toNatClampNeg x1) < S.1 12 (Int32.toNatClampNeg x1) ∨ S.1 14 (Int32.toNatClampNeg x1) = 0)) (c1 : ¬ (m_isTrain S x1) = 0) (c2 : ¬ (m_in x2 1 3) = 0) (c4 : (S.1 11 (Int32.toNatClampNeg x1)) = x2) (c5 : ¬ x2 = 3) (c6 : x2 = 2) : 0 ≤ x1 ∧ x1 < 16 := by 
  clear hI
  try simp only [m_in_eq] at *
  try simp only [i_le, i_lt, i_eq, Int32.reduceToInt] at *
  try simp only [Int32.reduceToInt] at *
  omega
theorem m_mark_o10 (S : MS) (x1 : Int32) (x2 : Int32) (hI : MInv S) (hn : ¬ (m_isTrain S x1) = 0 → 0 ≤ x1 ∧ x1 < 16) (hm : 0 ≤ x1 ∧ x1 < 16 → 0 ≤ S.1 11 (Int32.toNatClampNeg x1) ∧ S.1 11 (Int32.toNatClampNeg x1) ≤ 3 ∧ 0 ≤ S.1 12 (Int32.toNatClampNeg x1) ∧ S.1 12 (Int32.toNatClampNeg x1) ≤ 24 ∧ (S.1 11 (Int32.toNatClampNeg x1) = 0 ∨ 1 ≤ S.1 12 (Int32.toNatClampNeg x1)) ∧ 0 ≤ S.1 14 (Int32.toNatClampNeg x1) ∧ (S.1 14 (Int32.toNatClampNeg x1) < S.1 12 (Int32.toNatClampNeg x1) ∨ S.1 14 (Int32.toNatClampNeg x1) = 0)) (c1 : ¬ (m_isTrain S x1) = 0) (c2 : ¬ (m_in x2 1 3) = 0) (c4 : (S.1 11 (Int32.toNatClampNeg x1)) = x2) (c5 : ¬ x2 = 3) (c6 : x2 = 2) : 0 ≤ S.1 12 (Int32.toNatClampNeg x1) ∧ S.1 12 (Int32.toNatClampNeg x1) ≤ 24 := by 
  clear hI
  try simp only [m_in_eq] at *
  try simp only [i_le, i_lt, i_eq, Int32.reduceToInt] at *
  try simp only [Int32.reduceToInt] at *
  omega
theorem m_mark_o11 (S : MS) (x1 : Int32) (x2 : Int32) (hI : MInv S) (hn : ¬ (m_isTrain S x1) = 0 → 0 ≤ x1 ∧ x1 < 16) (hm : 0 ≤ x1 ∧ x1 < 16 → 0 ≤ S.1 11 (Int32.toNatClampNeg x1) ∧ S.1 11 (Int32.toNatClampNeg x1) ≤ 3 ∧ 0 ≤ S.1 12 (Int32.toNatClampNeg x1) ∧ S.1 12 (Int32.toNatClampNeg x1) ≤ 24 ∧ (S.1 11 (Int32.toNatClampNeg x1) = 0 ∨ 1 ≤ S.1 12 (Int32.toNatClampNeg x1)) ∧ 0 ≤ S.1 14 (Int32.toNatClampNeg x1) ∧ (S.1 14 (Int32.toNatClampNeg x1) < S.1 12 (Int32.toNatClampNeg x1) ∨ S.1 14 (Int32.toNatClampNeg x1) = 0)) (c1 : ¬ (m_isTrain S x1) = 0) (c2 : ¬ (m_in x2 1 3) = 0) (c4 : (S.1 11 (Int32.toNatClampNeg x1)) = x2) (c5 : x2 = 3) : 0 ≤ x1 ∧ x1 < 16 := by 
  clear hI
  try simp only [m_in_eq] at *
  try simp only [i_le, i_lt, i_eq, Int32.reduceToInt] at *
  try simp only [Int32.reduceToInt] at *
  omega
theorem m_mark_o13 (S : MS) (x1 : Int32) (x2 : Int32) (hI : MInv S) (hn : ¬ (m_isTrain S x1) = 0 → 0 ≤ x1 ∧ x1 < 16) (hm : 0 ≤ x1 ∧ x1 < 16 → 0 ≤ S.1 11 (Int32.toNatClampNeg x1) ∧ S.1 11 (Int32.toNatClampNeg x1) ≤ 3 ∧ 0 ≤ S.1 12 (Int32.toNatClampNeg x1) ∧ S.1 12 (Int32.toNatClampNeg x1) ≤ 24 ∧ (S.1 11 (Int32.toNatClampNeg x1) = 0 ∨ 1 ≤ S.1 12 (Int32.toNatClampNeg x1)) ∧ 0 ≤ S.1 14 (Int32.toNatClampNeg x1) ∧ (S.1 14 (Int32.toNatClampNeg x1) < S.1 12 (Int32.toNatClampNeg x1) ∨ S.1 14 (Int32.toNatClampNeg x1) = 0)) (c1 : ¬ (m_isTrain S x1) = 0) (c2 : ¬ (m_in x2 1 3) = 0) (c4 : ¬ (S.1 11 (Int32.toNatClampNeg x1)) = x2) (c12 : x2 = 1) : 0 ≤ x1 ∧ x1 < 16 := by 
  clear hI
  try simp only [m_in_eq] at *
  try simp only [i_le, i_lt, i_eq, Int32.reduceToInt] at *
  try simp only [Int32.reduceToInt] at *
  omega
theorem m_mark_o17 (S : MS) (x1 : Int32) (x2 : Int32) (hI : MInv S) (hn : ¬ (m_isTrain S x1) = 0 → 0 ≤ x1 ∧ x1 < 16) (hm : 0 ≤ x1 ∧ x1 < 16 → 0 ≤ S.1 11 (Int32.toNatClampNeg x1) ∧ S.1 11 (Int32.toNatClampNeg x1) ≤ 3 ∧ 0 ≤ S.1 12 (Int32.toNatClampNeg x1) ∧ S.1 12 (Int32.toNatClampNeg x1) ≤ 24 ∧ (S.1 11 (Int32.toNatClampNeg x1) = 0 ∨ 1 ≤ S.1 12 (Int32.toNatClampNeg x1)) ∧ 0 ≤ S.1 14 (Int32.toNatClampNeg x1) ∧ (S.1 14 (Int32.toNatClampNeg x1) < S.1 12 (Int32.toNatClampNeg x1) ∨ S.1 14 (Int32.toNatClampNeg x1) = 0)) (c1 : ¬ (m_isTrain S x1) = 0) (c2 : ¬ (m_in x2 1 3) = 0) (c4 : ¬ (S.1 11 (Int32.toNatClampNeg x1)) = x2) (c12 : x2 = 1) (c14 : (S.1 11 (Int32.toNatClampNeg x1)) = 3) (c15 : ¬ x2 = 3) (c16 : ¬ x2 = 2) : 0 ≤ x1 ∧ x1 < 16 := by 
  clear hI
  try simp only [m_in_eq] at *
  try simp only [i_le, i_lt, i_eq, Int32.reduceToInt] at *
  try simp only [Int32.reduceToInt] at *
  omega
theorem m_mark_o18 (S : MS) (x1 : Int32) (x2 : Int32) (hI : MInv S) (hn : ¬ (m_isTrain S x1) = 0 → 0 ≤ x1 ∧ x1 < 16) (hm : 0 ≤ x1 ∧ x1 < 16 → 0 ≤ S.1 11 (Int32.toNatClampNeg x1) ∧ S.1 11 (Int32.toNatClampNeg x1) ≤ 3 ∧ 0 ≤ S.1 12 (Int32.toNatClampNeg x1) ∧ S.1 12 (Int32.toNatClampNeg x1) ≤ 24 ∧ (S.1 11 (Int32.toNatClampNeg x1) = 0 ∨ 1 ≤ S.1 12 (Int32.toNatClampNeg x1)) ∧ 0 ≤ S.1 14 (Int32.toNatClampNeg x1) ∧ (S.1 14 (Int32.toNatClampNeg x1) < S.1 12 (Int32.toNatClampNeg x1) ∨ S.1 14 (Int32.toNatClampNeg x1) = 0)) (c1 : ¬ (m_isTrain S x1) = 0) (c2 : ¬ (m_in x2 1 3) = 0) (c4 : ¬ (S.1 11 (Int32.toNatClampNeg x1)) = x2) (c12 : x2 = 1) (c14 : (S.1 11 (Int32.toNatClampNeg x1)) = 3) (c15 : ¬ x2 = 3) (c16 : ¬ x2 = 2) : 0 ≤ S.1 12 (Int32.toNatClampNeg x1) ∧ S.1 12 (Int32.toNatClampNeg x1) ≤ 24 := by 
  clear hI
  try simp only [m_in_eq] at *
  try simp only [i_le, i_lt, i_eq, Int32.reduceToInt] at *
  try simp only [Int32.reduceToInt] at *
  omega
theorem m_mark_o19 (S : MS) (x1 : Int32) (x2 : Int32) (hI : MInv S) (hn : ¬ (m_isTrain S x1) = 0 → 0 ≤ x1 ∧ x1 < 16) (hm : 0 ≤ x1 ∧ x1 < 16 → 0 ≤ S.1 11 (Int32.toNatClampNeg x1) ∧ S.1 11 (Int32.toNatClampNeg x1) ≤ 3 ∧ 0 ≤ S.1 12 (Int32.toNatClampNeg x1) ∧ S.1 12 (Int32.toNatClampNeg x1) ≤ 24 ∧ (S.1 11 (Int32.toNatClampNeg x1) = 0 ∨ 1 ≤ S.1 12 (Int32.toNatClampNeg x1)) ∧ 0 ≤ S.1 14 (Int32.toNatClampNeg x1) ∧ (S.1 14 (Int32.toNatClampNeg x1) < S.1 12 (Int32.toNatClampNeg x1) ∨ S.1 14 (Int32.toNatClampNeg x1) = 0)) (c1 : ¬ (m_isTrain S x1) = 0) (c2 : ¬ (m_in x2 1 3) = 0) (c4 : ¬ (S.1 11 (Int32.toNatClampNeg x1)) = x2) (c12 : x2 = 1) (c14 : (S.1 11 (Int32.toNatClampNeg x1)) = 3) (c15 : ¬ x2 = 3) (c16 : x2 = 2) : 0 ≤ x1 ∧ x1 < 16 := by 
  clear hI
  try simp only [m_in_eq] at *
  try simp only [i_le, i_lt, i_eq, Int32.reduceToInt] at *
  try simp only [Int32.reduceToInt] at *
  omega
theorem m_mark_o20 (S : MS) (x1 : Int32) (x2 : Int32) (hI : MInv S) (hn : ¬ (m_isTrain S x1) = 0 → 0 ≤ x1 ∧ x1 < 16) (hm : 0 ≤ x1 ∧ x1 < 16 → 0 ≤ S.1 11 (Int32.toNatClampNeg x1) ∧ S.1 11 (Int32.toNatClampNeg x1) ≤ 3 ∧ 0 ≤ S.1 12 (Int32.toNatClampNeg x1) ∧ S.1 12 (Int32.toNatClampNeg x1) ≤ 24 ∧ (S.1 11 (Int32.toNatClampNeg x1) = 0 ∨ 1 ≤ S.1 12 (Int32.toNatClampNeg x1)) ∧ 0 ≤ S.1 14 (Int32.toNatClampNeg x1) ∧ (S.1 14 (Int32.toNatClampNeg x1) < S.1 12 (Int32.toNatClampNeg x1) ∨ S.1 14 (Int32.toNatClampNeg x1) = 0)) (c1 : ¬ (m_isTrain S x1) = 0) (c2 : ¬ (m_in x2 1 3) = 0) (c4 : ¬ (S.1 11 (Int32.toNatClampNeg x1)) = x2) (c12 : x2 = 1) (c14 : (S.1 11 (Int32.toNatClampNeg x1)) = 3) (c15 : ¬ x2 = 3) (c16 : x2 = 2) : 0 ≤ S.1 12 (Int32.toNatClampNeg x1) ∧ S.1 12 (Int32.toNatClampNeg x1) ≤ 24 := by 
  clear hI
  try simp only [m_in_eq] at *
  try simp only [i_le, i_lt, i_eq, Int32.reduceToInt] at *
  try simp only [Int32.reduceToInt] at *
  omega
theorem m_mark_o21 (S : MS) (x1 : Int32) (x2 : Int32) (hI : MInv S) (hn : ¬ (m_isTrain S x1) = 0 → 0 ≤ x1 ∧ x1 < 16) (hm : 0 ≤ x1 ∧ x1 < 16 → 0 ≤ S.1 11 (Int32.toNatClampNeg x1) ∧ S.1 11 (Int32.toNatClampNeg x1) ≤ 3 ∧ 0 ≤ S.1 12 (Int32.toNatClampNeg x1) ∧ S.1 12 (Int32.toNatClampNeg x1) ≤ 24 ∧ (S.1 11 (Int32.toNatClampNeg x1) = 0 ∨ 1 ≤ S.1 12 (Int32.toNatClampNeg x1)) ∧ 0 ≤ S.1 14 (Int32.toNatClampNeg x1) ∧ (S.1 14 (Int32.toNatClampNeg x1) < S.1 12 (Int32.toNatClampNeg x1) ∨ S.1 14 (Int32.toNatClampNeg x1) = 0)) (c1 : ¬ (m_isTrain S x1) = 0) (c2 : ¬ (m_in x2 1 3) = 0) (c4 : ¬ (S.1 11 (Int32.toNatClampNeg x1)) = x2) (c12 : x2 = 1) (c14 : (S.1 11 (Int32.toNatClampNeg x1)) = 3) (c15 : x2 = 3) : 0 ≤ x1 ∧ x1 < 16 := by 
  clear hI
  try simp only [m_in_eq] at *
  try simp only [i_le, i_lt, i_eq, Int32.reduceToInt] at *
  try simp only [Int32.reduceToInt] at *
  omega
def m_mark (S : MS) (x1 : Int32) (x2 : Int32) : Int32 × MS := (if (m_isTrain S x1) = 0 then ((-1), S) else (if (m_in x2 1 3) = 0 then ((-1), S) else (if (S.1 11 (Int32.toNatClampNeg x1)) = x2 then (if x2 = 3 then ((S.1 17 (Int32.toNatClampNeg x1)), S) else (if x2 = 2 then ((m_over S x1 1), S) else ((m_over S x1 0), S))) else (if x2 = 1 then (if (S.1 11 (Int32.toNatClampNeg x1)) = 3 then (if x2 = 3 then ((S.1 17 (Int32.toNatClampNeg x1)), S) else (if x2 = 2 then ((m_over S x1 1), S) else ((m_over S x1 0), S))) else ((m_meets S 3).1, (m_meets S 3).2)) else ((m_meets S 3).1, (m_meets S 3).2)))))
set_option maxHeartbeats 4000000 in
theorem mt_mark (l : Launch) (D : va_G) (d : Nat → ClassId) (A : Nat → Prop) (a : Nat → Nat) (S : MS) (x1 : Int32) (x2 : Int32) (hI : MInv S) : MI l yX1_mark cX1_mark 3 .int (rm_ 2) D d A a S [.int x1, .int x2] (m_mark S x1 x2) := by
  refine m_startI rfl (Nat.le_of_ble_eq_true rfl) ?_
  intro p e s m av below meth c ls Q X hrt hlk hl hR hQ
  have hx := X.1.1
  have hb := X.1.2.1
  have hown := X.1.2.2.2.1
  have hts := X.1.2.2.2.2
  have hS : va_S A s.heap s.heap [] := va_S.rf
  have hl : lv_has ls 3 [(0, .ref (a 0)), (1, .int x1), (2, .int x2)] := hl
  have hn : ¬ (m_isTrain S x1) = 0 → 0 ≤ x1 ∧ x1 < 16 := isTrain_ok hI
  have hm : 0 ≤ x1 ∧ x1 < 16 → 0 ≤ S.1 11 (Int32.toNatClampNeg x1) ∧ S.1 11 (Int32.toNatClampNeg x1) ≤ 3 ∧ 0 ≤ S.1 12 (Int32.toNatClampNeg x1) ∧ S.1 12 (Int32.toNatClampNeg x1) ≤ 24 ∧ (S.1 11 (Int32.toNatClampNeg x1) = 0 ∨ 1 ≤ S.1 12 (Int32.toNatClampNeg x1)) ∧ 0 ≤ S.1 14 (Int32.toNatClampNeg x1) ∧ (S.1 14 (Int32.toNatClampNeg x1) < S.1 12 (Int32.toNatClampNeg x1) ∨ S.1 14 (Int32.toNatClampNeg x1) = 0) := mi_n hI
  refine lv_aload_n hx hb dX1_mark_0 rfl (lv_at hl 0 rfl) ?_
  refine lv_iload_n hx hb dX1_mark_1 rfl (lv_at hl 1 rfl) ?_
  refine m_cr X hR hS (mt_isTrain l D d A a S x1) 1 (lw_V q1373 q1375 qs28 q59 q1376) ⟨rfl, rfl⟩ (by decide +kernel) ⟨by decide, by decide⟩ ⟨by decide, by decide⟩ rfl hl.1 rfl (Nat.le_of_ble_eq_true rfl) dX1_mark_2 (fun H locs hR hS => ?_)
  refine lv_if_eq (tgt := 17) hx hb dX1_mark_5 (by decide) (fun c1 => ?_) (fun c1 => ?_)
  · refine lv_iconst (v := (-1)) hx hb dX1_mark_17 (by decide) ?_
    exact m_ri hx hb hrt (rfl) hlk hR hS hQ (if_pos c1) dX1_mark_18
  · refine lv_iload_n hx hb dX1_mark_8 rfl (lv_at hl 2 rfl) ?_
    refine lv_iconst (v := 1) hx hb dX1_mark_9 (by decide) ?_
    refine lv_iconst (v := 3) hx hb dX1_mark_10 (by decide) ?_
    refine s_ci X.1 (st_m_in l x2 1 3) 3 (lw_S q1314 q1315 q59 q1316) ⟨rfl, rfl⟩ (by decide +kernel) ⟨by decide, by decide⟩ ⟨by decide, by decide⟩ rfl hl.1 rfl (Nat.le_of_ble_eq_true rfl) dX1_mark_11 ?_
    refine lv_if_ne (tgt := 19) hx hb dX1_mark_14 (by decide) (fun c2 => ?_) (fun c2 => ?_)
    · refine lv_aload_n hx hb dX1_mark_19 rfl (lv_at hl 0 rfl) ?_
      refine mg_a X hR 11 (by decide) (by decide) q1148 dX1_mark_20 ?_
      refine lv_iload_n hx hb dX1_mark_23 rfl (lv_at hl 1 rfl) ?_
      refine m_ld X hR ⟨by decide, rfl, by decide⟩ (ixl 16 16 (by decide) rfl (m_mark_o3 S x1 x2 hI hn hm c1 c2)) (v := S.1 11 (Int32.toNatClampNeg x1)) rfl dX1_mark_24 ?_
      refine lv_iload_n hx hb dX1_mark_25 rfl (lv_at hl 2 rfl) ?_
      refine lv_icmp_eq (tgt := 50) hx hb dX1_mark_26 (by decide) (fun c4 => ?_) (fun c4 => ?_)
      · refine lv_iload_n hx hb dX1_mark_50 rfl (lv_at hl 2 rfl) ?_
        refine lv_iconst (v := 3) hx hb dX1_mark_51 (by decide) ?_
        refine lv_icmp_ne (tgt := 64) hx hb dX1_mark_52 (by decide) (fun c5 => ?_) (fun c5 => ?_)
        · refine lv_aload_n hx hb dX1_mark_64 rfl (lv_at hl 0 rfl) ?_
          refine lv_iload_n hx hb dX1_mark_65 rfl (lv_at hl 1 rfl) ?_
          refine lv_iload_n hx hb dX1_mark_66 rfl (lv_at hl 2 rfl) ?_
          refine lv_iconst (v := 2) hx hb dX1_mark_67 (by decide) ?_
          refine lv_icmp_ne (tgt := 75) hx hb dX1_mark_68 (by decide) (fun c6 => ?_) (fun c6 => ?_)
          · refine lv_iconst (v := 0) hx hb dX1_mark_75 (by decide) ?_
            refine m_cr X hR hS (mt_over l D d A a S x1 0 (m_mark_o7 S x1 x2 hI hn hm c1 c2 c4 c5 c6) (m_mark_o8 S x1 x2 hI hn hm c1 c2 c4 c5 c6)) 2 (lw_V q1402 q1404 qs31 q59 q1405) ⟨rfl, rfl⟩ (by decide +kernel) ⟨by decide, by decide⟩ ⟨by decide, by decide⟩ rfl hl.1 rfl (Nat.le_of_ble_eq_true rfl) dX1_mark_76 (fun H locs hR hS => ?_)
            exact m_ri hx hb hrt (rfl) hlk hR hS hQ (Eq.trans (if_neg c1) (Eq.trans (if_neg c2) (Eq.trans (if_pos c4) (Eq.trans (if_neg c5) (if_neg c6))))) dX1_mark_79
          · refine lv_iconst (v := 1) hx hb dX1_mark_71 (by decide) ?_
            refine lv_goto (tgt := 76) hx hb dX1_mark_72 (by decide) ?_
            refine m_cr X hR hS (mt_over l D d A a S x1 1 (m_mark_o9 S x1 x2 hI hn hm c1 c2 c4 c5 c6) (m_mark_o10 S x1 x2 hI hn hm c1 c2 c4 c5 c6)) 2 (lw_V q1402 q1404 qs31 q59 q1405) ⟨rfl, rfl⟩ (by decide +kernel) ⟨by decide, by decide⟩ ⟨by decide, by decide⟩ rfl hl.1 rfl (Nat.le_of_ble_eq_true rfl) dX1_mark_76 (fun H locs hR hS => ?_)
            exact m_ri hx hb hrt (rfl) hlk hR hS hQ (Eq.trans (if_neg c1) (Eq.trans (if_neg c2) (Eq.trans (if_pos c4) (Eq.trans (if_neg c5) (if_pos c6))))) dX1_mark_79
        · refine lv_aload_n hx hb dX1_mark_55 rfl (lv_at hl 0 rfl) ?_
          refine mg_a X hR 17 (by decide) (by decide) q1154 dX1_mark_56 ?_
          refine lv_iload_n hx hb dX1_mark_59 rfl (lv_at hl 1 rfl) ?_
          refine m_ld X hR ⟨by decide, rfl, by decide⟩ (ixl 16 16 (by decide) rfl (m_mark_o11 S x1 x2 hI hn hm c1 c2 c4 c5)) (v := S.1 17 (Int32.toNatClampNeg x1)) rfl dX1_mark_60 ?_
          refine lv_goto (tgt := 79) hx hb dX1_mark_61 (by decide) ?_
          exact m_ri hx hb hrt (rfl) hlk hR hS hQ (Eq.trans (if_neg c1) (Eq.trans (if_neg c2) (Eq.trans (if_pos c4) (if_pos c5)))) dX1_mark_79
      · refine lv_iload_n hx hb dX1_mark_29 rfl (lv_at hl 2 rfl) ?_
        refine lv_iconst (v := 1) hx hb dX1_mark_30 (by decide) ?_
        refine lv_icmp_ne (tgt := 44) hx hb dX1_mark_31 (by decide) (fun c12 => ?_) (fun c12 => ?_)
        · refine lv_aload_n hx hb dX1_mark_44 rfl (lv_at hl 0 rfl) ?_
          refine lv_iconst (v := 3) hx hb dX1_mark_45 (by decide) ?_
          refine m_ci X hR hS (mt_meets l D d A a S 3 (by decide)) 1 (lw_V q1317 q1319 qs22 q59 q1320) ⟨rfl, rfl⟩ (by decide +kernel) ⟨by decide, by decide⟩ ⟨by decide, by decide⟩ rfl hl.1 rfl (Nat.le_of_ble_eq_true rfl) dX1_mark_46 (fun H locs hR hS => ?_)
          exact m_ri hx hb hrt (rfl) hlk hR hS hQ (Eq.trans (if_neg c1) (Eq.trans (if_neg c2) (Eq.trans (if_neg c4) (if_neg c12)))) dX1_mark_49
        · refine lv_aload_n hx hb dX1_mark_34 rfl (lv_at hl 0 rfl) ?_
          refine mg_a X hR 11 (by decide) (by decide) q1148 dX1_mark_35 ?_
          refine lv_iload_n hx hb dX1_mark_38 rfl (lv_at hl 1 rfl) ?_
          refine m_ld X hR ⟨by decide, rfl, by decide⟩ (ixl 16 16 (by decide) rfl (m_mark_o13 S x1 x2 hI hn hm c1 c2 c4 c12)) (v := S.1 11 (Int32.toNatClampNeg x1)) rfl dX1_mark_39 ?_
          refine lv_iconst (v := 3) hx hb dX1_mark_40 (by decide) ?_
          refine lv_icmp_eq (tgt := 50) hx hb dX1_mark_41 (by decide) (fun c14 => ?_) (fun c14 => ?_)
          · refine lv_iload_n hx hb dX1_mark_50 rfl (lv_at hl 2 rfl) ?_
            refine lv_iconst (v := 3) hx hb dX1_mark_51 (by decide) ?_
            refine lv_icmp_ne (tgt := 64) hx hb dX1_mark_52 (by decide) (fun c15 => ?_) (fun c15 => ?_)
            · refine lv_aload_n hx hb dX1_mark_64 rfl (lv_at hl 0 rfl) ?_
              refine lv_iload_n hx hb dX1_mark_65 rfl (lv_at hl 1 rfl) ?_
              refine lv_iload_n hx hb dX1_mark_66 rfl (lv_at hl 2 rfl) ?_
              refine lv_iconst (v := 2) hx hb dX1_mark_67 (by decide) ?_
              refine lv_icmp_ne (tgt := 75) hx hb dX1_mark_68 (by decide) (fun c16 => ?_) (fun c16 => ?_)
              · refine lv_iconst (v := 0) hx hb dX1_mark_75 (by decide) ?_
                refine m_cr X hR hS (mt_over l D d A a S x1 0 (m_mark_o17 S x1 x2 hI hn hm c1 c2 c4 c12 c14 c15 c16) (m_mark_o18 S x1 x2 hI hn hm c1 c2 c4 c12 c14 c15 c16)) 2 (lw_V q1402 q1404 qs31 q59 q1405) ⟨rfl, rfl⟩ (by decide +kernel) ⟨by decide, by decide⟩ ⟨by decide, by decide⟩ rfl hl.1 rfl (Nat.le_of_ble_eq_true rfl) dX1_mark_76 (fun H locs hR hS => ?_)
                exact m_ri hx hb hrt (rfl) hlk hR hS hQ (Eq.trans (if_neg c1) (Eq.trans (if_neg c2) (Eq.trans (if_neg c4) (Eq.trans (if_pos c12) (Eq.trans (if_pos c14) (Eq.trans (if_neg c15) (if_neg c16))))))) dX1_mark_79
              · refine lv_iconst (v := 1) hx hb dX1_mark_71 (by decide) ?_
                refine lv_goto (tgt := 76) hx hb dX1_mark_72 (by decide) ?_
                refine m_cr X hR hS (mt_over l D d A a S x1 1 (m_mark_o19 S x1 x2 hI hn hm c1 c2 c4 c12 c14 c15 c16) (m_mark_o20 S x1 x2 hI hn hm c1 c2 c4 c12 c14 c15 c16)) 2 (lw_V q1402 q1404 qs31 q59 q1405) ⟨rfl, rfl⟩ (by decide +kernel) ⟨by decide, by decide⟩ ⟨by decide, by decide⟩ rfl hl.1 rfl (Nat.le_of_ble_eq_true rfl) dX1_mark_76 (fun H locs hR hS => ?_)
                exact m_ri hx hb hrt (rfl) hlk hR hS hQ (Eq.trans (if_neg c1) (Eq.trans (if_neg c2) (Eq.trans (if_neg c4) (Eq.trans (if_pos c12) (Eq.trans (if_pos c14) (Eq.trans (if_neg c15) (if_pos c16))))))) dX1_mark_79
            · refine lv_aload_n hx hb dX1_mark_55 rfl (lv_at hl 0 rfl) ?_
              refine mg_a X hR 17 (by decide) (by decide) q1154 dX1_mark_56 ?_
              refine lv_iload_n hx hb dX1_mark_59 rfl (lv_at hl 1 rfl) ?_
              refine m_ld X hR ⟨by decide, rfl, by decide⟩ (ixl 16 16 (by decide) rfl (m_mark_o21 S x1 x2 hI hn hm c1 c2 c4 c12 c14 c15)) (v := S.1 17 (Int32.toNatClampNeg x1)) rfl dX1_mark_60 ?_
              refine lv_goto (tgt := 79) hx hb dX1_mark_61 (by decide) ?_
              exact m_ri hx hb hrt (rfl) hlk hR hS hQ (Eq.trans (if_neg c1) (Eq.trans (if_neg c2) (Eq.trans (if_neg c4) (Eq.trans (if_pos c12) (Eq.trans (if_pos c14) (if_pos c15)))))) dX1_mark_79
          · refine lv_aload_n hx hb dX1_mark_44 rfl (lv_at hl 0 rfl) ?_
            refine lv_iconst (v := 3) hx hb dX1_mark_45 (by decide) ?_
            refine m_ci X hR hS (mt_meets l D d A a S 3 (by decide)) 1 (lw_V q1317 q1319 qs22 q59 q1320) ⟨rfl, rfl⟩ (by decide +kernel) ⟨by decide, by decide⟩ ⟨by decide, by decide⟩ rfl hl.1 rfl (Nat.le_of_ble_eq_true rfl) dX1_mark_46 (fun H locs hR hS => ?_)
            exact m_ri hx hb hrt (rfl) hlk hR hS hQ (Eq.trans (if_neg c1) (Eq.trans (if_neg c2) (Eq.trans (if_neg c4) (Eq.trans (if_pos c12) (if_neg c14))))) dX1_mark_49
    · refine lv_iconst (v := (-1)) hx hb dX1_mark_17 (by decide) ?_
      exact m_ri hx hb hrt (rfl) hlk hR hS hQ (Eq.trans (if_neg c1) (if_pos c2)) dX1_mark_18
theorem m_askedNotch_o2 (S : MS) (x1 : Int32) (hI : MInv S) (hn : ¬ (m_isTrain S x1) = 0 → 0 ≤ x1 ∧ x1 < 16) (hm : 0 ≤ x1 ∧ x1 < 16 → 0 ≤ S.1 11 (Int32.toNatClampNeg x1) ∧ S.1 11 (Int32.toNatClampNeg x1) ≤ 3 ∧ 0 ≤ S.1 12 (Int32.toNatClampNeg x1) ∧ S.1 12 (Int32.toNatClampNeg x1) ≤ 24 ∧ (S.1 11 (Int32.toNatClampNeg x1) = 0 ∨ 1 ≤ S.1 12 (Int32.toNatClampNeg x1)) ∧ 0 ≤ S.1 14 (Int32.toNatClampNeg x1) ∧ (S.1 14 (Int32.toNatClampNeg x1) < S.1 12 (Int32.toNatClampNeg x1) ∨ S.1 14 (Int32.toNatClampNeg x1) = 0)) (c1 : ¬ (m_isTrain S x1) = 0) : 0 ≤ x1 ∧ x1 < 16 := by 
  clear hI
  try simp only [i_le, i_lt, i_eq, Int32.reduceToInt] at *
  try simp only [Int32.reduceToInt] at *
  omega
theorem m_askedNotch_o4 (S : MS) (x1 : Int32) (hI : MInv S) (hn : ¬ (m_isTrain S x1) = 0 → 0 ≤ x1 ∧ x1 < 16) (hm : 0 ≤ x1 ∧ x1 < 16 → 0 ≤ S.1 11 (Int32.toNatClampNeg x1) ∧ S.1 11 (Int32.toNatClampNeg x1) ≤ 3 ∧ 0 ≤ S.1 12 (Int32.toNatClampNeg x1) ∧ S.1 12 (Int32.toNatClampNeg x1) ≤ 24 ∧ (S.1 11 (Int32.toNatClampNeg x1) = 0 ∨ 1 ≤ S.1 12 (Int32.toNatClampNeg x1)) ∧ 0 ≤ S.1 14 (Int32.toNatClampNeg x1) ∧ (S.1 14 (Int32.toNatClampNeg x1) < S.1 12 (Int32.toNatClampNeg x1) ∨ S.1 14 (Int32.toNatClampNeg x1) = 0)) (c1 : ¬ (m_isTrain S x1) = 0) (c3 : ¬ (S.1 11 (Int32.toNatClampNeg x1)) = 0) : 0 ≤ x1 ∧ x1 < 16 := by 
  clear hI
  try simp only [i_le, i_lt, i_eq, Int32.reduceToInt] at *
  try simp only [Int32.reduceToInt] at *
  omega
def m_askedNotch (S : MS) (x1 : Int32) (x2 : Int32) : Int32 × MS := (if (m_isTrain S x1) = 0 then ((-1), S) else (if (S.1 11 (Int32.toNatClampNeg x1)) = 0 then ((m_meets S 3).1, (m_meets S 3).2) else (if (m_in x2 0 ((S.1 12 (Int32.toNatClampNeg x1)) - 1)) = 0 then ((m_meets S 2).1, (m_meets S 2).2) else (0, S))))
set_option maxHeartbeats 4000000 in
theorem mt_askedNotch (l : Launch) (D : va_G) (d : Nat → ClassId) (A : Nat → Prop) (a : Nat → Nat) (S : MS) (x1 : Int32) (x2 : Int32) (hI : MInv S) : MI l yX1_askedNotch cX1_askedNotch 3 .int (rm_ 2) D d A a S [.int x1, .int x2] (m_askedNotch S x1 x2) := by
  refine m_startI rfl (Nat.le_of_ble_eq_true rfl) ?_
  intro p e s m av below meth c ls Q X hrt hlk hl hR hQ
  have hx := X.1.1
  have hb := X.1.2.1
  have hown := X.1.2.2.2.1
  have hts := X.1.2.2.2.2
  have hS : va_S A s.heap s.heap [] := va_S.rf
  have hl : lv_has ls 3 [(0, .ref (a 0)), (1, .int x1), (2, .int x2)] := hl
  have hn : ¬ (m_isTrain S x1) = 0 → 0 ≤ x1 ∧ x1 < 16 := isTrain_ok hI
  have hm : 0 ≤ x1 ∧ x1 < 16 → 0 ≤ S.1 11 (Int32.toNatClampNeg x1) ∧ S.1 11 (Int32.toNatClampNeg x1) ≤ 3 ∧ 0 ≤ S.1 12 (Int32.toNatClampNeg x1) ∧ S.1 12 (Int32.toNatClampNeg x1) ≤ 24 ∧ (S.1 11 (Int32.toNatClampNeg x1) = 0 ∨ 1 ≤ S.1 12 (Int32.toNatClampNeg x1)) ∧ 0 ≤ S.1 14 (Int32.toNatClampNeg x1) ∧ (S.1 14 (Int32.toNatClampNeg x1) < S.1 12 (Int32.toNatClampNeg x1) ∨ S.1 14 (Int32.toNatClampNeg x1) = 0) := mi_n hI
  refine lv_aload_n hx hb dX1_askedNotch_0 rfl (lv_at hl 0 rfl) ?_
  refine lv_iload_n hx hb dX1_askedNotch_1 rfl (lv_at hl 1 rfl) ?_
  refine m_cr X hR hS (mt_isTrain l D d A a S x1) 1 (lw_V q1373 q1375 qs28 q59 q1376) ⟨rfl, rfl⟩ (by decide +kernel) ⟨by decide, by decide⟩ ⟨by decide, by decide⟩ rfl hl.1 rfl (Nat.le_of_ble_eq_true rfl) dX1_askedNotch_2 (fun H locs hR hS => ?_)
  refine lv_if_ne (tgt := 12) hx hb dX1_askedNotch_5 (by decide) (fun c1 => ?_) (fun c1 => ?_)
  · refine lv_aload_n hx hb dX1_askedNotch_12 rfl (lv_at hl 0 rfl) ?_
    refine mg_a X hR 11 (by decide) (by decide) q1148 dX1_askedNotch_13 ?_
    refine lv_iload_n hx hb dX1_askedNotch_16 rfl (lv_at hl 1 rfl) ?_
    refine m_ld X hR ⟨by decide, rfl, by decide⟩ (ixl 16 16 (by decide) rfl (m_askedNotch_o2 S x1 hI hn hm c1)) (v := S.1 11 (Int32.toNatClampNeg x1)) rfl dX1_askedNotch_17 ?_
    refine lv_if_ne (tgt := 29) hx hb dX1_askedNotch_18 (by decide) (fun c3 => ?_) (fun c3 => ?_)
    · refine lv_iload_n hx hb dX1_askedNotch_29 rfl (lv_at hl 2 rfl) ?_
      refine lv_iconst (v := 0) hx hb dX1_askedNotch_30 (by decide) ?_
      refine lv_aload_n hx hb dX1_askedNotch_31 rfl (lv_at hl 0 rfl) ?_
      refine mg_a X hR 12 (by decide) (by decide) q1149 dX1_askedNotch_32 ?_
      refine lv_iload_n hx hb dX1_askedNotch_35 rfl (lv_at hl 1 rfl) ?_
      refine m_ld X hR ⟨by decide, rfl, by decide⟩ (ixl 16 16 (by decide) rfl (m_askedNotch_o4 S x1 hI hn hm c1 c3)) (v := S.1 12 (Int32.toNatClampNeg x1)) rfl dX1_askedNotch_36 ?_
      refine lv_iconst (v := 1) hx hb dX1_askedNotch_37 (by decide) ?_
      refine lv_isub hx hb dX1_askedNotch_38 ?_
      refine s_ci X.1 (st_m_in l x2 0 ((S.1 12 (Int32.toNatClampNeg x1)) - 1)) 3 (lw_S q1314 q1315 q59 q1316) ⟨rfl, rfl⟩ (by decide +kernel) ⟨by decide, by decide⟩ ⟨by decide, by decide⟩ rfl hl.1 rfl (Nat.le_of_ble_eq_true rfl) dX1_askedNotch_39 ?_
      refine lv_if_eq (tgt := 49) hx hb dX1_askedNotch_42 (by decide) (fun c5 => ?_) (fun c5 => ?_)
      · refine lv_aload_n hx hb dX1_askedNotch_49 rfl (lv_at hl 0 rfl) ?_
        refine lv_iconst (v := 2) hx hb dX1_askedNotch_50 (by decide) ?_
        refine m_ci X hR hS (mt_meets l D d A a S 2 (by decide)) 1 (lw_V q1317 q1319 qs22 q59 q1320) ⟨rfl, rfl⟩ (by decide +kernel) ⟨by decide, by decide⟩ ⟨by decide, by decide⟩ rfl hl.1 rfl (Nat.le_of_ble_eq_true rfl) dX1_askedNotch_51 (fun H locs hR hS => ?_)
        exact m_ri hx hb hrt (rfl) hlk hR hS hQ (Eq.trans (if_neg c1) (Eq.trans (if_neg c3) (if_pos c5))) dX1_askedNotch_54
      · refine lv_iconst (v := 0) hx hb dX1_askedNotch_45 (by decide) ?_
        refine lv_goto (tgt := 54) hx hb dX1_askedNotch_46 (by decide) ?_
        exact m_ri hx hb hrt (rfl) hlk hR hS hQ (Eq.trans (if_neg c1) (Eq.trans (if_neg c3) (if_neg c5))) dX1_askedNotch_54
    · refine lv_aload_n hx hb dX1_askedNotch_21 rfl (lv_at hl 0 rfl) ?_
      refine lv_iconst (v := 3) hx hb dX1_askedNotch_22 (by decide) ?_
      refine m_ci X hR hS (mt_meets l D d A a S 3 (by decide)) 1 (lw_V q1317 q1319 qs22 q59 q1320) ⟨rfl, rfl⟩ (by decide +kernel) ⟨by decide, by decide⟩ ⟨by decide, by decide⟩ rfl hl.1 rfl (Nat.le_of_ble_eq_true rfl) dX1_askedNotch_23 (fun H locs hR hS => ?_)
      refine lv_goto (tgt := 54) hx hb dX1_askedNotch_26 (by decide) ?_
      exact m_ri hx hb hrt (rfl) hlk hR hS hQ (Eq.trans (if_neg c1) (if_pos c3)) dX1_askedNotch_54
  · refine lv_iconst (v := (-1)) hx hb dX1_askedNotch_8 (by decide) ?_
    refine lv_goto (tgt := 54) hx hb dX1_askedNotch_9 (by decide) ?_
    exact m_ri hx hb hrt (rfl) hlk hR hS hQ (if_pos c1) dX1_askedNotch_54
