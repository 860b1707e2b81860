/-! PRINTED by gen/run_m2.py: the model, rows -/
set_option maxRecDepth 100000
theorem m_row_o4 (x1 : Int32) (x2 : Int32) (c1 : ¬ (m_isRow x1) = 0) (c2 : x2 ≤ 48) (c3 : 0 ≤ x2) : 0 ≤ x1 ∧ x1 < 8 := by 
  try simp only [m_in_eq, m_isRow_eq] at *
  try simp only [i_le, i_lt, i_eq, Int32.reduceToInt] at *
  try simp only [Int32.reduceToInt] at *
  omega
theorem m_row_o6 (x1 : Int32) (x2 : Int32) (y3_34 : Int32) (c1 : ¬ (m_isRow x1) = 0) (c2 : x2 ≤ 48) (c3 : 0 ≤ x2) (hi3 : 0 ≤ y3_34) (c5 : ¬ 48 ≤ y3_34) : 0 ≤ ((48 * x1) + y3_34) ∧ ((48 * x1) + y3_34) < 384 := by 
  try simp only [m_in_eq, m_isRow_eq] at *
  try simp only [i_le, i_lt, i_eq, Int32.reduceToInt] at *
  first | (have e_0 := m32 (x := 48) (y := x1) (by (try simp only [Int32.reduceToInt]); omega); (try simp only [Int32.reduceToInt] at e_0)) | skip
  first | (have e_1 := a32 (x := (48 * x1)) (y := y3_34) (by (try simp only [Int32.reduceToInt]); omega); (try simp only [Int32.reduceToInt] at e_1)) | skip
  try simp only [Int32.reduceToInt] at *
  omega
def m_row_L34 (x1 : Int32) : Nat → Int32 → MS → Int32 × MS
  | 0, y3_34, S_34 => (y3_34, S_34)
  | f34 + 1, y3_34, S_34 => (if 48 ≤ y3_34 then (y3_34, S_34) else (m_row_L34 x1 f34 (y3_34 + 1) (mu S_34 8 (Int32.toNatClampNeg ((48 * x1) + y3_34)) 0)))
theorem m_row_L34_s (x1 : Int32) (f34 : Nat) (y3_34 : Int32) (S_34 : MS) : m_row_L34 x1 (f34 + 1) y3_34 S_34 = (if 48 ≤ y3_34 then (y3_34, S_34) else (m_row_L34 x1 f34 (y3_34 + 1) (mu S_34 8 (Int32.toNatClampNeg ((48 * x1) + y3_34)) 0))) := rfl
def m_row_R34 (S : MS) (x1 : Int32) (x2 : Int32) : Int32 × MS := m_row_L34 x1 ((48 - 0 : Int32).toNatClampNeg + 1) 0 (mu S 7 (Int32.toNatClampNeg x1) x2)
theorem m_row_o7 (x1 : Int32) (x2 : Int32) (y3_34 : Int32) (c1 : ¬ (m_isRow x1) = 0) (c2 : x2 ≤ 48) (c3 : 0 ≤ x2) (hi3 : 0 ≤ y3_34) (c5 : ¬ 48 ≤ y3_34) : 0 ≤ (y3_34 + 1) := by 
  try simp only [m_in_eq, m_isRow_eq] at *
  try simp only [i_le, i_lt, i_eq, Int32.reduceToInt] at *
  first | (have e_0 := a32 (x := y3_34) (y := 1) (by (try simp only [Int32.reduceToInt]); omega); (try simp only [Int32.reduceToInt] at e_0)) | skip
  try simp only [Int32.reduceToInt] at *
  omega
theorem m_row_o8 (x1 : Int32) (x2 : Int32) (y3_34 : Int32) (c1 : ¬ (m_isRow x1) = 0) (c2 : x2 ≤ 48) (c3 : 0 ≤ x2) (hi3 : 0 ≤ y3_34) (c5 : ¬ 48 ≤ y3_34) : y3_34 < 48 := by 
  try simp only [m_in_eq, m_isRow_eq] at *
  try simp only [i_le, i_lt, i_eq, Int32.reduceToInt] at *
  try simp only [Int32.reduceToInt] at *
  omega
def m_row (S : MS) (x1 : Int32) (x2 : Int32) : Int32 × MS := (if (m_isRow x1) = 0 then ((-1), S) else (if x2 ≤ 48 then (if 0 ≤ x2 then (x2, (m_row_R34 S x1 x2).2) else ((m_meets S 5).1, (m_meets S 5).2)) else ((-1), S)))
set_option maxHeartbeats 4000000 in
theorem mt_row (l : Launch) (D : va_G) (d : Nat → ClassId) (A : Nat → Prop) (a : Nat → Nat) (S : MS) (x1 : Int32) (x2 : Int32) : MI l yX1_row cX1_row 4 .int (rm_ 2) D d A a S [.int x1, .int x2] (m_row S x1 x2) := by
  refine m_startI rfl (Nat.le_of_ble_eq_true rfl) ?_
  intro p e s m av below meth c ls Q X hrt hlk hl hR hQ
  have hx := X.1.1
  have hb := X.1.2.1
  have hown := X.1.2.2.2.1
  have hts := X.1.2.2.2.2
  have hS : va_S A s.heap s.heap [] := va_S.rf
  have hl : lv_has ls 4 [(0, .ref (a 0)), (1, .int x1), (2, .int x2)] := hl
  refine lv_iload_n hx hb dX1_row_0 rfl (lv_at hl 1 rfl) ?_
  refine s_ci X.1 (st_m_isRow l x1) 1 (lw_S q1311 q1312 q59 q1313) ⟨rfl, rfl⟩ (by decide +kernel) ⟨by decide, by decide⟩ ⟨by decide, by decide⟩ rfl hl.1 rfl (Nat.le_of_ble_eq_true rfl) dX1_row_1 ?_
  refine lv_if_eq (tgt := 13) hx hb dX1_row_4 (by decide) (fun c1 => ?_) (fun c1 => ?_)
  · refine lv_iconst (v := (-1)) hx hb dX1_row_13 (by decide) ?_
    exact m_ri hx hb hrt (rfl) hlk hR hS hQ (if_pos c1) dX1_row_14
  · refine lv_iload_n hx hb dX1_row_7 rfl (lv_at hl 2 rfl) ?_
    refine lv_bipush (v := 48) hx hb dX1_row_8 (by decide) ?_
    refine lv_icmp_le (tgt := 15) hx hb dX1_row_10 (by decide) (fun c2 => ?_) (fun c2 => ?_)
    · refine lv_iload_n hx hb dX1_row_15 rfl (lv_at hl 2 rfl) ?_
      refine lv_if_ge (tgt := 25) hx hb dX1_row_16 (by decide) (fun c3 => ?_) (fun c3 => ?_)
      · refine lv_aload_n hx hb dX1_row_25 rfl (lv_at hl 0 rfl) ?_
        refine mg_a X hR 7 (by decide) (by decide) q1144 dX1_row_26 ?_
        refine lv_iload_n hx hb dX1_row_29 rfl (lv_at hl 1 rfl) ?_
        refine lv_iload_n hx hb dX1_row_30 rfl (lv_at hl 2 rfl) ?_
        refine m_st X hR hS ⟨by decide, rfl, by decide⟩ (ixl 8 8 (by decide) rfl (m_row_o4 x1 x2 c1 c2 c3)) dX1_row_31 (fun H locs hR hS => ?_)
        refine lv_iconst (v := 0) hx hb dX1_row_32 (by decide) ?_
        refine lv_istore_n (lv' := [(3, .int 0), (0, .ref (a 0)), (1, .int x1), (2, .int x2)]) hx hb dX1_row_33 rfl hl (by decide) rfl (fun ls hl => ?_)
        have K34 : ∀ (H : Heap) (locs : List Loc) (ls : Array Slot), MR D d A a (m_row_R34 S x1 x2).2 H → va_S A s.heap H locs → lv_has ls 4 [(3, .int ((m_row_R34 S x1 x2).1)), (0, .ref (a 0)), (1, .int x1), (2, .int x2)] → W p l e (rm_ 2) s m av below meth c H locs 0 0 Q (F0 m 58 ls []) := by
          intro H locs ls hR hS hl
          refine lv_iload_n hx hb dX1_row_58 rfl (lv_at hl 3 rfl) ?_
          exact m_ri hx hb hrt (rfl) hlk hR hS hQ (Eq.trans (if_neg c1) (Eq.trans (if_pos c2) (if_pos c3))) dX1_row_59
        have L34 : ∀ (f34 : Nat) (y3_34 : Int32) (S_34 : MS) (H : Heap) (locs : List Loc) (ls : Array Slot), (48 - y3_34 : Int32).toNatClampNeg < f34 → 0 ≤ y3_34 → m_row_L34 x1 (f34) y3_34 S_34 = (m_row_R34 S x1 x2) → MR D d A a S_34 H → va_S A s.heap H locs → lv_has ls 4 [(3, .int y3_34), (0, .ref (a 0)), (1, .int x1), (2, .int x2)] → W p l e (rm_ 2) s m av below meth c H locs 0 0 Q (F0 m 34 ls []) := by
          intro f34
          induction f34 with
          | zero => intro y3_34 S_34 H locs ls hf; exact absurd hf (Nat.not_lt_zero _)
          | succ f34 ih =>
            intro y3_34 S_34 H locs ls hf hi3 hE hR hS hl
            refine lv_iload_n hx hb dX1_row_34 rfl (lv_at hl 0 rfl) ?_
            refine lv_bipush (v := 48) hx hb dX1_row_35 (by decide) ?_
            refine lv_icmp_ge (tgt := 58) hx hb dX1_row_37 (by decide) (fun c5 => ?_) (fun c5 => ?_)
            · have e0 : (m_row_R34 S x1 x2) = (y3_34, S_34) := Eq.trans (Eq.symm hE) (Eq.trans (m_row_L34_s _ _ _ _) (if_pos c5))
              exact K34 _ _ _ (by rw [e0]; exact hR) hS (by rw [e0]; exact lv_sub hl [0, 1, 2, 3] rfl)
            · refine lv_aload_n hx hb dX1_row_40 rfl (lv_at hl 1 rfl) ?_
              refine mg_a X hR 8 (by decide) (by decide) q1145 dX1_row_41 ?_
              refine lv_bipush (v := 48) hx hb dX1_row_44 (by decide) ?_
              refine lv_iload_n hx hb dX1_row_46 rfl (lv_at hl 2 rfl) ?_
              refine lv_imul hx hb dX1_row_47 ?_
              refine lv_iload_n hx hb dX1_row_48 rfl (lv_at hl 0 rfl) ?_
              refine lv_iadd hx hb dX1_row_49 ?_
              refine lv_iconst (v := 0) hx hb dX1_row_50 (by decide) ?_
              refine m_st X hR hS ⟨by decide, rfl, by decide⟩ (ixl 384 384 (by decide) rfl (m_row_o6 x1 x2 y3_34 c1 c2 c3 hi3 c5)) dX1_row_51 (fun H locs hR hS => ?_)
              refine lv_iinc (v := (y3_34 + 1)) (lv' := [(3, .int (y3_34 + 1)), (0, .ref (a 0)), (1, .int x1), (2, .int x2)]) hx hb dX1_row_52 hl (k := 0) rfl rfl (by decide) rfl (fun ls hl => ?_)
              refine lv_goto (tgt := 34) hx hb dX1_row_55 (by decide) ?_
              exact ih (y3_34 + 1) (mu S_34 8 (Int32.toNatClampNeg ((48 * x1) + y3_34)) 0) _ _  _ (Nat.lt_of_lt_of_le (up_ hi3 (m_row_o8 x1 x2 y3_34 c1 c2 c3 hi3 c5)) (Nat.le_of_lt_succ hf)) (m_row_o7 x1 x2 y3_34 c1 c2 c3 hi3 c5) (Eq.trans (Eq.symm (Eq.trans (m_row_L34_s _ _ _ _) (if_neg c5))) hE) hR hS (lv_sub hl [0, 1, 2, 3] rfl)
        exact L34 _ 0 (mu S 7 (Int32.toNatClampNeg x1) x2) _ _  _ (Nat.lt_succ_self _) (by decide) rfl hR hS (lv_sub hl [0, 1, 2, 3] rfl)
      · refine lv_aload_n hx hb dX1_row_19 rfl (lv_at hl 0 rfl) ?_
        refine lv_iconst (v := 5) hx hb dX1_row_20 (by decide) ?_
        refine m_ci X hR hS (mt_meets l D d A a S 5 (by decide)) 1 (lw_V q1317 q1319 qs22 q59 q1320) ⟨rfl, rfl⟩ (by decide +kernel) ⟨by decide, by decide⟩ ⟨by decide, by decide⟩ rfl hl.1 rfl (Nat.le_of_ble_eq_true rfl) dX1_row_21 (fun H locs hR hS => ?_)
        exact m_ri hx hb hrt (rfl) hlk hR hS hQ (Eq.trans (if_neg c1) (Eq.trans (if_pos c2) (if_neg c3))) dX1_row_24
    · refine lv_iconst (v := (-1)) hx hb dX1_row_13 (by decide) ?_
      exact m_ri hx hb hrt (rfl) hlk hR hS hQ (Eq.trans (if_neg c1) (if_neg c2)) dX1_row_14
theorem m_lay_o3 (S : MS) (x1 : Int32) (x2 : Int32) (hI : MInv S) (hz : 0 ≤ x1 ∧ x1 < 8 → S.1 7 (Int32.toNatClampNeg x1) ≤ 48) (c1 : 0 ≤ (m_looked S x1).1) (okc1_0 : 0 ≤ x1 ∧ x1 < 8) (okc1_1 : 0 ≤ S.1 7 (Int32.toNatClampNeg x1)) (c2 : ¬ (m_in x2 0 ((S.1 7 (Int32.toNatClampNeg x1)) - 1)) = 0) : 0 ≤ ((48 * x1) + x2) ∧ ((48 * x1) + x2) < 384 := by 
  clear hI
  try simp only [m_in_eq] at *
  try simp only [i_le, i_lt, i_eq, Int32.reduceToInt] at *
  first | (have e_0 := s32 (x := (S.1 7 (Int32.toNatClampNeg x1))) (y := 1) (by (try simp only [Int32.reduceToInt]); omega); (try simp only [Int32.reduceToInt] at e_0)) | skip
  first | (have e_1 := m32 (x := 48) (y := x1) (by (try simp only [Int32.reduceToInt]); omega); (try simp only [Int32.reduceToInt] at e_1)) | skip
  first | (have e_2 := a32 (x := (48 * x1)) (y := x2) (by (try simp only [Int32.reduceToInt]); omega); (try simp only [Int32.reduceToInt] at e_2)) | skip
  try simp only [Int32.reduceToInt] at *
  omega
def m_lay_v48 (S : MS) (x1 : Int32) (x2 : Int32) : Int32 := (S.1 8 (Int32.toNatClampNeg ((48 * x1) + x2)))
def m_lay (S : MS) (x1 : Int32) (x2 : Int32) (x3 : Int32) : Int32 × MS := (if 0 ≤ (m_looked S x1).1 then (if (m_in x2 0 ((S.1 7 (Int32.toNatClampNeg x1)) - 1)) = 0 then ((m_meets S 2).1, (m_meets S 2).2) else (((m_lay_v48 S x1 x2) + 1000), (mu S 8 (Int32.toNatClampNeg ((48 * x1) + x2)) x3.toInt8.toInt32))) else ((m_looked S x1).1, (m_looked S x1).2))
set_option maxHeartbeats 4000000 in
theorem mt_lay (l : Launch) (D : va_G) (d : Nat → ClassId) (A : Nat → Prop) (a : Nat → Nat) (S : MS) (x1 : Int32) (x2 : Int32) (x3 : Int32) (hI : MInv S) : MI l yX1_lay cX1_lay 6 .int (rm_ 3) D d A a S [.int x1, .int x2, .int x3] (m_lay S x1 x2 x3) := by
  refine m_startI rfl (Nat.le_of_ble_eq_true rfl) ?_
  intro p e s m av below meth c ls Q X hrt hlk hl hR hQ
  have hx := X.1.1
  have hb := X.1.2.1
  have hown := X.1.2.2.2.1
  have hts := X.1.2.2.2.2
  have hS : va_S A s.heap s.heap [] := va_S.rf
  have hl : lv_has ls 6 [(0, .ref (a 0)), (1, .int x1), (2, .int x2), (3, .int x3)] := hl
  have hz : 0 ≤ x1 ∧ x1 < 8 → S.1 7 (Int32.toNatClampNeg x1) ≤ 48 := mi_sz hI
  refine lv_aload_n hx hb dX1_lay_0 rfl (lv_at hl 0 rfl) ?_
  refine lv_iload_n hx hb dX1_lay_1 rfl (lv_at hl 1 rfl) ?_
  refine m_ci X hR hS (mt_looked l D d A a S x1) 1 (lw_V q1325 q1327 qs23 q59 q1328) ⟨rfl, rfl⟩ (by decide +kernel) ⟨by decide, by decide⟩ ⟨by decide, by decide⟩ rfl hl.1 rfl (Nat.le_of_ble_eq_true rfl) dX1_lay_2 (fun H locs hR hS => ?_)
  refine lv_istore (lv' := [(4, .int ((m_looked S x1).1)), (0, .ref (a 0)), (1, .int x1), (2, .int x2), (3, .int x3)]) hx hb dX1_lay_5 hl (by decide) rfl (fun ls hl => ?_)
  refine lv_iload hx hb dX1_lay_7 (lv_at hl 0 rfl) ?_
  refine lv_if_ge (tgt := 15) hx hb dX1_lay_9 (by decide) (fun c1 => ?_) (fun c1 => ?_)
  · have okc1 := m_looked_ok S x1 c1
    have hR : MR D d A a S H := okc1.1 ▸ hR
    have okc1_0 : 0 ≤ x1 ∧ x1 < 8 := okc1.2.1
    have okc1_1 : 0 ≤ S.1 7 (Int32.toNatClampNeg x1) := okc1.2.2
    refine lv_iload_n hx hb dX1_lay_15 rfl (lv_at hl 3 rfl) ?_
    refine lv_iconst (v := 0) hx hb dX1_lay_16 (by decide) ?_
    refine lv_aload_n hx hb dX1_lay_17 rfl (lv_at hl 1 rfl) ?_
    refine mg_a X hR 7 (by decide) (by decide) q1144 dX1_lay_18 ?_
    refine lv_iload_n hx hb dX1_lay_21 rfl (lv_at hl 2 rfl) ?_
    refine m_ld X hR ⟨by decide, rfl, by decide⟩ (ixl 8 8 (by decide) rfl (okc1_0)) (v := S.1 7 (Int32.toNatClampNeg x1)) rfl dX1_lay_22 ?_
    refine lv_iconst (v := 1) hx hb dX1_lay_23 (by decide) ?_
    refine lv_isub hx hb dX1_lay_24 ?_
    refine s_ci X.1 (st_m_in l x2 0 ((S.1 7 (Int32.toNatClampNeg x1)) - 1)) 3 (lw_S q1314 q1315 q59 q1316) ⟨rfl, rfl⟩ (by decide +kernel) ⟨by decide, by decide⟩ ⟨by decide, by decide⟩ rfl hl.1 rfl (Nat.le_of_ble_eq_true rfl) dX1_lay_25 ?_
    refine lv_if_ne (tgt := 37) hx hb dX1_lay_28 (by decide) (fun c2 => ?_) (fun c2 => ?_)
    · refine lv_aload_n hx hb dX1_lay_37 rfl (lv_at hl 1 rfl) ?_
      refine mg_a X hR 8 (by decide) (by decide) q1145 dX1_lay_38 ?_
      refine lv_bipush (v := 48) hx hb dX1_lay_41 (by decide) ?_
      refine lv_iload_n hx hb dX1_lay_43 rfl (lv_at hl 2 rfl) ?_
      refine lv_imul hx hb dX1_lay_44 ?_
      refine lv_iload_n hx hb dX1_lay_45 rfl (lv_at hl 3 rfl) ?_
      refine lv_iadd hx hb dX1_lay_46 ?_
      refine m_ld X hR ⟨by decide, rfl, by decide⟩ (ixl 384 384 (by decide) rfl (m_lay_o3 S x1 x2 hI hz c1 okc1_0 okc1_1 c2)) (v := S.1 8 (Int32.toNatClampNeg ((48 * x1) + x2))) rfl dX1_lay_47 ?_
      refine lv_istore (lv' := [(5, .int (m_lay_v48 S x1 x2)), (4, .int ((m_looked S x1).1)), (0, .ref (a 0)), (1, .int x1), (2, .int x2), (3, .int x3)]) hx hb dX1_lay_48 hl (by decide) rfl (fun ls hl => ?_)
      refine lv_aload_n hx hb dX1_lay_50 rfl (lv_at hl 2 rfl) ?_
      refine mg_a X hR 8 (by decide) (by decide) q1145 dX1_lay_51 ?_
      refine lv_bipush (v := 48) hx hb dX1_lay_54 (by decide) ?_
      refine lv_iload_n hx hb dX1_lay_56 rfl (lv_at hl 3 rfl) ?_
      refine lv_imul hx hb dX1_lay_57 ?_
      refine lv_iload_n hx hb dX1_lay_58 rfl (lv_at hl 4 rfl) ?_
      refine lv_iadd hx hb dX1_lay_59 ?_
      refine lv_iload_n hx hb dX1_lay_60 rfl (lv_at hl 5 rfl) ?_
      refine lv_i2b hx hb dX1_lay_61 rfl ?_
      refine m_st X hR hS ⟨by decide, rfl, by decide⟩ (ixl 384 384 (by decide) rfl (m_lay_o3 S x1 x2 hI hz c1 okc1_0 okc1_1 c2)) dX1_lay_62 (fun H locs hR hS => ?_)
      refine lv_iload hx hb dX1_lay_63 (lv_at hl 0 rfl) ?_
      refine lv_sipush (v := 1000) hx hb dX1_lay_65 (by decide) ?_
      refine lv_iadd hx hb dX1_lay_68 ?_
      exact m_ri hx hb hrt (rfl) hlk hR hS hQ (Eq.trans (if_pos c1) (if_neg c2)) dX1_lay_69
    · refine lv_aload_n hx hb dX1_lay_31 rfl (lv_at hl 1 rfl) ?_
      refine lv_iconst (v := 2) hx hb dX1_lay_32 (by decide) ?_
      refine m_ci X hR hS (mt_meets l D d A a S 2 (by decide)) 1 (lw_V q1317 q1319 qs22 q59 q1320) ⟨rfl, rfl⟩ (by decide +kernel) ⟨by decide, by decide⟩ ⟨by decide, by decide⟩ rfl hl.1 rfl (Nat.le_of_ble_eq_true rfl) dX1_lay_33 (fun H locs hR hS => ?_)
      exact m_ri hx hb hrt (rfl) hlk hR hS hQ (Eq.trans (if_pos c1) (if_pos c2)) dX1_lay_36
  · refine lv_iload hx hb dX1_lay_12 (lv_at hl 0 rfl) ?_
    exact m_ri hx hb hrt (rfl) hlk hR hS hQ (if_neg c1) dX1_lay_14
def m_tear (S : MS) (x1 : Int32) : Int32 × MS := (if 0 ≤ (m_looked S x1).1 then (1, (mu S 7 (Int32.toNatClampNeg x1) (-9))) else ((m_looked S x1).1, (m_looked S x1).2))
set_option maxHeartbeats 4000000 in
theorem mt_tear (l : Launch) (D : va_G) (d : Nat → ClassId) (A : Nat → Prop) (a : Nat → Nat) (S : MS) (x1 : Int32) : MI l yX1_tear cX1_tear 3 .int (rm_ 3) D d A a S [.int x1] (m_tear S x1) := by
  refine m_startI rfl (Nat.le_of_ble_eq_true rfl) ?_
  intro p e s m av below meth c ls Q X hrt hlk hl hR hQ
  have hx := X.1.1
  have hb := X.1.2.1
  have hown := X.1.2.2.2.1
  have hts := X.1.2.2.2.2
  have hS : va_S A s.heap s.heap [] := va_S.rf
  have hl : lv_has ls 3 [(0, .ref (a 0)), (1, .int x1)] := hl
  refine lv_aload_n hx hb dX1_tear_0 rfl (lv_at hl 0 rfl) ?_
  refine lv_iload_n hx hb dX1_tear_1 rfl (lv_at hl 1 rfl) ?_
  refine m_ci X hR hS (mt_looked l D d A a S x1) 1 (lw_V q1325 q1327 qs23 q59 q1328) ⟨rfl, rfl⟩ (by decide +kernel) ⟨by decide, by decide⟩ ⟨by decide, by decide⟩ rfl hl.1 rfl (Nat.le_of_ble_eq_true rfl) dX1_tear_2 (fun H locs hR hS => ?_)
  refine lv_istore_n (lv' := [(2, .int ((m_looked S x1).1)), (0, .ref (a 0)), (1, .int x1)]) hx hb dX1_tear_5 rfl hl (by decide) rfl (fun ls hl => ?_)
  refine lv_iload_n hx hb dX1_tear_6 rfl (lv_at hl 0 rfl) ?_
  refine lv_if_ge (tgt := 12) hx hb dX1_tear_7 (by decide) (fun c1 => ?_) (fun c1 => ?_)
  · have okc1 := m_looked_ok S x1 c1
    have hR : MR D d A a S H := okc1.1 ▸ hR
    have okc1_0 : 0 ≤ x1 ∧ x1 < 8 := okc1.2.1
    have okc1_1 : 0 ≤ S.1 7 (Int32.toNatClampNeg x1) := okc1.2.2
    refine lv_aload_n hx hb dX1_tear_12 rfl (lv_at hl 1 rfl) ?_
    refine mg_a X hR 7 (by decide) (by decide) q1144 dX1_tear_13 ?_
    refine lv_iload_n hx hb dX1_tear_16 rfl (lv_at hl 2 rfl) ?_
    refine lv_bipush (v := (-9)) hx hb dX1_tear_17 (by decide) ?_
    refine m_st X hR hS ⟨by decide, rfl, by decide⟩ (ixl 8 8 (by decide) rfl (okc1_0)) dX1_tear_19 (fun H locs hR hS => ?_)
    refine lv_iconst (v := 1) hx hb dX1_tear_20 (by decide) ?_
    exact m_ri hx hb hrt (rfl) hlk hR hS hQ (if_pos c1) dX1_tear_21
  · refine lv_iload_n hx hb dX1_tear_10 rfl (lv_at hl 0 rfl) ?_
    exact m_ri hx hb hrt (rfl) hlk hR hS hQ (if_neg c1) dX1_tear_11
theorem m_copy_o4 (S : MS) (x1 : Int32) (x3 : Int32) (x5 : Int32) (hI : MInv S) (hz1 : ¬ (m_isRow x1) = 0 → (0 ≤ x1 ∧ x1 < 8) ∧ S.1 7 (Int32.toNatClampNeg x1) ≤ 48) (hz3 : ¬ (m_isRow x3) = 0 → (0 ≤ x3 ∧ x3 < 8) ∧ S.1 7 (Int32.toNatClampNeg x3) ≤ 48) (c1 : ¬ (m_isRow x1) = 0) (c2 : ¬ (m_isRow x3) = 0) (c3 : 0 ≤ x5) : 0 ≤ x1 ∧ x1 < 8 := by 
  clear hI
  try simp only [m_in_eq, m_isRow_eq] at *
  try simp only [i_le, i_lt, i_eq, Int32.reduceToInt] at *
  try simp only [Int32.reduceToInt] at *
  omega
theorem m_copy_o6 (S : MS) (x1 : Int32) (x3 : Int32) (x5 : Int32) (hI : MInv S) (hz1 : ¬ (m_isRow x1) = 0 → (0 ≤ x1 ∧ x1 < 8) ∧ S.1 7 (Int32.toNatClampNeg x1) ≤ 48) (hz3 : ¬ (m_isRow x3) = 0 → (0 ≤ x3 ∧ x3 < 8) ∧ S.1 7 (Int32.toNatClampNeg x3) ≤ 48) (c1 : ¬ (m_isRow x1) = 0) (c2 : ¬ (m_isRow x3) = 0) (c3 : 0 ≤ x5) (c5 : ¬ (S.1 7 (Int32.toNatClampNeg x1)) < 0) : 0 ≤ x3 ∧ x3 < 8 := by 
  clear hI
  try simp only [m_in_eq, m_isRow_eq] at *
  try simp only [i_le, i_lt, i_eq, Int32.reduceToInt] at *
  try simp only [Int32.reduceToInt] at *
  omega
theorem m_copy_o10 (S : MS) (x1 : Int32) (x2 : Int32) (x3 : Int32) (x4 : Int32) (x5 : Int32) (hI : MInv S) (hz1 : ¬ (m_isRow x1) = 0 → (0 ≤ x1 ∧ x1 < 8) ∧ S.1 7 (Int32.toNatClampNeg x1) ≤ 48) (hz3 : ¬ (m_isRow x3) = 0 → (0 ≤ x3 ∧ x3 < 8) ∧ S.1 7 (Int32.toNatClampNeg x3) ≤ 48) (c1 : ¬ (m_isRow x1) = 0) (c2 : ¬ (m_isRow x3) = 0) (c3 : 0 ≤ x5) (c5 : ¬ (S.1 7 (Int32.toNatClampNeg x1)) < 0) (c7 : 0 ≤ (S.1 7 (Int32.toNatClampNeg x3))) (c8 : ¬ x2 < 0) (c9 : ¬ x4 < 0) : 0 ≤ x1 ∧ x1 < 8 := by 
  clear hI
  try simp only [m_in_eq, m_isRow_eq] at *
  try simp only [i_le, i_lt, i_eq, Int32.reduceToInt] at *
  try simp only [Int32.reduceToInt] at *
  omega
theorem m_copy_o12 (S : MS) (x1 : Int32) (x2 : Int32) (x3 : Int32) (x4 : Int32) (x5 : Int32) (hI : MInv S) (hz1 : ¬ (m_isRow x1) = 0 → (0 ≤ x1 ∧ x1 < 8) ∧ S.1 7 (Int32.toNatClampNeg x1) ≤ 48) (hz3 : ¬ (m_isRow x3) = 0 → (0 ≤ x3 ∧ x3 < 8) ∧ S.1 7 (Int32.toNatClampNeg x3) ≤ 48) (c1 : ¬ (m_isRow x1) = 0) (c2 : ¬ (m_isRow x3) = 0) (c3 : 0 ≤ x5) (c5 : ¬ (S.1 7 (Int32.toNatClampNeg x1)) < 0) (c7 : 0 ≤ (S.1 7 (Int32.toNatClampNeg x3))) (c8 : ¬ x2 < 0) (c9 : ¬ x4 < 0) (c11 : ¬ (Int32.toInt64 (S.1 7 (Int32.toNatClampNeg x1))) < ((Int32.toInt64 x2) + (Int32.toInt64 x5))) : 0 ≤ x3 ∧ x3 < 8 := by 
  clear hI c11
  try simp only [m_in_eq, m_isRow_eq] at *
  try simp only [i_le, i_lt, i_eq, Int32.reduceToInt] at *
  try simp only [Int32.reduceToInt] at *
  omega
theorem m_copy_o15 (S : MS) (x1 : Int32) (x2 : Int32) (x3 : Int32) (x4 : Int32) (x5 : Int32) (y6_104 : Int32) (hI : MInv S) (hz1 : ¬ (m_isRow x1) = 0 → (0 ≤ x1 ∧ x1 < 8) ∧ S.1 7 (Int32.toNatClampNeg x1) ≤ 48) (hz3 : ¬ (m_isRow x3) = 0 → (0 ≤ x3 ∧ x3 < 8) ∧ S.1 7 (Int32.toNatClampNeg x3) ≤ 48) (c1 : ¬ (m_isRow x1) = 0) (c2 : ¬ (m_isRow x3) = 0) (c3 : 0 ≤ x5) (c5 : ¬ (S.1 7 (Int32.toNatClampNeg x1)) < 0) (c7 : 0 ≤ (S.1 7 (Int32.toNatClampNeg x3))) (c8 : ¬ x2 < 0) (c9 : ¬ x4 < 0) (c11 : ¬ (Int32.toInt64 (S.1 7 (Int32.toNatClampNeg x1))) < ((Int32.toInt64 x2) + (Int32.toInt64 x5))) (c13 : ((Int32.toInt64 x4) + (Int32.toInt64 x5)) ≤ (Int32.toInt64 (S.1 7 (Int32.toNatClampNeg x3)))) (hc1 : x2 ≤ 48 ∧ x5 ≤ 48 ∧ x2 + x5 ≤ S.1 7 (Int32.toNatClampNeg x1) ∧ 0 ≤ S.1 7 (Int32.toNatClampNeg x1)) (hc3 : x4 ≤ 48 ∧ x5 ≤ 48 ∧ x4 + x5 ≤ S.1 7 (Int32.toNatClampNeg x3) ∧ 0 ≤ S.1 7 (Int32.toNatClampNeg x3)) (hi6 : 0 ≤ y6_104) (c14 : ¬ x5 ≤ y6_104) : 0 ≤ (((48 * x1) + x2) + y6_104) ∧ (((48 * x1) + x2) + y6_104) < 384 := by 
  clear hI c11 c13
  try simp only [m_in_eq, m_isRow_eq] at *
  try simp only [i_le, i_lt, i_eq, Int32.reduceToInt] at *
  first | (have e_0 := a32 (x := x2) (y := x5) (by (try simp only [Int32.reduceToInt]); omega); (try simp only [Int32.reduceToInt] at e_0)) | skip
  first | (have e_1 := a32 (x := x4) (y := x5) (by (try simp only [Int32.reduceToInt]); omega); (try simp only [Int32.reduceToInt] at e_1)) | skip
  first | (have e_2 := m32 (x := 48) (y := x1) (by (try simp only [Int32.reduceToInt]); omega); (try simp only [Int32.reduceToInt] at e_2)) | skip
  first | (have e_3 := a32 (x := (48 * x1)) (y := x2) (by (try simp only [Int32.reduceToInt]); omega); (try simp only [Int32.reduceToInt] at e_3)) | skip
  first | (have e_4 := a32 (x := ((48 * x1) + x2)) (y := y6_104) (by (try simp only [Int32.reduceToInt]); omega); (try simp only [Int32.reduceToInt] at e_4)) | skip
  try simp only [Int32.reduceToInt] at *
  omega
theorem m_copy_o16 (S : MS) (x1 : Int32) (x2 : Int32) (x3 : Int32) (x4 : Int32) (x5 : Int32) (y6_104 : Int32) (hI : MInv S) (hz1 : ¬ (m_isRow x1) = 0 → (0 ≤ x1 ∧ x1 < 8) ∧ S.1 7 (Int32.toNatClampNeg x1) ≤ 48) (hz3 : ¬ (m_isRow x3) = 0 → (0 ≤ x3 ∧ x3 < 8) ∧ S.1 7 (Int32.toNatClampNeg x3) ≤ 48) (c1 : ¬ (m_isRow x1) = 0) (c2 : ¬ (m_isRow x3) = 0) (c3 : 0 ≤ x5) (c5 : ¬ (S.1 7 (Int32.toNatClampNeg x1)) < 0) (c7 : 0 ≤ (S.1 7 (Int32.toNatClampNeg x3))) (c8 : ¬ x2 < 0) (c9 : ¬ x4 < 0) (c11 : ¬ (Int32.toInt64 (S.1 7 (Int32.toNatClampNeg x1))) < ((Int32.toInt64 x2) + (Int32.toInt64 x5))) (c13 : ((Int32.toInt64 x4) + (Int32.toInt64 x5)) ≤ (Int32.toInt64 (S.1 7 (Int32.toNatClampNeg x3)))) (hc1 : x2 ≤ 48 ∧ x5 ≤ 48 ∧ x2 + x5 ≤ S.1 7 (Int32.toNatClampNeg x1) ∧ 0 ≤ S.1 7 (Int32.toNatClampNeg x1)) (hc3 : x4 ≤ 48 ∧ x5 ≤ 48 ∧ x4 + x5 ≤ S.1 7 (Int32.toNatClampNeg x3) ∧ 0 ≤ S.1 7 (Int32.toNatClampNeg x3)) (hi6 : 0 ≤ y6_104) (c14 : ¬ x5 ≤ y6_104) : 0 ≤ y6_104 ∧ y6_104 < 48 := by 
  clear hI c11 c13
  try simp only [m_in_eq, m_isRow_eq] at *
  try simp only [i_le, i_lt, i_eq, Int32.reduceToInt] at *
  first | (have e_0 := a32 (x := x2) (y := x5) (by (try simp only [Int32.reduceToInt]); omega); (try simp only [Int32.reduceToInt] at e_0)) | skip
  first | (have e_1 := a32 (x := x4) (y := x5) (by (try simp only [Int32.reduceToInt]); omega); (try simp only [Int32.reduceToInt] at e_1)) | skip
  try simp only [Int32.reduceToInt] at *
  omega
def m_copy_L104 (x1 : Int32) (x2 : Int32) (x5 : Int32) : Nat → Int32 → MS → Int32 × MS
  | 0, y6_104, S_104 => (y6_104, S_104)
  | f104 + 1, y6_104, S_104 => (if x5 ≤ y6_104 then (y6_104, S_104) else (m_copy_L104 x1 x2 x5 f104 (y6_104 + 1) (mu S_104 9 (Int32.toNatClampNeg y6_104) (S_104.1 8 (Int32.toNatClampNeg (((48 * x1) + x2) + y6_104))))))
theorem m_copy_L104_s (x1 : Int32) (x2 : Int32) (x5 : Int32) (f104 : Nat) (y6_104 : Int32) (S_104 : MS) : m_copy_L104 x1 x2 x5 (f104 + 1) y6_104 S_104 = (if x5 ≤ y6_104 then (y6_104, S_104) else (m_copy_L104 x1 x2 x5 f104 (y6_104 + 1) (mu S_104 9 (Int32.toNatClampNeg y6_104) (S_104.1 8 (Int32.toNatClampNeg (((48 * x1) + x2) + y6_104)))))) := rfl
def m_copy_R104 (S : MS) (x1 : Int32) (x2 : Int32) (x5 : Int32) : Int32 × MS := m_copy_L104 x1 x2 x5 ((x5 - 0 : Int32).toNatClampNeg + 1) 0 S
theorem m_copy_o18 (S : MS) (x1 : Int32) (x2 : Int32) (x3 : Int32) (x4 : Int32) (x5 : Int32) (y6_141 : Int32) (hI : MInv S) (hz1 : ¬ (m_isRow x1) = 0 → (0 ≤ x1 ∧ x1 < 8) ∧ S.1 7 (Int32.toNatClampNeg x1) ≤ 48) (hz3 : ¬ (m_isRow x3) = 0 → (0 ≤ x3 ∧ x3 < 8) ∧ S.1 7 (Int32.toNatClampNeg x3) ≤ 48) (c1 : ¬ (m_isRow x1) = 0) (c2 : ¬ (m_isRow x3) = 0) (c3 : 0 ≤ x5) (c5 : ¬ (S.1 7 (Int32.toNatClampNeg x1)) < 0) (c7 : 0 ≤ (S.1 7 (Int32.toNatClampNeg x3))) (c8 : ¬ x2 < 0) (c9 : ¬ x4 < 0) (c11 : ¬ (Int32.toInt64 (S.1 7 (Int32.toNatClampNeg x1))) < ((Int32.toInt64 x2) + (Int32.toInt64 x5))) (c13 : ((Int32.toInt64 x4) + (Int32.toInt64 x5)) ≤ (Int32.toInt64 (S.1 7 (Int32.toNatClampNeg x3)))) (hc1 : x2 ≤ 48 ∧ x5 ≤ 48 ∧ x2 + x5 ≤ S.1 7 (Int32.toNatClampNeg x1) ∧ 0 ≤ S.1 7 (Int32.toNatClampNeg x1)) (hc3 : x4 ≤ 48 ∧ x5 ≤ 48 ∧ x4 + x5 ≤ S.1 7 (Int32.toNatClampNeg x3) ∧ 0 ≤ S.1 7 (Int32.toNatClampNeg x3)) (hi6 : 0 ≤ y6_141) (c17 : ¬ x5 ≤ y6_141) : 0 ≤ y6_141 ∧ y6_141 < 48 := by 
  clear hI c11 c13
  try simp only [m_in_eq, m_isRow_eq] at *
  try simp only [i_le, i_lt, i_eq, Int32.reduceToInt] at *
  first | (have e_0 := a32 (x := x2) (y := x5) (by (try simp only [Int32.reduceToInt]); omega); (try simp only [Int32.reduceToInt] at e_0)) | skip
  first | (have e_1 := a32 (x := x4) (y := x5) (by (try simp only [Int32.reduceToInt]); omega); (try simp only [Int32.reduceToInt] at e_1)) | skip
  try simp only [Int32.reduceToInt] at *
  omega
theorem m_copy_o19 (S : MS) (x1 : Int32) (x2 : Int32) (x3 : Int32) (x4 : Int32) (x5 : Int32) (y6_141 : Int32) (hI : MInv S) (hz1 : ¬ (m_isRow x1) = 0 → (0 ≤ x1 ∧ x1 < 8) ∧ S.1 7 (Int32.toNatClampNeg x1) ≤ 48) (hz3 : ¬ (m_isRow x3) = 0 → (0 ≤ x3 ∧ x3 < 8) ∧ S.1 7 (Int32.toNatClampNeg x3) ≤ 48) (c1 : ¬ (m_isRow x1) = 0) (c2 : ¬ (m_isRow x3) = 0) (c3 : 0 ≤ x5) (c5 : ¬ (S.1 7 (Int32.toNatClampNeg x1)) < 0) (c7 : 0 ≤ (S.1 7 (Int32.toNatClampNeg x3))) (c8 : ¬ x2 < 0) (c9 : ¬ x4 < 0) (c11 : ¬ (Int32.toInt64 (S.1 7 (Int32.toNatClampNeg x1))) < ((Int32.toInt64 x2) + (Int32.toInt64 x5))) (c13 : ((Int32.toInt64 x4) + (Int32.toInt64 x5)) ≤ (Int32.toInt64 (S.1 7 (Int32.toNatClampNeg x3)))) (hc1 : x2 ≤ 48 ∧ x5 ≤ 48 ∧ x2 + x5 ≤ S.1 7 (Int32.toNatClampNeg x1) ∧ 0 ≤ S.1 7 (Int32.toNatClampNeg x1)) (hc3 : x4 ≤ 48 ∧ x5 ≤ 48 ∧ x4 + x5 ≤ S.1 7 (Int32.toNatClampNeg x3) ∧ 0 ≤ S.1 7 (Int32.toNatClampNeg x3)) (hi6 : 0 ≤ y6_141) (c17 : ¬ x5 ≤ y6_141) : 0 ≤ (((48 * x3) + x4) + y6_141) ∧ (((48 * x3) + x4) + y6_141) < 384 := by 
  clear hI c11 c13
  try simp only [m_in_eq, m_isRow_eq] at *
  try simp only [i_le, i_lt, i_eq, Int32.reduceToInt] at *
  first | (have e_0 := a32 (x := x2) (y := x5) (by (try simp only [Int32.reduceToInt]); omega); (try simp only [Int32.reduceToInt] at e_0)) | skip
  first | (have e_1 := a32 (x := x4) (y := x5) (by (try simp only [Int32.reduceToInt]); omega); (try simp only [Int32.reduceToInt] at e_1)) | skip
  first | (have e_2 := m32 (x := 48) (y := x3) (by (try simp only [Int32.reduceToInt]); omega); (try simp only [Int32.reduceToInt] at e_2)) | skip
  first | (have e_3 := a32 (x := (48 * x3)) (y := x4) (by (try simp only [Int32.reduceToInt]); omega); (try simp only [Int32.reduceToInt] at e_3)) | skip
  first | (have e_4 := a32 (x := ((48 * x3) + x4)) (y := y6_141) (by (try simp only [Int32.reduceToInt]); omega); (try simp only [Int32.reduceToInt] at e_4)) | skip
  try simp only [Int32.reduceToInt] at *
  omega
def m_copy_L141 (x3 : Int32) (x4 : Int32) (x5 : Int32) : Nat → Int32 → MS → Int32 × MS
  | 0, y6_141, S_141 => (y6_141, S_141)
  | f141 + 1, y6_141, S_141 => (if x5 ≤ y6_141 then (y6_141, S_141) else (m_copy_L141 x3 x4 x5 f141 (y6_141 + 1) (mu S_141 8 (Int32.toNatClampNeg (((48 * x3) + x4) + y6_141)) (S_141.1 9 (Int32.toNatClampNeg y6_141)))))
theorem m_copy_L141_s (x3 : Int32) (x4 : Int32) (x5 : Int32) (f141 : Nat) (y6_141 : Int32) (S_141 : MS) : m_copy_L141 x3 x4 x5 (f141 + 1) y6_141 S_141 = (if x5 ≤ y6_141 then (y6_141, S_141) else (m_copy_L141 x3 x4 x5 f141 (y6_141 + 1) (mu S_141 8 (Int32.toNatClampNeg (((48 * x3) + x4) + y6_141)) (S_141.1 9 (Int32.toNatClampNeg y6_141))))) := rfl
def m_copy_R141 (S : MS) (x1 : Int32) (x2 : Int32) (x3 : Int32) (x4 : Int32) (x5 : Int32) : Int32 × MS := m_copy_L141 x3 x4 x5 ((x5 - 0 : Int32).toNatClampNeg + 1) 0 (m_copy_R104 S x1 x2 x5).2
theorem m_copy_o20 (S : MS) (x1 : Int32) (x2 : Int32) (x3 : Int32) (x4 : Int32) (x5 : Int32) (y6_141 : Int32) (hI : MInv S) (hz1 : ¬ (m_isRow x1) = 0 → (0 ≤ x1 ∧ x1 < 8) ∧ S.1 7 (Int32.toNatClampNeg x1) ≤ 48) (hz3 : ¬ (m_isRow x3) = 0 → (0 ≤ x3 ∧ x3 < 8) ∧ S.1 7 (Int32.toNatClampNeg x3) ≤ 48) (c1 : ¬ (m_isRow x1) = 0) (c2 : ¬ (m_isRow x3) = 0) (c3 : 0 ≤ x5) (c5 : ¬ (S.1 7 (Int32.toNatClampNeg x1)) < 0) (c7 : 0 ≤ (S.1 7 (Int32.toNatClampNeg x3))) (c8 : ¬ x2 < 0) (c9 : ¬ x4 < 0) (c11 : ¬ (Int32.toInt64 (S.1 7 (Int32.toNatClampNeg x1))) < ((Int32.toInt64 x2) + (Int32.toInt64 x5))) (c13 : ((Int32.toInt64 x4) + (Int32.toInt64 x5)) ≤ (Int32.toInt64 (S.1 7 (Int32.toNatClampNeg x3)))) (hc1 : x2 ≤ 48 ∧ x5 ≤ 48 ∧ x2 + x5 ≤ S.1 7 (Int32.toNatClampNeg x1) ∧ 0 ≤ S.1 7 (Int32.toNatClampNeg x1)) (hc3 : x4 ≤ 48 ∧ x5 ≤ 48 ∧ x4 + x5 ≤ S.1 7 (Int32.toNatClampNeg x3) ∧ 0 ≤ S.1 7 (Int32.toNatClampNeg x3)) (hi6 : 0 ≤ y6_141) (c17 : ¬ x5 ≤ y6_141) : 0 ≤ (y6_141 + 1) := by 
  clear hI c11 c13
  try simp only [m_in_eq, m_isRow_eq] at *
  try simp only [i_le, i_lt, i_eq, Int32.reduceToInt] at *
  first | (have e_0 := a32 (x := x2) (y := x5) (by (try simp only [Int32.reduceToInt]); omega); (try simp only [Int32.reduceToInt] at e_0)) | skip
  first | (have e_1 := a32 (x := x4) (y := x5) (by (try simp only [Int32.reduceToInt]); omega); (try simp only [Int32.reduceToInt] at e_1)) | skip
  first | (have e_2 := a32 (x := y6_141) (y := 1) (by (try simp only [Int32.reduceToInt]); omega); (try simp only [Int32.reduceToInt] at e_2)) | skip
  try simp only [Int32.reduceToInt] at *
  omega
theorem m_copy_o21 (S : MS) (x1 : Int32) (x2 : Int32) (x3 : Int32) (x4 : Int32) (x5 : Int32) (y6_141 : Int32) (hI : MInv S) (hz1 : ¬ (m_isRow x1) = 0 → (0 ≤ x1 ∧ x1 < 8) ∧ S.1 7 (Int32.toNatClampNeg x1) ≤ 48) (hz3 : ¬ (m_isRow x3) = 0 → (0 ≤ x3 ∧ x3 < 8) ∧ S.1 7 (Int32.toNatClampNeg x3) ≤ 48) (c1 : ¬ (m_isRow x1) = 0) (c2 : ¬ (m_isRow x3) = 0) (c3 : 0 ≤ x5) (c5 : ¬ (S.1 7 (Int32.toNatClampNeg x1)) < 0) (c7 : 0 ≤ (S.1 7 (Int32.toNatClampNeg x3))) (c8 : ¬ x2 < 0) (c9 : ¬ x4 < 0) (c11 : ¬ (Int32.toInt64 (S.1 7 (Int32.toNatClampNeg x1))) < ((Int32.toInt64 x2) + (Int32.toInt64 x5))) (c13 : ((Int32.toInt64 x4) + (Int32.toInt64 x5)) ≤ (Int32.toInt64 (S.1 7 (Int32.toNatClampNeg x3)))) (hc1 : x2 ≤ 48 ∧ x5 ≤ 48 ∧ x2 + x5 ≤ S.1 7 (Int32.toNatClampNeg x1) ∧ 0 ≤ S.1 7 (Int32.toNatClampNeg x1)) (hc3 : x4 ≤ 48 ∧ x5 ≤ 48 ∧ x4 + x5 ≤ S.1 7 (Int32.toNatClampNeg x3) ∧ 0 ≤ S.1 7 (Int32.toNatClampNeg x3)) (hi6 : 0 ≤ y6_141) (c17 : ¬ x5 ≤ y6_141) : y6_141 < x5 := by 
  clear hI c11 c13
  try simp only [m_in_eq, m_isRow_eq] at *
  try simp only [i_le, i_lt, i_eq, Int32.reduceToInt] at *
  first | (have e_0 := a32 (x := x2) (y := x5) (by (try simp only [Int32.reduceToInt]); omega); (try simp only [Int32.reduceToInt] at e_0)) | skip
  first | (have e_1 := a32 (x := x4) (y := x5) (by (try simp only [Int32.reduceToInt]); omega); (try simp only [Int32.reduceToInt] at e_1)) | skip
  try simp only [Int32.reduceToInt] at *
  omega
theorem m_copy_o22 (S : MS) (x1 : Int32) (x2 : Int32) (x3 : Int32) (x4 : Int32) (x5 : Int32) (y6_104 : Int32) (hI : MInv S) (hz1 : ¬ (m_isRow x1) = 0 → (0 ≤ x1 ∧ x1 < 8) ∧ S.1 7 (Int32.toNatClampNeg x1) ≤ 48) (hz3 : ¬ (m_isRow x3) = 0 → (0 ≤ x3 ∧ x3 < 8) ∧ S.1 7 (Int32.toNatClampNeg x3) ≤ 48) (c1 : ¬ (m_isRow x1) = 0) (c2 : ¬ (m_isRow x3) = 0) (c3 : 0 ≤ x5) (c5 : ¬ (S.1 7 (Int32.toNatClampNeg x1)) < 0) (c7 : 0 ≤ (S.1 7 (Int32.toNatClampNeg x3))) (c8 : ¬ x2 < 0) (c9 : ¬ x4 < 0) (c11 : ¬ (Int32.toInt64 (S.1 7 (Int32.toNatClampNeg x1))) < ((Int32.toInt64 x2) + (Int32.toInt64 x5))) (c13 : ((Int32.toInt64 x4) + (Int32.toInt64 x5)) ≤ (Int32.toInt64 (S.1 7 (Int32.toNatClampNeg x3)))) (hc1 : x2 ≤ 48 ∧ x5 ≤ 48 ∧ x2 + x5 ≤ S.1 7 (Int32.toNatClampNeg x1) ∧ 0 ≤ S.1 7 (Int32.toNatClampNeg x1)) (hc3 : x4 ≤ 48 ∧ x5 ≤ 48 ∧ x4 + x5 ≤ S.1 7 (Int32.toNatClampNeg x3) ∧ 0 ≤ S.1 7 (Int32.toNatClampNeg x3)) (hi6 : 0 ≤ y6_104) (c14 : ¬ x5 ≤ y6_104) : 0 ≤ (y6_104 + 1) := by 
  clear hI c11 c13
  try simp only [m_in_eq, m_isRow_eq] at *
  try simp only [i_le, i_lt, i_eq, Int32.reduceToInt] at *
  first | (have e_0 := a32 (x := x2) (y := x5) (by (try simp only [Int32.reduceToInt]); omega); (try simp only [Int32.reduceToInt] at e_0)) | skip
  first | (have e_1 := a32 (x := x4) (y := x5) (by (try simp only [Int32.reduceToInt]); omega); (try simp only [Int32.reduceToInt] at e_1)) | skip
  first | (have e_2 := a32 (x := y6_104) (y := 1) (by (try simp only [Int32.reduceToInt]); omega); (try simp only [Int32.reduceToInt] at e_2)) | skip
  try simp only [Int32.reduceToInt] at *
  omega
theorem m_copy_o23 (S : MS) (x1 : Int32) (x2 : Int32) (x3 : Int32) (x4 : Int32) (x5 : Int32) (y6_104 : Int32) (hI : MInv S) (hz1 : ¬ (m_isRow x1) = 0 → (0 ≤ x1 ∧ x1 < 8) ∧ S.1 7 (Int32.toNatClampNeg x1) ≤ 48) (hz3 : ¬ (m_isRow x3) = 0 → (0 ≤ x3 ∧ x3 < 8) ∧ S.1 7 (Int32.toNatClampNeg x3) ≤ 48) (c1 : ¬ (m_isRow x1) = 0) (c2 : ¬ (m_isRow x3) = 0) (c3 : 0 ≤ x5) (c5 : ¬ (S.1 7 (Int32.toNatClampNeg x1)) < 0) (c7 : 0 ≤ (S.1 7 (Int32.toNatClampNeg x3))) (c8 : ¬ x2 < 0) (c9 : ¬ x4 < 0) (c11 : ¬ (Int32.toInt64 (S.1 7 (Int32.toNatClampNeg x1))) < ((Int32.toInt64 x2) + (Int32.toInt64 x5))) (c13 : ((Int32.toInt64 x4) + (Int32.toInt64 x5)) ≤ (Int32.toInt64 (S.1 7 (Int32.toNatClampNeg x3)))) (hc1 : x2 ≤ 48 ∧ x5 ≤ 48 ∧ x2 + x5 ≤ S.1 7 (Int32.toNatClampNeg x1) ∧ 0 ≤ S.1 7 (Int32.toNatClampNeg x1)) (hc3 : x4 ≤ 48 ∧ x5 ≤ 48 ∧ x4 + x5 ≤ S.1 7 (Int32.toNatClampNeg x3) ∧ 0 ≤ S.1 7 (Int32.toNatClampNeg x3)) (hi6 : 0 ≤ y6_104) (c14 : ¬ x5 ≤ y6_104) : y6_104 < x5 := by 
  clear hI c11 c13
  try simp only [m_in_eq, m_isRow_eq] at *
  try simp only [i_le, i_lt, i_eq, Int32.reduceToInt] at *
  first | (have e_0 := a32 (x := x2) (y := x5) (by (try simp only [Int32.reduceToInt]); omega); (try simp only [Int32.reduceToInt] at e_0)) | skip
  first | (have e_1 := a32 (x := x4) (y := x5) (by (try simp only [Int32.reduceToInt]); omega); (try simp only [Int32.reduceToInt] at e_1)) | skip
  try simp only [Int32.reduceToInt] at *
  omega
def m_copy (S : MS) (x1 : Int32) (x2 : Int32) (x3 : Int32) (x4 : Int32) (x5 : Int32) : Int32 × MS := (if (m_isRow x1) = 0 then ((-1), S) else (if (m_isRow x3) = 0 then ((-1), S) else (if 0 ≤ x5 then (if (S.1 7 (Int32.toNatClampNeg x1)) < 0 then ((m_meets S 1).1, (m_meets S 1).2) else (if 0 ≤ (S.1 7 (Int32.toNatClampNeg x3)) then (if x2 < 0 then ((m_meets S 2).1, (m_meets S 2).2) else (if x4 < 0 then ((m_meets S 2).1, (m_meets S 2).2) else (if (Int32.toInt64 (S.1 7 (Int32.toNatClampNeg x1))) < ((Int32.toInt64 x2) + (Int32.toInt64 x5)) then ((m_meets S 2).1, (m_meets S 2).2) else (if ((Int32.toInt64 x4) + (Int32.toInt64 x5)) ≤ (Int32.toInt64 (S.1 7 (Int32.toNatClampNeg x3))) then (1, (m_copy_R141 S x1 x2 x3 x4 x5).2) else ((m_meets S 2).1, (m_meets S 2).2))))) else ((m_meets S 1).1, (m_meets S 1).2))) else ((m_meets S 5).1, (m_meets S 5).2))))
set_option maxHeartbeats 4000000 in
theorem mt_copy (l : Launch) (D : va_G) (d : Nat → ClassId) (A : Nat → Prop) (a : Nat → Nat) (S : MS) (x1 : Int32) (x2 : Int32) (x3 : Int32) (x4 : Int32) (x5 : Int32) (hI : MInv S) : MI l yX1_copy cX1_copy 7 .int (rm_ 2) D d A a S [.int x1, .int x2, .int x3, .int x4, .int x5] (m_copy S x1 x2 x3 x4 x5) := by
  refine m_startI rfl (Nat.le_of_ble_eq_true rfl) ?_
  intro p e s m av below meth c ls Q X hrt hlk hl hR hQ
  have hx := X.1.1
  have hb := X.1.2.1
  have hown := X.1.2.2.2.1
  have hts := X.1.2.2.2.2
  have hS : va_S A s.heap s.heap [] := va_S.rf
  have hl : lv_has ls 7 [(0, .ref (a 0)), (1, .int x1), (2, .int x2), (3, .int x3), (4, .int x4), (5, .int x5)] := hl
  have hz1 : ¬ (m_isRow x1) = 0 → (0 ≤ x1 ∧ x1 < 8) ∧ S.1 7 (Int32.toNatClampNeg x1) ≤ 48 := fun h => ⟨isRow_ok h, mi_sz hI (isRow_ok h)⟩
  have hz3 : ¬ (m_isRow x3) = 0 → (0 ≤ x3 ∧ x3 < 8) ∧ S.1 7 (Int32.toNatClampNeg x3) ≤ 48 := fun h => ⟨isRow_ok h, mi_sz hI (isRow_ok h)⟩
  refine lv_iload_n hx hb dX1_copy_0 rfl (lv_at hl 1 rfl) ?_
  refine s_ci X.1 (st_m_isRow l x1) 1 (lw_S q1311 q1312 q59 q1313) ⟨rfl, rfl⟩ (by decide +kernel) ⟨by decide, by decide⟩ ⟨by decide, by decide⟩ rfl hl.1 rfl (Nat.le_of_ble_eq_true rfl) dX1_copy_1 ?_
  refine lv_if_eq (tgt := 14) hx hb dX1_copy_4 (by decide) (fun c1 => ?_) (fun c1 => ?_)
  · refine lv_iconst (v := (-1)) hx hb dX1_copy_14 (by decide) ?_
    exact m_ri hx hb hrt (rfl) hlk hR hS hQ (if_pos c1) dX1_copy_15
  · refine lv_iload_n hx hb dX1_copy_7 rfl (lv_at hl 3 rfl) ?_
    refine s_ci X.1 (st_m_isRow l x3) 1 (lw_S q1311 q1312 q59 q1313) ⟨rfl, rfl⟩ (by decide +kernel) ⟨by decide, by decide⟩ ⟨by decide, by decide⟩ rfl hl.1 rfl (Nat.le_of_ble_eq_true rfl) dX1_copy_8 ?_
    refine lv_if_ne (tgt := 16) hx hb dX1_copy_11 (by decide) (fun c2 => ?_) (fun c2 => ?_)
    · refine lv_iload hx hb dX1_copy_16 (lv_at hl 5 rfl) ?_
      refine lv_if_ge (tgt := 27) hx hb dX1_copy_18 (by decide) (fun c3 => ?_) (fun c3 => ?_)
      · refine lv_aload_n hx hb dX1_copy_27 rfl (lv_at hl 0 rfl) ?_
        refine mg_a X hR 7 (by decide) (by decide) q1144 dX1_copy_28 ?_
        refine lv_iload_n hx hb dX1_copy_31 rfl (lv_at hl 1 rfl) ?_
        refine m_ld X hR ⟨by decide, rfl, by decide⟩ (ixl 8 8 (by decide) rfl (m_copy_o4 S x1 x3 x5 hI hz1 hz3 c1 c2 c3)) (v := S.1 7 (Int32.toNatClampNeg x1)) rfl dX1_copy_32 ?_
        refine lv_if_lt (tgt := 45) hx hb dX1_copy_33 (by decide) (fun c5 => ?_) (fun c5 => ?_)
        · refine lv_aload_n hx hb dX1_copy_45 rfl (lv_at hl 0 rfl) ?_
          refine lv_iconst (v := 1) hx hb dX1_copy_46 (by decide) ?_
          refine m_ci X hR hS (mt_meets l D d A a S 1 (by decide)) 1 (lw_V q1317 q1319 qs22 q59 q1320) ⟨rfl, rfl⟩ (by decide +kernel) ⟨by decide, by decide⟩ ⟨by decide, by decide⟩ rfl hl.1 rfl (Nat.le_of_ble_eq_true rfl) dX1_copy_47 (fun H locs hR hS => ?_)
          exact m_ri hx hb hrt (rfl) hlk hR hS hQ (Eq.trans (if_neg c1) (Eq.trans (if_neg c2) (Eq.trans (if_pos c3) (if_pos c5)))) dX1_copy_50
        · refine lv_aload_n hx hb dX1_copy_36 rfl (lv_at hl 0 rfl) ?_
          refine mg_a X hR 7 (by decide) (by decide) q1144 dX1_copy_37 ?_
          refine lv_iload_n hx hb dX1_copy_40 rfl (lv_at hl 3 rfl) ?_
          refine m_ld X hR ⟨by decide, rfl, by decide⟩ (ixl 8 8 (by decide) rfl (m_copy_o6 S x1 x3 x5 hI hz1 hz3 c1 c2 c3 c5)) (v := S.1 7 (Int32.toNatClampNeg x3)) rfl dX1_copy_41 ?_
          refine lv_if_ge (tgt := 51) hx hb dX1_copy_42 (by decide) (fun c7 => ?_) (fun c7 => ?_)
          · refine lv_iload_n hx hb dX1_copy_51 rfl (lv_at hl 2 rfl) ?_
            refine lv_if_lt (tgt := 95) hx hb dX1_copy_52 (by decide) (fun c8 => ?_) (fun c8 => ?_)
            · refine lv_aload_n hx hb dX1_copy_95 rfl (lv_at hl 0 rfl) ?_
              refine lv_iconst (v := 2) hx hb dX1_copy_96 (by decide) ?_
              refine m_ci X hR hS (mt_meets l D d A a S 2 (by decide)) 1 (lw_V q1317 q1319 qs22 q59 q1320) ⟨rfl, rfl⟩ (by decide +kernel) ⟨by decide, by decide⟩ ⟨by decide, by decide⟩ rfl hl.1 rfl (Nat.le_of_ble_eq_true rfl) dX1_copy_97 (fun H locs hR hS => ?_)
              exact m_ri hx hb hrt (rfl) hlk hR hS hQ (Eq.trans (if_neg c1) (Eq.trans (if_neg c2) (Eq.trans (if_pos c3) (Eq.trans (if_neg c5) (Eq.trans (if_pos c7) (if_pos c8)))))) dX1_copy_100
            · refine lv_iload hx hb dX1_copy_55 (lv_at hl 4 rfl) ?_
              refine lv_if_lt (tgt := 95) hx hb dX1_copy_57 (by decide) (fun c9 => ?_) (fun c9 => ?_)
              · refine lv_aload_n hx hb dX1_copy_95 rfl (lv_at hl 0 rfl) ?_
                refine lv_iconst (v := 2) hx hb dX1_copy_96 (by decide) ?_
                refine m_ci X hR hS (mt_meets l D d A a S 2 (by decide)) 1 (lw_V q1317 q1319 qs22 q59 q1320) ⟨rfl, rfl⟩ (by decide +kernel) ⟨by decide, by decide⟩ ⟨by decide, by decide⟩ rfl hl.1 rfl (Nat.le_of_ble_eq_true rfl) dX1_copy_97 (fun H locs hR hS => ?_)
                exact m_ri hx hb hrt (rfl) hlk hR hS hQ (Eq.trans (if_neg c1) (Eq.trans (if_neg c2) (Eq.trans (if_pos c3) (Eq.trans (if_neg c5) (Eq.trans (if_pos c7) (Eq.trans (if_neg c8) (if_pos c9))))))) dX1_copy_100
              · refine lv_iload_n hx hb dX1_copy_60 rfl (lv_at hl 2 rfl) ?_
                refine lv_i2l hx hb dX1_copy_61 rfl ?_
                refine lv_iload hx hb dX1_copy_62 (lv_at hl 5 rfl) ?_
                refine lv_i2l hx hb dX1_copy_64 rfl ?_
                refine lv_ladd hx hb dX1_copy_65 ?_
                refine lv_aload_n hx hb dX1_copy_66 rfl (lv_at hl 0 rfl) ?_
                refine mg_a X hR 7 (by decide) (by decide) q1144 dX1_copy_67 ?_
                refine lv_iload_n hx hb dX1_copy_70 rfl (lv_at hl 1 rfl) ?_
                refine m_ld X hR ⟨by decide, rfl, by decide⟩ (ixl 8 8 (by decide) rfl (m_copy_o10 S x1 x2 x3 x4 x5 hI hz1 hz3 c1 c2 c3 c5 c7 c8 c9)) (v := S.1 7 (Int32.toNatClampNeg x1)) rfl dX1_copy_71 ?_
                refine lv_i2l hx hb dX1_copy_72 rfl ?_
                refine hl_gt (tgt := 95) hx hb dX1_copy_73 dX1_copy_74 (by decide) (fun c11 => ?_) (fun c11 => ?_)
                · refine lv_aload_n hx hb dX1_copy_95 rfl (lv_at hl 0 rfl) ?_
                  refine lv_iconst (v := 2) hx hb dX1_copy_96 (by decide) ?_
                  refine m_ci X hR hS (mt_meets l D d A a S 2 (by decide)) 1 (lw_V q1317 q1319 qs22 q59 q1320) ⟨rfl, rfl⟩ (by decide +kernel) ⟨by decide, by decide⟩ ⟨by decide, by decide⟩ rfl hl.1 rfl (Nat.le_of_ble_eq_true rfl) dX1_copy_97 (fun H locs hR hS => ?_)
                  exact m_ri hx hb hrt (rfl) hlk hR hS hQ (Eq.trans (if_neg c1) (Eq.trans (if_neg c2) (Eq.trans (if_pos c3) (Eq.trans (if_neg c5) (Eq.trans (if_pos c7) (Eq.trans (if_neg c8) (Eq.trans (if_neg c9) (if_pos c11)))))))) dX1_copy_100
                · refine lv_iload hx hb dX1_copy_77 (lv_at hl 4 rfl) ?_
                  refine lv_i2l hx hb dX1_copy_79 rfl ?_
                  refine lv_iload hx hb dX1_copy_80 (lv_at hl 5 rfl) ?_
                  refine lv_i2l hx hb dX1_copy_82 rfl ?_
                  refine lv_ladd hx hb dX1_copy_83 ?_
                  refine lv_aload_n hx hb dX1_copy_84 rfl (lv_at hl 0 rfl) ?_
                  refine mg_a X hR 7 (by decide) (by decide) q1144 dX1_copy_85 ?_
                  refine lv_iload_n hx hb dX1_copy_88 rfl (lv_at hl 3 rfl) ?_
                  refine m_ld X hR ⟨by decide, rfl, by decide⟩ (ixl 8 8 (by decide) rfl (m_copy_o12 S x1 x2 x3 x4 x5 hI hz1 hz3 c1 c2 c3 c5 c7 c8 c9 c11)) (v := S.1 7 (Int32.toNatClampNeg x3)) rfl dX1_copy_89 ?_
                  refine lv_i2l hx hb dX1_copy_90 rfl ?_
                  refine hl_le (tgt := 101) hx hb dX1_copy_91 dX1_copy_92 (by decide) (fun c13 => ?_) (fun c13 => ?_)
                  · have hc1 : x2 ≤ 48 ∧ x5 ≤ 48 ∧ x2 + x5 ≤ S.1 7 (Int32.toNatClampNeg x1) ∧ 0 ≤ S.1 7 (Int32.toNatClampNeg x1) := cp_ok (Int32.not_lt.mp (by assumption)) (by assumption) (hz1 (by assumption)).2 (by assumption)
                    have hc3 : x4 ≤ 48 ∧ x5 ≤ 48 ∧ x4 + x5 ≤ S.1 7 (Int32.toNatClampNeg x3) ∧ 0 ≤ S.1 7 (Int32.toNatClampNeg x3) := cp_ok (Int32.not_lt.mp (by assumption)) (by assumption) (hz3 (by assumption)).2 (Int64.not_lt.mpr (by assumption))
                    refine lv_iconst (v := 0) hx hb dX1_copy_101 (by decide) ?_
                    refine lv_istore (lv' := [(6, .int 0), (0, .ref (a 0)), (1, .int x1), (2, .int x2), (3, .int x3), (4, .int x4), (5, .int x5)]) hx hb dX1_copy_102 hl (by decide) rfl (fun ls hl => ?_)
                    have K104 : ∀ (H : Heap) (locs : List Loc) (ls : Array Slot), MR D d A a (m_copy_R104 S x1 x2 x5).2 H → va_S A s.heap H locs → lv_has ls 7 [(6, .int ((m_copy_R104 S x1 x2 x5).1)), (0, .ref (a 0)), (1, .int x1), (2, .int x2), (3, .int x3), (4, .int x4), (5, .int x5)] → W p l e (rm_ 2) s m av below meth c H locs 0 0 Q (F0 m 138 ls []) := by
                      intro H locs ls hR hS hl
                      refine lv_iconst (v := 0) hx hb dX1_copy_138 (by decide) ?_
                      refine lv_istore (lv' := [(6, .int 0), (0, .ref (a 0)), (1, .int x1), (2, .int x2), (3, .int x3), (4, .int x4), (5, .int x5)]) hx hb dX1_copy_139 hl (by decide) rfl (fun ls hl => ?_)
                      have K141 : ∀ (H : Heap) (locs : List Loc) (ls : Array Slot), MR D d A a (m_copy_R141 S x1 x2 x3 x4 x5).2 H → va_S A s.heap H locs → lv_has ls 7 [(6, .int ((m_copy_R141 S x1 x2 x3 x4 x5).1)), (0, .ref (a 0)), (1, .int x1), (2, .int x2), (3, .int x3), (4, .int x4), (5, .int x5)] → W p l e (rm_ 2) s m av below meth c H locs 0 0 Q (F0 m 176 ls []) := by
                        intro H locs ls hR hS hl
                        refine lv_iconst (v := 1) hx hb dX1_copy_176 (by decide) ?_
                        exact m_ri hx hb hrt (rfl) hlk hR hS hQ (Eq.trans (if_neg c1) (Eq.trans (if_neg c2) (Eq.trans (if_pos c3) (Eq.trans (if_neg c5) (Eq.trans (if_pos c7) (Eq.trans (if_neg c8) (Eq.trans (if_neg c9) (Eq.trans (if_neg c11) (if_pos c13))))))))) dX1_copy_177
                      have L141 : ∀ (f141 : Nat) (y6_141 : Int32) (S_141 : MS) (H : Heap) (locs : List Loc) (ls : Array Slot), (x5 - y6_141 : Int32).toNatClampNeg < f141 → 0 ≤ y6_141 → m_copy_L141 x3 x4 x5 (f141) y6_141 S_141 = (m_copy_R141 S x1 x2 x3 x4 x5) → MR D d A a S_141 H → va_S A s.heap H locs → lv_has ls 7 [(6, .int y6_141), (0, .ref (a 0)), (1, .int x1), (2, .int x2), (3, .int x3), (4, .int x4), (5, .int x5)] → W p l e (rm_ 2) s m av below meth c H locs 0 0 Q (F0 m 141 ls []) := by
                        intro f141
                        induction f141 with
                        | zero => intro y6_141 S_141 H locs ls hf; exact absurd hf (Nat.not_lt_zero _)
                        | succ f141 ih =>
                          intro y6_141 S_141 H locs ls hf hi6 hE hR hS hl
                          refine lv_iload hx hb dX1_copy_141 (lv_at hl 0 rfl) ?_
                          refine lv_iload hx hb dX1_copy_143 (lv_at hl 6 rfl) ?_
                          refine lv_icmp_ge (tgt := 176) hx hb dX1_copy_145 (by decide) (fun c17 => ?_) (fun c17 => ?_)
                          · have e0 : (m_copy_R141 S x1 x2 x3 x4 x5) = (y6_141, S_141) := Eq.trans (Eq.symm hE) (Eq.trans (m_copy_L141_s _ _ _ _ _ _) (if_pos c17))
                            exact K141 _ _ _ (by rw [e0]; exact hR) hS (by rw [e0]; exact lv_sub hl [0, 1, 2, 3, 4, 5, 6] rfl)
                          · refine lv_aload_n hx hb dX1_copy_148 rfl (lv_at hl 1 rfl) ?_
                            refine mg_a X hR 8 (by decide) (by decide) q1145 dX1_copy_149 ?_
                            refine lv_bipush (v := 48) hx hb dX1_copy_152 (by decide) ?_
                            refine lv_iload_n hx hb dX1_copy_154 rfl (lv_at hl 4 rfl) ?_
                            refine lv_imul hx hb dX1_copy_155 ?_
                            refine lv_iload hx hb dX1_copy_156 (lv_at hl 5 rfl) ?_
                            refine lv_iadd hx hb dX1_copy_158 ?_
                            refine lv_iload hx hb dX1_copy_159 (lv_at hl 0 rfl) ?_
                            refine lv_iadd hx hb dX1_copy_161 ?_
                            refine lv_aload_n hx hb dX1_copy_162 rfl (lv_at hl 1 rfl) ?_
                            refine mg_a X hR 9 (by decide) (by decide) q1146 dX1_copy_163 ?_
                            refine lv_iload hx hb dX1_copy_166 (lv_at hl 0 rfl) ?_
                            refine m_ld X hR ⟨by decide, rfl, by decide⟩ (ixl 48 48 (by decide) rfl (m_copy_o18 S x1 x2 x3 x4 x5 y6_141 hI hz1 hz3 c1 c2 c3 c5 c7 c8 c9 c11 c13 hc1 hc3 hi6 c17)) (v := S_141.1 9 (Int32.toNatClampNeg y6_141)) rfl dX1_copy_168 ?_
                            refine m_st X hR hS ⟨by decide, rfl, by decide⟩ (ixl 384 384 (by decide) rfl (m_copy_o19 S x1 x2 x3 x4 x5 y6_141 hI hz1 hz3 c1 c2 c3 c5 c7 c8 c9 c11 c13 hc1 hc3 hi6 c17)) dX1_copy_169 (fun H locs hR hS => ?_)
                            refine lv_iinc (v := (y6_141 + 1)) (lv' := [(6, .int (y6_141 + 1)), (0, .ref (a 0)), (1, .int x1), (2, .int x2), (3, .int x3), (4, .int x4), (5, .int x5)]) hx hb dX1_copy_170 hl (k := 0) rfl rfl (by decide) rfl (fun ls hl => ?_)
                            refine lv_goto (tgt := 141) hx hb dX1_copy_173 (by decide) ?_
                            exact ih (y6_141 + 1) (mu S_141 8 (Int32.toNatClampNeg (((48 * x3) + x4) + y6_141)) (S_141.1 9 (Int32.toNatClampNeg y6_141))) _ _  _ (Nat.lt_of_lt_of_le (up_ hi6 (m_copy_o21 S x1 x2 x3 x4 x5 y6_141 hI hz1 hz3 c1 c2 c3 c5 c7 c8 c9 c11 c13 hc1 hc3 hi6 c17)) (Nat.le_of_lt_succ hf)) (m_copy_o20 S x1 x2 x3 x4 x5 y6_141 hI hz1 hz3 c1 c2 c3 c5 c7 c8 c9 c11 c13 hc1 hc3 hi6 c17) (Eq.trans (Eq.symm (Eq.trans (m_copy_L141_s _ _ _ _ _ _) (if_neg c17))) hE) hR hS (lv_sub hl [0, 1, 2, 3, 4, 5, 6] rfl)
                      exact L141 _ 0 (m_copy_R104 S x1 x2 x5).2 _ _  _ (Nat.lt_succ_self _) (by decide) rfl hR hS (lv_sub hl [0, 1, 2, 3, 4, 5, 6] rfl)
                    have L104 : ∀ (f104 : Nat) (y6_104 : Int32) (S_104 : MS) (H : Heap) (locs : List Loc) (ls : Array Slot), (x5 - y6_104 : Int32).toNatClampNeg < f104 → 0 ≤ y6_104 → m_copy_L104 x1 x2 x5 (f104) y6_104 S_104 = (m_copy_R104 S x1 x2 x5) → MR D d A a S_104 H → va_S A s.heap H locs → lv_has ls 7 [(6, .int y6_104), (0, .ref (a 0)), (1, .int x1), (2, .int x2), (3, .int x3), (4, .int x4), (5, .int x5)] → W p l e (rm_ 2) s m av below meth c H locs 0 0 Q (F0 m 104 ls []) := by
                      intro f104
                      induction f104 with
                      | zero => intro y6_104 S_104 H locs ls hf; exact absurd hf (Nat.not_lt_zero _)
                      | succ f104 ih =>
                        intro y6_104 S_104 H locs ls hf hi6 hE hR hS hl
                        refine lv_iload hx hb dX1_copy_104 (lv_at hl 0 rfl) ?_
                        refine lv_iload hx hb dX1_copy_106 (lv_at hl 6 rfl) ?_
                        refine lv_icmp_ge (tgt := 138) hx hb dX1_copy_108 (by decide) (fun c14 => ?_) (fun c14 => ?_)
                        · have e0 : (m_copy_R104 S x1 x2 x5) = (y6_104, S_104) := Eq.trans (Eq.symm hE) (Eq.trans (m_copy_L104_s _ _ _ _ _ _) (if_pos c14))
                          exact K104 _ _ _ (by rw [e0]; exact hR) hS (by rw [e0]; exact lv_sub hl [0, 1, 2, 3, 4, 5, 6] rfl)
                        · refine lv_aload_n hx hb dX1_copy_111 rfl (lv_at hl 1 rfl) ?_
                          refine mg_a X hR 9 (by decide) (by decide) q1146 dX1_copy_112 ?_
                          refine lv_iload hx hb dX1_copy_115 (lv_at hl 0 rfl) ?_
                          refine lv_aload_n hx hb dX1_copy_117 rfl (lv_at hl 1 rfl) ?_
                          refine mg_a X hR 8 (by decide) (by decide) q1145 dX1_copy_118 ?_
                          refine lv_bipush (v := 48) hx hb dX1_copy_121 (by decide) ?_
                          refine lv_iload_n hx hb dX1_copy_123 rfl (lv_at hl 2 rfl) ?_
                          refine lv_imul hx hb dX1_copy_124 ?_
                          refine lv_iload_n hx hb dX1_copy_125 rfl (lv_at hl 3 rfl) ?_
                          refine lv_iadd hx hb dX1_copy_126 ?_
                          refine lv_iload hx hb dX1_copy_127 (lv_at hl 0 rfl) ?_
                          refine lv_iadd hx hb dX1_copy_129 ?_
                          refine m_ld X hR ⟨by decide, rfl, by decide⟩ (ixl 384 384 (by decide) rfl (m_copy_o15 S x1 x2 x3 x4 x5 y6_104 hI hz1 hz3 c1 c2 c3 c5 c7 c8 c9 c11 c13 hc1 hc3 hi6 c14)) (v := S_104.1 8 (Int32.toNatClampNeg (((48 * x1) + x2) + y6_104))) rfl dX1_copy_130 ?_
                          refine m_st X hR hS ⟨by decide, rfl, by decide⟩ (ixl 48 48 (by decide) rfl (m_copy_o16 S x1 x2 x3 x4 x5 y6_104 hI hz1 hz3 c1 c2 c3 c5 c7 c8 c9 c11 c13 hc1 hc3 hi6 c14)) dX1_copy_131 (fun H locs hR hS => ?_)
                          refine lv_iinc (v := (y6_104 + 1)) (lv' := [(6, .int (y6_104 + 1)), (0, .ref (a 0)), (1, .int x1), (2, .int x2), (3, .int x3), (4, .int x4), (5, .int x5)]) hx hb dX1_copy_132 hl (k := 0) rfl rfl (by decide) rfl (fun ls hl => ?_)
                          refine lv_goto (tgt := 104) hx hb dX1_copy_135 (by decide) ?_
                          exact ih (y6_104 + 1) (mu S_104 9 (Int32.toNatClampNeg y6_104) (S_104.1 8 (Int32.toNatClampNeg (((48 * x1) + x2) + y6_104)))) _ _  _ (Nat.lt_of_lt_of_le (up_ hi6 (m_copy_o23 S x1 x2 x3 x4 x5 y6_104 hI hz1 hz3 c1 c2 c3 c5 c7 c8 c9 c11 c13 hc1 hc3 hi6 c14)) (Nat.le_of_lt_succ hf)) (m_copy_o22 S x1 x2 x3 x4 x5 y6_104 hI hz1 hz3 c1 c2 c3 c5 c7 c8 c9 c11 c13 hc1 hc3 hi6 c14) (Eq.trans (Eq.symm (Eq.trans (m_copy_L104_s _ _ _ _ _ _) (if_neg c14))) hE) hR hS (lv_sub hl [0, 1, 2, 3, 4, 5, 6] rfl)
                    exact L104 _ 0 S _ _  _ (Nat.lt_succ_self _) (by decide) rfl hR hS (lv_sub hl [0, 1, 2, 3, 4, 5, 6] rfl)
                  · refine lv_aload_n hx hb dX1_copy_95 rfl (lv_at hl 0 rfl) ?_
                    refine lv_iconst (v := 2) hx hb dX1_copy_96 (by decide) ?_
                    refine m_ci X hR hS (mt_meets l D d A a S 2 (by decide)) 1 (lw_V q1317 q1319 qs22 q59 q1320) ⟨rfl, rfl⟩ (by decide +kernel) ⟨by decide, by decide⟩ ⟨by decide, by decide⟩ rfl hl.1 rfl (Nat.le_of_ble_eq_true rfl) dX1_copy_97 (fun H locs hR hS => ?_)
                    exact m_ri hx hb hrt (rfl) hlk hR hS hQ (Eq.trans (if_neg c1) (Eq.trans (if_neg c2) (Eq.trans (if_pos c3) (Eq.trans (if_neg c5) (Eq.trans (if_pos c7) (Eq.trans (if_neg c8) (Eq.trans (if_neg c9) (Eq.trans (if_neg c11) (if_neg c13))))))))) dX1_copy_100
          · refine lv_aload_n hx hb dX1_copy_45 rfl (lv_at hl 0 rfl) ?_
            refine lv_iconst (v := 1) hx hb dX1_copy_46 (by decide) ?_
            refine m_ci X hR hS (mt_meets l D d A a S 1 (by decide)) 1 (lw_V q1317 q1319 qs22 q59 q1320) ⟨rfl, rfl⟩ (by decide +kernel) ⟨by decide, by decide⟩ ⟨by decide, by decide⟩ rfl hl.1 rfl (Nat.le_of_ble_eq_true rfl) dX1_copy_47 (fun H locs hR hS => ?_)
            exact m_ri hx hb hrt (rfl) hlk hR hS hQ (Eq.trans (if_neg c1) (Eq.trans (if_neg c2) (Eq.trans (if_pos c3) (Eq.trans (if_neg c5) (if_neg c7))))) dX1_copy_50
      · refine lv_aload_n hx hb dX1_copy_21 rfl (lv_at hl 0 rfl) ?_
        refine lv_iconst (v := 5) hx hb dX1_copy_22 (by decide) ?_
        refine m_ci X hR hS (mt_meets l D d A a S 5 (by decide)) 1 (lw_V q1317 q1319 qs22 q59 q1320) ⟨rfl, rfl⟩ (by decide +kernel) ⟨by decide, by decide⟩ ⟨by decide, by decide⟩ rfl hl.1 rfl (Nat.le_of_ble_eq_true rfl) dX1_copy_23 (fun H locs hR hS => ?_)
        exact m_ri hx hb hrt (rfl) hlk hR hS hQ (Eq.trans (if_neg c1) (Eq.trans (if_neg c2) (if_neg c3))) dX1_copy_26
    · refine lv_iconst (v := (-1)) hx hb dX1_copy_14 (by decide) ?_
      exact m_ri hx hb hrt (rfl) hlk hR hS hQ (Eq.trans (if_neg c1) (if_pos c2)) dX1_copy_15
def m_makes (S : MS) (x1 : Int32) : Int32 × MS := ((((S.1 10 0) + 1) - 1), (mu (mu (mu (mu (mu (mu S 11 (Int32.toNatClampNeg (S.1 10 0)) x1) 18 (Int32.toNatClampNeg (S.1 10 0)) 30) 19 (Int32.toNatClampNeg (S.1 10 0)) 1000) 20 (Int32.toNatClampNeg (S.1 10 0)) 1000) 22 (Int32.toNatClampNeg (S.1 10 0)) (-9)) 10 0 ((S.1 10 0) + 1)))
set_option maxHeartbeats 4000000 in
theorem mt_makes (l : Launch) (D : va_G) (d : Nat → ClassId) (A : Nat → Prop) (a : Nat → Nat) (S : MS) (x1 : Int32) (hT : 0 ≤ S.1 10 0 ∧ S.1 10 0 < 16) : MI l yX1_makes cX1_makes 2 .int (rm_ 0) D d A a S [.int x1] (m_makes S x1) := by
  refine m_startI rfl (Nat.le_of_ble_eq_true rfl) ?_
  intro p e s m av below meth c ls Q X hrt hlk hl hR hQ
  have hx := X.1.1
  have hb := X.1.2.1
  have hown := X.1.2.2.2.1
  have hts := X.1.2.2.2.2
  have hS : va_S A s.heap s.heap [] := va_S.rf
  have hl : lv_has ls 2 [(0, .ref (a 0)), (1, .int x1)] := hl
  refine lv_aload_n hx hb dX1_makes_0 rfl (lv_at hl 0 rfl) ?_
  refine mg_a X hR 11 (by decide) (by decide) q1148 dX1_makes_1 ?_
  refine lv_aload_n hx hb dX1_makes_4 rfl (lv_at hl 0 rfl) ?_
  refine mg_i X hR 10 (by decide) rfl q1147 rfl dX1_makes_5 ?_
  refine lv_iload_n hx hb dX1_makes_8 rfl (lv_at hl 1 rfl) ?_
  refine m_st X hR hS ⟨by decide, rfl, by decide⟩ (ixl 16 16 (by decide) rfl (hT)) dX1_makes_9 (fun H locs hR hS => ?_)
  refine lv_aload_n hx hb dX1_makes_10 rfl (lv_at hl 0 rfl) ?_
  refine mg_a X hR 18 (by decide) (by decide) q1155 dX1_makes_11 ?_
  refine lv_aload_n hx hb dX1_makes_14 rfl (lv_at hl 0 rfl) ?_
  refine mg_i X hR 10 (by decide) rfl q1147 ((mu_k _ (by decide) _ _ _).trans rfl) dX1_makes_15 ?_
  refine lv_bipush (v := 30) hx hb dX1_makes_18 (by decide) ?_
  refine m_st X hR hS ⟨by decide, rfl, by decide⟩ (ixl 16 16 (by decide) rfl (hT)) dX1_makes_20 (fun H locs hR hS => ?_)
  refine lv_aload_n hx hb dX1_makes_21 rfl (lv_at hl 0 rfl) ?_
  refine mg_a X hR 19 (by decide) (by decide) q1156 dX1_makes_22 ?_
  refine lv_aload_n hx hb dX1_makes_25 rfl (lv_at hl 0 rfl) ?_
  refine mg_i X hR 10 (by decide) rfl q1147 ((mu_k _ (by decide) _ _ _).trans ((mu_k _ (by decide) _ _ _).trans rfl)) dX1_makes_26 ?_
  refine lv_sipush (v := 1000) hx hb dX1_makes_29 (by decide) ?_
  refine m_st X hR hS ⟨by decide, rfl, by decide⟩ (ixl 16 16 (by decide) rfl (hT)) dX1_makes_32 (fun H locs hR hS => ?_)
  refine lv_aload_n hx hb dX1_makes_33 rfl (lv_at hl 0 rfl) ?_
  refine mg_a X hR 20 (by decide) (by decide) q1157 dX1_makes_34 ?_
  refine lv_aload_n hx hb dX1_makes_37 rfl (lv_at hl 0 rfl) ?_
  refine mg_i X hR 10 (by decide) rfl q1147 ((mu_k _ (by decide) _ _ _).trans ((mu_k _ (by decide) _ _ _).trans ((mu_k _ (by decide) _ _ _).trans rfl))) dX1_makes_38 ?_
  refine lv_sipush (v := 1000) hx hb dX1_makes_41 (by decide) ?_
  refine m_st X hR hS ⟨by decide, rfl, by decide⟩ (ixl 16 16 (by decide) rfl (hT)) dX1_makes_44 (fun H locs hR hS => ?_)
  refine lv_aload_n hx hb dX1_makes_45 rfl (lv_at hl 0 rfl) ?_
  refine mg_a X hR 22 (by decide) (by decide) q1159 dX1_makes_46 ?_
  refine lv_aload_n hx hb dX1_makes_49 rfl (lv_at hl 0 rfl) ?_
  refine mg_i X hR 10 (by decide) rfl q1147 ((mu_k _ (by decide) _ _ _).trans ((mu_k _ (by decide) _ _ _).trans ((mu_k _ (by decide) _ _ _).trans ((mu_k _ (by decide) _ _ _).trans rfl)))) dX1_makes_50 ?_
  refine lv_bipush (v := (-9)) hx hb dX1_makes_53 (by decide) ?_
  refine m_st X hR hS ⟨by decide, rfl, by decide⟩ (ixl 16 16 (by decide) rfl (hT)) dX1_makes_55 (fun H locs hR hS => ?_)
  refine lv_aload_n hx hb dX1_makes_56 rfl (lv_at hl 0 rfl) ?_
  refine lv_dup hx hb dX1_makes_57 rfl ?_
  refine mg_i X hR 10 (by decide) rfl q1147 ((mu_k _ (by decide) _ _ _).trans ((mu_k _ (by decide) _ _ _).trans ((mu_k _ (by decide) _ _ _).trans ((mu_k _ (by decide) _ _ _).trans ((mu_k _ (by decide) _ _ _).trans rfl))))) dX1_makes_58 ?_
  refine lv_iconst (v := 1) hx hb dX1_makes_61 (by decide) ?_
  refine lv_iadd hx hb dX1_makes_62 ?_
  refine mp_i X hR hS 10 (by decide) rfl rfl rfl q1147 dX1_makes_63 (fun H locs hR hS => ?_)
  refine lv_aload_n hx hb dX1_makes_66 rfl (lv_at hl 0 rfl) ?_
  refine mg_i X hR 10 (by decide) rfl q1147 (mu_self _ _ _ _) dX1_makes_67 ?_
  refine lv_iconst (v := 1) hx hb dX1_makes_70 (by decide) ?_
  refine lv_isub hx hb dX1_makes_71 ?_
  exact m_ri hx hb hrt (rfl) hlk hR hS hQ rfl dX1_makes_72
theorem m_train_o2 (S : MS) (hI : MInv S) (ht : 0 ≤ S.1 10 0 ∧ S.1 10 0 ≤ 16) (c1 : ¬ (S.1 10 0) = 16) : 0 ≤ S.1 10 0 ∧ S.1 10 0 < 16 := by 
  clear hI
  try simp only [i_le, i_lt, i_eq, Int32.reduceToInt] at *
  try simp only [Int32.reduceToInt] at *
  omega
def m_train (S : MS) : Int32 × MS := (if (S.1 10 0) = 16 then ((-2), S) else ((m_makes S 0).1, (m_makes S 0).2))
set_option maxHeartbeats 4000000 in
theorem mt_train (l : Launch) (D : va_G) (d : Nat → ClassId) (A : Nat → Prop) (a : Nat → Nat) (S : MS) (hI : MInv S) : MI l yX1_train cX1_train 1 .int (rm_ 1) D d A a S [] (m_train S) := by
  refine m_startI rfl (Nat.le_of_ble_eq_true rfl) ?_
  intro p e s m av below meth c ls Q X hrt hlk hl hR hQ
  have hx := X.1.1
  have hb := X.1.2.1
  have hown := X.1.2.2.2.1
  have hts := X.1.2.2.2.2
  have hS : va_S A s.heap s.heap [] := va_S.rf
  have hl : lv_has ls 1 [(0, .ref (a 0))] := hl
  have ht : 0 ≤ S.1 10 0 ∧ S.1 10 0 ≤ 16 := mi_tr hI
  refine lv_aload_n hx hb dX1_train_0 rfl (lv_at hl 0 rfl) ?_
  refine mg_i X hR 10 (by decide) rfl q1147 rfl dX1_train_1 ?_
  refine lv_bipush (v := 16) hx hb dX1_train_4 (by decide) ?_
  refine lv_icmp_ne (tgt := 14) hx hb dX1_train_6 (by decide) (fun c1 => ?_) (fun c1 => ?_)
  · refine lv_aload_n hx hb dX1_train_14 rfl (lv_at hl 0 rfl) ?_
    refine lv_iconst (v := 0) hx hb dX1_train_15 (by decide) ?_
    refine m_ci X hR hS (mt_makes l D d A a S 0 (m_train_o2 S hI ht c1)) 1 (lw_V q1341 q1343 qs24 q59 q1344) ⟨rfl, rfl⟩ (by decide +kernel) ⟨by decide, by decide⟩ ⟨by decide, by decide⟩ rfl hl.1 rfl (Nat.le_of_ble_eq_true rfl) dX1_train_16 (fun H locs hR hS => ?_)
    exact m_ri hx hb hrt (rfl) hlk hR hS hQ (if_neg c1) dX1_train_19
  · refine lv_bipush (v := (-2)) hx hb dX1_train_9 (by decide) ?_
    refine lv_goto (tgt := 19) hx hb dX1_train_11 (by decide) ?_
    exact m_ri hx hb hrt (rfl) hlk hR hS hQ (if_pos c1) dX1_train_19
