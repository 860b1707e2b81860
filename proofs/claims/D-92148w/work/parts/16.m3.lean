/-! PRINTED by gen/run_m3.py -/
set_option maxRecDepth 100000
def m_areNotches_v12 (S : MS) (x1 : Int32) : Int32 := (m_in (S.1 7 (Int32.toNatClampNeg x1)) 1 24)
theorem m_areNotches_o3 (S : MS) (x1 : Int32) (y2_15 : Int32) (y3_15 : Int32) (hr : 0 ≤ x1 ∧ x1 < 8) (hz : S.1 7 (Int32.toNatClampNeg x1) ≤ 48) (hi3 : 0 ≤ y3_15) (hg : y2_15 = 0 ∨ y2_15 = 1) (c1 : ¬ (S.1 7 (Int32.toNatClampNeg x1)) ≤ y3_15) (c2 : ¬ y2_15 = 0) : 0 ≤ ((48 * x1) + y3_15) ∧ ((48 * x1) + y3_15) < 384 := by 
  try simp only [i_le, i_lt, i_eq, Int32.reduceToInt] at *
  first | (have e_0 := m32 (x := 48) (y := x1) (by (try simp only [Int32.reduceToInt]); omega); (try simp only [Int32.reduceToInt] at e_0)) | skip
  first | (have e_1 := a32 (x := (48 * x1)) (y := y3_15) (by (try simp only [Int32.reduceToInt]); omega); (try simp only [Int32.reduceToInt] at e_1)) | skip
  try simp only [Int32.reduceToInt] at *
  omega
def m_areNotches_j54_s0 (S : MS) (x1 : Int32) (y2_15 : Int32) (y3_15 : Int32) : Int32 := (if y2_15 = 0 then 0 else (if (m_in (S.1 8 (Int32.toNatClampNeg ((48 * x1) + y3_15))) 1 24) = 0 then 0 else 1))
def m_areNotches_L15 (S : MS) (x1 : Int32) : Nat → Int32 → Int32 → Int32 × Int32
  | 0, y2_15, y3_15 => (y2_15, y3_15)
  | f15 + 1, y2_15, y3_15 => (if (S.1 7 (Int32.toNatClampNeg x1)) ≤ y3_15 then (y2_15, y3_15) else (m_areNotches_L15 S x1 f15 (m_areNotches_j54_s0 S x1 y2_15 y3_15) (y3_15 + 1)))
theorem m_areNotches_L15_s (S : MS) (x1 : Int32) (f15 : Nat) (y2_15 : Int32) (y3_15 : Int32) : m_areNotches_L15 S x1 (f15 + 1) y2_15 y3_15 = (if (S.1 7 (Int32.toNatClampNeg x1)) ≤ y3_15 then (y2_15, y3_15) else (m_areNotches_L15 S x1 f15 (m_areNotches_j54_s0 S x1 y2_15 y3_15) (y3_15 + 1))) := rfl
def m_areNotches_R15 (S : MS) (x1 : Int32) : Int32 × Int32 := m_areNotches_L15 S x1 ((S.1 7 (Int32.toNatClampNeg x1) - 0 : Int32).toNatClampNeg + 1) (m_areNotches_v12 S x1) 0
theorem m_areNotches_o7 (S : MS) (x1 : Int32) (hr : 0 ≤ x1 ∧ x1 < 8) (hz : S.1 7 (Int32.toNatClampNeg x1) ≤ 48) (hp : ((m_areNotches_R15 S x1).1) = 0 ∨ ((m_areNotches_R15 S x1).1) = 1) : (m_areNotches_R15 S x1).1 = 0 ∨ (m_areNotches_R15 S x1).1 = 1 := by 
  try simp only [i_le, i_lt, i_eq, Int32.reduceToInt] at *
  try simp only [Int32.reduceToInt] at *
  omega
theorem m_areNotches_o8 (S : MS) (x1 : Int32) (y2_15 : Int32) (y3_15 : Int32) (hr : 0 ≤ x1 ∧ x1 < 8) (hz : S.1 7 (Int32.toNatClampNeg x1) ≤ 48) (hi3 : 0 ≤ y3_15) (hg : y2_15 = 0 ∨ y2_15 = 1) (c1 : ¬ (S.1 7 (Int32.toNatClampNeg x1)) ≤ y3_15) : 0 ≤ (y3_15 + 1) := by 
  try simp only [i_le, i_lt, i_eq, Int32.reduceToInt] at *
  first | (have e_0 := a32 (x := y3_15) (y := 1) (by (try simp only [Int32.reduceToInt]); omega); (try simp only [Int32.reduceToInt] at e_0)) | skip
  try simp only [Int32.reduceToInt] at *
  omega
theorem m_areNotches_o9 (S : MS) (x1 : Int32) (y2_15 : Int32) (y3_15 : Int32) (hr : 0 ≤ x1 ∧ x1 < 8) (hz : S.1 7 (Int32.toNatClampNeg x1) ≤ 48) (hi3 : 0 ≤ y3_15) (hg : y2_15 = 0 ∨ y2_15 = 1) (c1 : ¬ (S.1 7 (Int32.toNatClampNeg x1)) ≤ y3_15) : y3_15 < S.1 7 (Int32.toNatClampNeg x1) := by 
  try simp only [i_le, i_lt, i_eq, Int32.reduceToInt] at *
  try simp only [Int32.reduceToInt] at *
  omega
def m_areNotches (S : MS) (x1 : Int32) : Int32 := (m_areNotches_R15 S x1).1
set_option maxHeartbeats 4000000 in
theorem mt_areNotches (l : Launch) (D : va_G) (d : Nat → ClassId) (A : Nat → Prop) (a : Nat → Nat) (S : MS) (x1 : Int32) (hr : 0 ≤ x1 ∧ x1 < 8) (hz : S.1 7 (Int32.toNatClampNeg x1) ≤ 48) : MI l yX1_areNotches cX1_areNotches 4 .boolean (rm_ 1) D d A a S [.int x1] ((m_areNotches S x1), S) := by
  refine m_startI rfl (Nat.le_of_ble_eq_true rfl) ?_
  intro p e s m av below meth c ls Q X hrt hlk hl hR hQ
  have hx := X.1.1
  have hb := X.1.2.1
  have hown := X.1.2.2.2.1
  have hts := X.1.2.2.2.2
  have hS : va_S A s.heap s.heap [] := va_S.rf
  have hl : lv_has ls 4 [(0, .ref (a 0)), (1, .int x1)] := hl
  refine lv_aload_n hx hb dX1_areNotches_0 rfl (lv_at hl 0 rfl) ?_
  refine mg_a X hR 7 (by decide) (by decide) q1144 dX1_areNotches_1 ?_
  refine lv_iload_n hx hb dX1_areNotches_4 rfl (lv_at hl 1 rfl) ?_
  refine m_ld X hR ⟨by decide, rfl, by decide⟩ (ixl 8 8 (by decide) rfl (hr)) (v := S.1 7 (Int32.toNatClampNeg x1)) rfl dX1_areNotches_5 ?_
  refine lv_iconst (v := 1) hx hb dX1_areNotches_6 (by decide) ?_
  refine lv_bipush (v := 24) hx hb dX1_areNotches_7 (by decide) ?_
  refine s_ci X.1 (st_m_in l (S.1 7 (Int32.toNatClampNeg x1)) 1 24) 3 (lw_S q1314 q1315 q59 q1316) ⟨rfl, rfl⟩ (by decide +kernel) ⟨by decide, by decide⟩ ⟨by decide, by decide⟩ rfl hl.1 rfl (Nat.le_of_ble_eq_true rfl) dX1_areNotches_9 ?_
  refine lv_istore_n (lv' := [(2, .int (m_areNotches_v12 S x1)), (0, .ref (a 0)), (1, .int x1)]) hx hb dX1_areNotches_12 rfl hl (by decide) rfl (fun ls hl => ?_)
  refine lv_iconst (v := 0) hx hb dX1_areNotches_13 (by decide) ?_
  refine lv_istore_n (lv' := [(3, .int 0), (2, .int (m_areNotches_v12 S x1)), (0, .ref (a 0)), (1, .int x1)]) hx hb dX1_areNotches_14 rfl hl (by decide) rfl (fun ls hl => ?_)
  have K15 : ∀ (H : Heap) (locs : List Loc) (ls : Array Slot), (((m_areNotches_R15 S x1).1) = 0 ∨ ((m_areNotches_R15 S x1).1) = 1) → MR D d A a S H → va_S A s.heap H locs → lv_has ls 4 [(3, .int ((m_areNotches_R15 S x1).2)), (2, .int ((m_areNotches_R15 S x1).1)), (0, .ref (a 0)), (1, .int x1)] → W p l e (rm_ 1) s m av below meth c H locs 0 0 Q (F0 m 61 ls []) := by
    intro H locs ls hp hR hS hl
    refine lv_iload_n hx hb dX1_areNotches_61 rfl (lv_at hl 1 rfl) ?_
    exact m_ri hx hb hrt (nz_ (m_areNotches_o7 S x1 hr hz hp)) hlk hR hS hQ (hF1 rfl) dX1_areNotches_62
  have L15 : ∀ (f15 : Nat) (y2_15 : Int32) (y3_15 : Int32) (H : Heap) (locs : List Loc) (ls : Array Slot), (S.1 7 (Int32.toNatClampNeg x1) - y3_15 : Int32).toNatClampNeg < f15 → 0 ≤ y3_15 → y2_15 = 0 ∨ y2_15 = 1 → m_areNotches_L15 S x1 (f15) y2_15 y3_15 = (m_areNotches_R15 S x1) → MR D d A a S H → va_S A s.heap H locs → lv_has ls 4 [(3, .int y3_15), (2, .int y2_15), (0, .ref (a 0)), (1, .int x1)] → W p l e (rm_ 1) s m av below meth c H locs 0 0 Q (F0 m 15 ls []) := by
    intro f15
    induction f15 with
    | zero => intro y2_15 y3_15 H locs ls hf; exact absurd hf (Nat.not_lt_zero _)
    | succ f15 ih =>
      intro y2_15 y3_15 H locs ls hf hi3 hg hE hR hS hl
      refine lv_iload_n hx hb dX1_areNotches_15 rfl (lv_at hl 0 rfl) ?_
      refine lv_aload_n hx hb dX1_areNotches_16 rfl (lv_at hl 2 rfl) ?_
      refine mg_a X hR 7 (by decide) (by decide) q1144 dX1_areNotches_17 ?_
      refine lv_iload_n hx hb dX1_areNotches_20 rfl (lv_at hl 3 rfl) ?_
      refine m_ld X hR ⟨by decide, rfl, by decide⟩ (ixl 8 8 (by decide) rfl (hr)) (v := S.1 7 (Int32.toNatClampNeg x1)) rfl dX1_areNotches_21 ?_
      refine lv_icmp_ge (tgt := 61) hx hb dX1_areNotches_22 (by decide) (fun c1 => ?_) (fun c1 => ?_)
      · have e0 : (m_areNotches_R15 S x1) = (y2_15, y3_15) := Eq.trans (Eq.symm hE) (Eq.trans (m_areNotches_L15_s _ _ _ _ _) (if_pos c1))
        exact K15 _ _ _ (by rw [e0]; exact hg) hR hS (by rw [e0]; exact lv_sub hl [0, 1, 2, 3] rfl)
      · refine lv_iload_n hx hb dX1_areNotches_25 rfl (lv_at hl 1 rfl) ?_
        have J6 : ∀ (w5 : Int32) (H : Heap) (locs : List Loc) (ls : Array Slot), w5 = (m_areNotches_j54_s0 S x1 y2_15 y3_15) → MR D d A a S H → va_S A s.heap H locs → lv_has ls 4 [(3, .int y3_15), (2, .int y2_15), (0, .ref (a 0)), (1, .int x1)] → W p l e (rm_ 1) s m av below meth c H locs 0 0 Q (F0 m 54 ls [.int w5]) := by
          intro w5 H locs ls ew5 hR hS hl
          subst ew5
          refine lv_istore_n (lv' := [(2, .int (m_areNotches_j54_s0 S x1 y2_15 y3_15)), (3, .int y3_15), (0, .ref (a 0)), (1, .int x1)]) hx hb dX1_areNotches_54 rfl hl (by decide) rfl (fun ls hl => ?_)
          refine lv_iinc (v := (y3_15 + 1)) (lv' := [(3, .int (y3_15 + 1)), (2, .int (m_areNotches_j54_s0 S x1 y2_15 y3_15)), (0, .ref (a 0)), (1, .int x1)]) hx hb dX1_areNotches_55 hl (k := 1) rfl rfl (by decide) rfl (fun ls hl => ?_)
          refine lv_goto (tgt := 15) hx hb dX1_areNotches_58 (by decide) ?_
          exact ih (m_areNotches_j54_s0 S x1 y2_15 y3_15) (y3_15 + 1) _ _  _ (Nat.lt_of_lt_of_le (up_ hi3 (m_areNotches_o9 S x1 y2_15 y3_15 hr hz hi3 hg c1)) (Nat.le_of_lt_succ hf)) (m_areNotches_o8 S x1 y2_15 y3_15 hr hz hi3 hg c1) (by unfold m_areNotches_j54_s0; (repeat' split) <;> simp) (Eq.trans (Eq.symm (Eq.trans (m_areNotches_L15_s _ _ _ _ _) (if_neg c1))) hE) hR hS (lv_sub hl [0, 1, 2, 3] rfl)
        refine lv_if_eq (tgt := 53) hx hb dX1_areNotches_26 (by decide) (fun c2 => ?_) (fun c2 => ?_)
        · refine lv_iconst (v := 0) hx hb dX1_areNotches_53 (by decide) ?_
          exact J6 _ _ _  _ (Eq.symm (if_pos c2)) hR hS  (lv_sub hl [0, 1, 2, 3] rfl)
        · refine lv_aload_n hx hb dX1_areNotches_29 rfl (lv_at hl 2 rfl) ?_
          refine mg_a X hR 8 (by decide) (by decide) q1145 dX1_areNotches_30 ?_
          refine lv_bipush (v := 48) hx hb dX1_areNotches_33 (by decide) ?_
          refine lv_iload_n hx hb dX1_areNotches_35 rfl (lv_at hl 3 rfl) ?_
          refine lv_imul hx hb dX1_areNotches_36 ?_
          refine lv_iload_n hx hb dX1_areNotches_37 rfl (lv_at hl 0 rfl) ?_
          refine lv_iadd hx hb dX1_areNotches_38 ?_
          refine m_ld X hR ⟨by decide, rfl, by decide⟩ (ixl 384 384 (by decide) rfl (m_areNotches_o3 S x1 y2_15 y3_15 hr hz hi3 hg c1 c2)) (v := S.1 8 (Int32.toNatClampNeg ((48 * x1) + y3_15))) rfl dX1_areNotches_39 ?_
          refine lv_iconst (v := 1) hx hb dX1_areNotches_40 (by decide) ?_
          refine lv_bipush (v := 24) hx hb dX1_areNotches_41 (by decide) ?_
          refine s_ci X.1 (st_m_in l (S.1 8 (Int32.toNatClampNeg ((48 * x1) + y3_15))) 1 24) 3 (lw_S q1314 q1315 q59 q1316) ⟨rfl, rfl⟩ (by decide +kernel) ⟨by decide, by decide⟩ ⟨by decide, by decide⟩ rfl hl.1 rfl (Nat.le_of_ble_eq_true rfl) dX1_areNotches_43 ?_
          refine lv_if_eq (tgt := 53) hx hb dX1_areNotches_46 (by decide) (fun c4 => ?_) (fun c4 => ?_)
          · refine lv_iconst (v := 0) hx hb dX1_areNotches_53 (by decide) ?_
            exact J6 _ _ _  _ (Eq.symm (Eq.trans (if_neg c2) (if_pos c4))) hR hS  (lv_sub hl [0, 1, 2, 3] rfl)
          · refine lv_iconst (v := 1) hx hb dX1_areNotches_49 (by decide) ?_
            refine lv_goto (tgt := 54) hx hb dX1_areNotches_50 (by decide) ?_
            exact J6 _ _ _  _ (Eq.symm (Eq.trans (if_neg c2) (if_neg c4))) hR hS  (lv_sub hl [0, 1, 2, 3] rfl)
  exact L15 _ (m_areNotches_v12 S x1) 0 _ _  _ (Nat.lt_succ_self _) (by decide) (m_in_b _ _ _) rfl hR hS (lv_sub hl [0, 1, 2, 3] rfl)
