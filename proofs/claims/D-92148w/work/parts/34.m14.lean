/-! PRINTED by gen/run_m6.py -/
set_option maxRecDepth 100000
def m_forward_L28 (x1 : Int32) (x2 : Int32) : Nat → Int32 → MS → Int32 × MS
  | 0, y4_28, S_28 => (y4_28, S_28)
  | f28 + 1, y4_28, S_28 => (if x2 ≤ y4_28 then (y4_28, S_28) else (m_forward_L28 x1 x2 f28 (y4_28 + 1) (m_stepOn S_28 x1)))
theorem m_forward_L28_s (x1 : Int32) (x2 : Int32) (f28 : Nat) (y4_28 : Int32) (S_28 : MS) : m_forward_L28 x1 x2 (f28 + 1) y4_28 S_28 = (if x2 ≤ y4_28 then (y4_28, S_28) else (m_forward_L28 x1 x2 f28 (y4_28 + 1) (m_stepOn S_28 x1))) := rfl
def m_forward_R28 (S : MS) (x1 : Int32) (x2 : Int32) : Int32 × MS := m_forward_L28 x1 x2 ((x2 - 0 : Int32).toNatClampNeg + 1) 0 S
theorem m_forward_o4 (S : MS) (x1 : Int32) (x2 : Int32) (y4_28 : Int32) (S_28 : MS) (hI : MInv S) (c1 : ¬ (m_in x2 0 1500) = 0) (c2 : 0 ≤ (m_askedFor S x1).1) (okc2_0 : 0 ≤ x1 ∧ x1 < 4) (hi4 : 0 ≤ y4_28) (hJ : MInv S_28) (c3 : ¬ x2 ≤ y4_28) : 0 ≤ (y4_28 + 1) := by 
  clear hI hJ
  try simp only [m_in_eq] at *
  try simp only [i_le, i_lt, i_eq, Int32.reduceToInt] at *
  first | (have e_0 := a32 (x := y4_28) (y := 1) (by (try simp only [Int32.reduceToInt]); omega); (try simp only [Int32.reduceToInt] at e_0)) | skip
  try simp only [Int32.reduceToInt] at *
  omega
theorem m_forward_o5 (S : MS) (x1 : Int32) (x2 : Int32) (y4_28 : Int32) (S_28 : MS) (hI : MInv S) (c1 : ¬ (m_in x2 0 1500) = 0) (c2 : 0 ≤ (m_askedFor S x1).1) (okc2_0 : 0 ≤ x1 ∧ x1 < 4) (hi4 : 0 ≤ y4_28) (hJ : MInv S_28) (c3 : ¬ x2 ≤ y4_28) : y4_28 < x2 := by 
  clear hI hJ
  try simp only [m_in_eq] at *
  try simp only [i_le, i_lt, i_eq, Int32.reduceToInt] at *
  try simp only [Int32.reduceToInt] at *
  omega
def m_forward (S : MS) (x1 : Int32) (x2 : Int32) : Int32 × MS := (if (m_in x2 0 1500) = 0 then ((-1), S) else (if 0 ≤ (m_askedFor S x1).1 then (((m_forward_R28 S x1 x2).2.1 27 (Int32.toNatClampNeg x1)), (m_forward_R28 S x1 x2).2) else ((m_askedFor S x1).1, (m_askedFor S x1).2)))
set_option maxHeartbeats 4000000 in
theorem mt_forward (l : Launch) (D : va_G) (d : Nat → ClassId) (A : Nat → Prop) (a : Nat → Nat) (S : MS) (x1 : Int32) (x2 : Int32) (hI : MInv S) : MI l yX1_forward cX1_forward 5 .int (rm_ 5) D d A a S [.int x1, .int x2] (m_forward S x1 x2) := by
  refine m_startI rfl (Nat.le_of_ble_eq_true rfl) ?_
  intro p e s m av below meth c ls Q X hrt hlk hl hR hQ
  have hx := X.1.1
  have hb := X.1.2.1
  have hown := X.1.2.2.2.1
  have hts := X.1.2.2.2.2
  have hS : va_S A s.heap s.heap [] := va_S.rf
  have hl : lv_has ls 5 [(0, .ref (a 0)), (1, .int x1), (2, .int x2)] := hl
  refine lv_iload_n hx hb dX1_forward_0 rfl (lv_at hl 2 rfl) ?_
  refine lv_iconst (v := 0) hx hb dX1_forward_1 (by decide) ?_
  refine lv_sipush (v := 1500) hx hb dX1_forward_2 (by decide) ?_
  refine s_ci X.1 (st_m_in l x2 0 1500) 3 (lw_S q1314 q1315 q59 q1316) ⟨rfl, rfl⟩ (by decide +kernel) ⟨by decide, by decide⟩ ⟨by decide, by decide⟩ rfl hl.1 rfl (Nat.le_of_ble_eq_true rfl) dX1_forward_5 ?_
  refine lv_if_ne (tgt := 13) hx hb dX1_forward_8 (by decide) (fun c1 => ?_) (fun c1 => ?_)
  · refine lv_aload_n hx hb dX1_forward_13 rfl (lv_at hl 0 rfl) ?_
    refine lv_iload_n hx hb dX1_forward_14 rfl (lv_at hl 1 rfl) ?_
    refine m_ci X hR hS (mt_askedFor l D d A a S x1) 1 (lw_V q1452 q1454 qs35 q59 q1455) ⟨rfl, rfl⟩ (by decide +kernel) ⟨by decide, by decide⟩ ⟨by decide, by decide⟩ rfl hl.1 rfl (Nat.le_of_ble_eq_true rfl) dX1_forward_15 (fun H locs hR hS => ?_)
    refine lv_istore_n (lv' := [(3, .int ((m_askedFor S x1).1)), (0, .ref (a 0)), (1, .int x1), (2, .int x2)]) hx hb dX1_forward_18 rfl hl (by decide) rfl (fun ls hl => ?_)
    refine lv_iload_n hx hb dX1_forward_19 rfl (lv_at hl 0 rfl) ?_
    refine lv_if_ge (tgt := 25) hx hb dX1_forward_20 (by decide) (fun c2 => ?_) (fun c2 => ?_)
    · have okc2 := m_askedFor_ok S x1 c2
      have hR : MR D d A a S H := okc2.1 ▸ hR
      have okc2_0 : 0 ≤ x1 ∧ x1 < 4 := okc2.2.1
      refine lv_iconst (v := 0) hx hb dX1_forward_25 (by decide) ?_
      refine lv_istore (lv' := [(4, .int 0), (3, .int ((m_askedFor S x1).1)), (0, .ref (a 0)), (1, .int x1), (2, .int x2)]) hx hb dX1_forward_26 hl (by decide) rfl (fun ls hl => ?_)
      have K28 : ∀ (H : Heap) (locs : List Loc) (ls : Array Slot), MR D d A a (m_forward_R28 S x1 x2).2 H → va_S A s.heap H locs → lv_has ls 5 [(4, .int ((m_forward_R28 S x1 x2).1)), (3, .int ((m_askedFor S x1).1)), (0, .ref (a 0)), (1, .int x1), (2, .int x2)] → W p l e (rm_ 5) s m av below meth c H locs 0 0 Q (F0 m 45 ls []) := by
        intro H locs ls hR hS hl
        refine lv_aload_n hx hb dX1_forward_45 rfl (lv_at hl 2 rfl) ?_
        refine mg_a X hR 27 (by decide) (by decide) q1164 dX1_forward_46 ?_
        refine lv_iload_n hx hb dX1_forward_49 rfl (lv_at hl 3 rfl) ?_
        refine m_ld X hR ⟨by decide, rfl, by decide⟩ (ixl 4 4 (by decide) rfl (okc2_0)) (v := (m_forward_R28 S x1 x2).2.1 27 (Int32.toNatClampNeg x1)) rfl dX1_forward_50 ?_
        exact m_ri hx hb hrt (rfl) hlk hR hS hQ (Eq.trans (if_neg c1) (if_pos c2)) dX1_forward_51
      have L28 : ∀ (f28 : Nat) (y4_28 : Int32) (S_28 : MS) (H : Heap) (locs : List Loc) (ls : Array Slot), (x2 - y4_28 : Int32).toNatClampNeg < f28 → 0 ≤ y4_28 → MInv S_28 → m_forward_L28 x1 x2 (f28) y4_28 S_28 = (m_forward_R28 S x1 x2) → MR D d A a S_28 H → va_S A s.heap H locs → lv_has ls 5 [(4, .int y4_28), (3, .int ((m_askedFor S x1).1)), (0, .ref (a 0)), (1, .int x1), (2, .int x2)] → W p l e (rm_ 5) s m av below meth c H locs 0 0 Q (F0 m 28 ls []) := by
        intro f28
        induction f28 with
        | zero => intro y4_28 S_28 H locs ls hf; exact absurd hf (Nat.not_lt_zero _)
        | succ f28 ih =>
          intro y4_28 S_28 H locs ls hf hi4 hJ hE hR hS hl
          refine lv_iload hx hb dX1_forward_28 (lv_at hl 0 rfl) ?_
          refine lv_iload_n hx hb dX1_forward_30 rfl (lv_at hl 4 rfl) ?_
          refine lv_icmp_ge (tgt := 45) hx hb dX1_forward_31 (by decide) (fun c3 => ?_) (fun c3 => ?_)
          · have e0 : (m_forward_R28 S x1 x2) = (y4_28, S_28) := Eq.trans (Eq.symm hE) (Eq.trans (m_forward_L28_s _ _ _ _ _) (if_pos c3))
            exact K28 _ _ _ (by rw [e0]; exact hR) hS (by rw [e0]; exact lv_sub hl [0, 1, 2, 3, 4] rfl)
          · refine lv_aload_n hx hb dX1_forward_34 rfl (lv_at hl 2 rfl) ?_
            refine lv_iload_n hx hb dX1_forward_35 rfl (lv_at hl 3 rfl) ?_
            refine m_cv X hR hS (mt_stepOn l D d A a S_28 x1 (okc2_0) (hJ)) 1 (lw_V q1464 q1466 qs36 q59 q1467) ⟨rfl, rfl⟩ (by decide +kernel) ⟨by decide, by decide⟩ ⟨by decide, by decide⟩ rfl hl.1 rfl (Nat.le_of_ble_eq_true rfl) dX1_forward_36 (fun H locs hR hS => ?_)
            refine lv_iinc (v := (y4_28 + 1)) (lv' := [(4, .int (y4_28 + 1)), (3, .int ((m_askedFor S x1).1)), (0, .ref (a 0)), (1, .int x1), (2, .int x2)]) hx hb dX1_forward_39 hl (k := 0) rfl rfl (by decide) rfl (fun ls hl => ?_)
            refine lv_goto (tgt := 28) hx hb dX1_forward_42 (by decide) ?_
            exact ih (y4_28 + 1) (m_stepOn S_28 x1) _ _  _ (Nat.lt_of_lt_of_le (up_ hi4 (m_forward_o5 S x1 x2 y4_28 S_28 hI c1 c2 okc2_0 hi4 hJ c3)) (Nat.le_of_lt_succ hf)) (m_forward_o4 S x1 x2 y4_28 S_28 hI c1 c2 okc2_0 hi4 hJ c3) (m_stepOn_inv _ x1 okc2_0 hJ) (Eq.trans (Eq.symm (Eq.trans (m_forward_L28_s _ _ _ _ _) (if_neg c3))) hE) hR hS (lv_sub hl [0, 1, 2, 3, 4] rfl)
      exact L28 _ 0 S _ _  _ (Nat.lt_succ_self _) (by decide) (hI) rfl hR hS (lv_sub hl [0, 1, 2, 3, 4] rfl)
    · refine lv_iload_n hx hb dX1_forward_23 rfl (lv_at hl 0 rfl) ?_
      exact m_ri hx hb hrt (rfl) hlk hR hS hQ (Eq.trans (if_neg c1) (if_neg c2)) dX1_forward_24
  · refine lv_iconst (v := (-1)) hx hb dX1_forward_11 (by decide) ?_
    exact m_ri hx hb hrt (rfl) hlk hR hS hQ (if_pos c1) dX1_forward_12
