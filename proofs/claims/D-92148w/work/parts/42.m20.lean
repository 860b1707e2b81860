/-! PRINTED by gen/run_m10.py -/
set_option maxRecDepth 100000
def m_tryAll_j48_s0 (y3_13 : Int32) : Int32 := (if y3_13 = 0 then 1 else (if y3_13 = 3 then 1 else 48))
def m_tryAll_j82_S (x1 : Int32) (x2 : Int32) (y3_13 : Int32) (y4_21 : Int32) (y5_31 : Int32) (S_31 : MS) : MS := (if (m_isFault y3_13 y4_21 y5_31) = 0 then S_31 else (if 0 < y3_13 then (m_tryFault S_31 x1 x2 y3_13 y4_21 y5_31) else (if y4_21 = 0 then (m_tryFault S_31 x1 x2 y3_13 y4_21 y5_31) else S_31)))
def m_tryAll_L31 (x1 : Int32) (x2 : Int32) (y3_13 : Int32) (y4_21 : Int32) : Nat → Int32 → MS → Int32 × MS
  | 0, y5_31, S_31 => (y5_31, S_31)
  | f31 + 1, y5_31, S_31 => (if (m_tryAll_j48_s0 y3_13) ≤ y5_31 then (y5_31, S_31) else (m_tryAll_L31 x1 x2 y3_13 y4_21 f31 (y5_31 + 1) (m_tryAll_j82_S x1 x2 y3_13 y4_21 y5_31 S_31)))
theorem m_tryAll_L31_s (x1 : Int32) (x2 : Int32) (y3_13 : Int32) (y4_21 : Int32) (f31 : Nat) (y5_31 : Int32) (S_31 : MS) : m_tryAll_L31 x1 x2 y3_13 y4_21 (f31 + 1) y5_31 S_31 = (if (m_tryAll_j48_s0 y3_13) ≤ y5_31 then (y5_31, S_31) else (m_tryAll_L31 x1 x2 y3_13 y4_21 f31 (y5_31 + 1) (m_tryAll_j82_S x1 x2 y3_13 y4_21 y5_31 S_31))) := rfl
def m_tryAll_R31 (x1 : Int32) (x2 : Int32) (y3_13 : Int32) (y4_21 : Int32) (S_21 : MS) : Int32 × MS := m_tryAll_L31 x1 x2 y3_13 y4_21 ((48 - 0 : Int32).toNatClampNeg + 1) 0 S_21
def m_tryAll_L21 (x1 : Int32) (x2 : Int32) (y3_13 : Int32) : Nat → Int32 → MS → Int32 × MS
  | 0, y4_21, S_21 => (y4_21, S_21)
  | f21 + 1, y4_21, S_21 => (if 48 ≤ y4_21 then (y4_21, S_21) else (m_tryAll_L21 x1 x2 y3_13 f21 (y4_21 + 1) ((m_tryAll_R31 x1 x2 y3_13 y4_21 S_21).2)))
theorem m_tryAll_L21_s (x1 : Int32) (x2 : Int32) (y3_13 : Int32) (f21 : Nat) (y4_21 : Int32) (S_21 : MS) : m_tryAll_L21 x1 x2 y3_13 (f21 + 1) y4_21 S_21 = (if 48 ≤ y4_21 then (y4_21, S_21) else (m_tryAll_L21 x1 x2 y3_13 f21 (y4_21 + 1) ((m_tryAll_R31 x1 x2 y3_13 y4_21 S_21).2))) := rfl
def m_tryAll_R21 (x1 : Int32) (x2 : Int32) (y3_13 : Int32) (S_13 : MS) : Int32 × MS := m_tryAll_L21 x1 x2 y3_13 ((48 - 0 : Int32).toNatClampNeg + 1) 0 S_13
def m_tryAll_L13 (x1 : Int32) (x2 : Int32) : Nat → Int32 → MS → Int32 × MS
  | 0, y3_13, S_13 => (y3_13, S_13)
  | f13 + 1, y3_13, S_13 => (if 5 ≤ y3_13 then (y3_13, S_13) else (m_tryAll_L13 x1 x2 f13 (y3_13 + 1) ((m_tryAll_R21 x1 x2 y3_13 S_13).2)))
theorem m_tryAll_L13_s (x1 : Int32) (x2 : Int32) (f13 : Nat) (y3_13 : Int32) (S_13 : MS) : m_tryAll_L13 x1 x2 (f13 + 1) y3_13 S_13 = (if 5 ≤ y3_13 then (y3_13, S_13) else (m_tryAll_L13 x1 x2 f13 (y3_13 + 1) ((m_tryAll_R21 x1 x2 y3_13 S_13).2))) := rfl
def m_tryAll_R13 (S : MS) (x1 : Int32) (x2 : Int32) : Int32 × MS := m_tryAll_L13 x1 x2 ((5 - 0 : Int32).toNatClampNeg + 1) 0 (mu (mu S 45 0 (-9)) 46 0 0)
theorem m_tryAll_o13 (S : MS) (x1 : Int32) (x2 : Int32) (y3_13 : Int32) (S_13 : MS) (hr : 0 ≤ x1 ∧ x1 < 8) (hz : S.1 7 (Int32.toNatClampNeg x1) ≤ 48) (hi3 : 0 ≤ y3_13) (hzA : S_13.1 7 (Int32.toNatClampNeg x1) ≤ 48) (c1 : ¬ 5 ≤ y3_13) (hzB : (m_tryAll_R21 x1 x2 y3_13 S_13).2.1 7 (Int32.toNatClampNeg x1) ≤ 48) : 0 ≤ (y3_13 + 1) := by 
  try simp only [i_le, i_lt, i_eq, Int32.reduceToInt] at *
  first | (have e_0 := a32 (x := y3_13) (y := 1) (by (try simp only [Int32.reduceToInt]); omega); (try simp only [Int32.reduceToInt] at e_0)) | skip
  try simp only [Int32.reduceToInt] at *
  omega
theorem m_tryAll_o14 (S : MS) (x1 : Int32) (x2 : Int32) (y3_13 : Int32) (S_13 : MS) (hr : 0 ≤ x1 ∧ x1 < 8) (hz : S.1 7 (Int32.toNatClampNeg x1) ≤ 48) (hi3 : 0 ≤ y3_13) (hzA : S_13.1 7 (Int32.toNatClampNeg x1) ≤ 48) (c1 : ¬ 5 ≤ y3_13) (hzB : (m_tryAll_R21 x1 x2 y3_13 S_13).2.1 7 (Int32.toNatClampNeg x1) ≤ 48) : y3_13 < 5 := by 
  try simp only [i_le, i_lt, i_eq, Int32.reduceToInt] at *
  try simp only [Int32.reduceToInt] at *
  omega
theorem m_tryAll_o15 (S : MS) (x1 : Int32) (x2 : Int32) (y3_13 : Int32) (S_13 : MS) (y4_21 : Int32) (S_21 : MS) (hr : 0 ≤ x1 ∧ x1 < 8) (hz : S.1 7 (Int32.toNatClampNeg x1) ≤ 48) (hi3 : 0 ≤ y3_13) (hzA : S_13.1 7 (Int32.toNatClampNeg x1) ≤ 48) (c1 : ¬ 5 ≤ y3_13) (hi4 : 0 ≤ y4_21) (hzB : S_21.1 7 (Int32.toNatClampNeg x1) ≤ 48) (c2 : ¬ 48 ≤ y4_21) (hzC : (m_tryAll_R31 x1 x2 y3_13 y4_21 S_21).2.1 7 (Int32.toNatClampNeg x1) ≤ 48) : 0 ≤ (y4_21 + 1) := by 
  try simp only [i_le, i_lt, i_eq, Int32.reduceToInt] at *
  first | (have e_0 := a32 (x := y4_21) (y := 1) (by (try simp only [Int32.reduceToInt]); omega); (try simp only [Int32.reduceToInt] at e_0)) | skip
  try simp only [Int32.reduceToInt] at *
  omega
theorem m_tryAll_o16 (S : MS) (x1 : Int32) (x2 : Int32) (y3_13 : Int32) (S_13 : MS) (y4_21 : Int32) (S_21 : MS) (hr : 0 ≤ x1 ∧ x1 < 8) (hz : S.1 7 (Int32.toNatClampNeg x1) ≤ 48) (hi3 : 0 ≤ y3_13) (hzA : S_13.1 7 (Int32.toNatClampNeg x1) ≤ 48) (c1 : ¬ 5 ≤ y3_13) (hi4 : 0 ≤ y4_21) (hzB : S_21.1 7 (Int32.toNatClampNeg x1) ≤ 48) (c2 : ¬ 48 ≤ y4_21) (hzC : (m_tryAll_R31 x1 x2 y3_13 y4_21 S_21).2.1 7 (Int32.toNatClampNeg x1) ≤ 48) : y4_21 < 48 := by 
  try simp only [i_le, i_lt, i_eq, Int32.reduceToInt] at *
  try simp only [Int32.reduceToInt] at *
  omega
theorem m_tryAll_o17 (S : MS) (x1 : Int32) (y3_13 : Int32) (S_13 : MS) (y4_21 : Int32) (S_21 : MS) (y5_31 : Int32) (S_31 : MS) (hr : 0 ≤ x1 ∧ x1 < 8) (hz : S.1 7 (Int32.toNatClampNeg x1) ≤ 48) (hi3 : 0 ≤ y3_13) (hzA : S_13.1 7 (Int32.toNatClampNeg x1) ≤ 48) (c1 : ¬ 5 ≤ y3_13) (hi4 : 0 ≤ y4_21) (hzB : S_21.1 7 (Int32.toNatClampNeg x1) ≤ 48) (c2 : ¬ 48 ≤ y4_21) (hi5 : 0 ≤ y5_31) (hzC : S_31.1 7 (Int32.toNatClampNeg x1) ≤ 48) (c7 : ¬ (m_tryAll_j48_s0 y3_13) ≤ y5_31) (hj48 : (m_tryAll_j48_s0 y3_13) ≤ 48) : 0 ≤ (y5_31 + 1) := by 
  try simp only [i_le, i_lt, i_eq, Int32.reduceToInt] at *
  first | (have e_0 := a32 (x := y5_31) (y := 1) (by (try simp only [Int32.reduceToInt]); omega); (try simp only [Int32.reduceToInt] at e_0)) | skip
  try simp only [Int32.reduceToInt] at *
  omega
theorem m_tryAll_o18 (S : MS) (x1 : Int32) (y3_13 : Int32) (S_13 : MS) (y4_21 : Int32) (S_21 : MS) (y5_31 : Int32) (S_31 : MS) (hr : 0 ≤ x1 ∧ x1 < 8) (hz : S.1 7 (Int32.toNatClampNeg x1) ≤ 48) (hi3 : 0 ≤ y3_13) (hzA : S_13.1 7 (Int32.toNatClampNeg x1) ≤ 48) (c1 : ¬ 5 ≤ y3_13) (hi4 : 0 ≤ y4_21) (hzB : S_21.1 7 (Int32.toNatClampNeg x1) ≤ 48) (c2 : ¬ 48 ≤ y4_21) (hi5 : 0 ≤ y5_31) (hzC : S_31.1 7 (Int32.toNatClampNeg x1) ≤ 48) (c7 : ¬ (m_tryAll_j48_s0 y3_13) ≤ y5_31) (hj48 : (m_tryAll_j48_s0 y3_13) ≤ 48) : y5_31 < 48 := by 
  try simp only [i_le, i_lt, i_eq, Int32.reduceToInt] at *
  try simp only [Int32.reduceToInt] at *
  omega
theorem m_tryAll_j48_le (k : Int32) : (m_tryAll_j48_s0 k) ≤ 48 := by
  unfold m_tryAll_j48_s0
  (repeat' split) <;> decide
theorem m_tryAll_82 (x1 x2 a b c : Int32) (S : MS) : eqx [45, 46, 47] S (m_tryAll_j82_S x1 x2 a b c S) := by
  unfold m_tryAll_j82_S
  (repeat' split) <;> first
    | (with_reducible exact eqx.rf)
    | exact m_tryFault_eqx _ _ _ _ _ _
def m_tryAll (S : MS) (x1 : Int32) (x2 : Int32) : MS := (m_tryAll_R13 S x1 x2).2
set_option maxHeartbeats 4000000 in
theorem mt_tryAll (l : Launch) (D : va_G) (d : Nat → ClassId) (A : Nat → Prop) (a : Nat → Nat) (S : MS) (x1 : Int32) (x2 : Int32) (hr : 0 ≤ x1 ∧ x1 < 8) (hz : S.1 7 (Int32.toNatClampNeg x1) ≤ 48) : MV l yX1_tryAll cX1_tryAll 6 (rm_ 4) D d A a S [.int x1, .int x2] (m_tryAll S x1 x2) := by
  refine m_startV rfl (Nat.le_of_ble_eq_true rfl) ?_
  intro p e s m av below meth c ls Q X hrt hlk hl hR hQ
  have hx := X.1.1
  have hb := X.1.2.1
  have hown := X.1.2.2.2.1
  have hts := X.1.2.2.2.2
  have hS : va_S A s.heap s.heap [] := va_S.rf
  have hl : lv_has ls 6 [(0, .ref (a 0)), (1, .int x1), (2, .int x2)] := hl
  refine lv_aload_n hx hb dX1_tryAll_0 rfl (lv_at hl 0 rfl) ?_
  refine lv_bipush (v := (-9)) hx hb dX1_tryAll_1 (by decide) ?_
  refine mp_i X hR hS 45 (by decide) rfl rfl rfl q1182 dX1_tryAll_3 (fun H locs hR hS => ?_)
  refine lv_aload_n hx hb dX1_tryAll_6 rfl (lv_at hl 0 rfl) ?_
  refine lv_iconst (v := 0) hx hb dX1_tryAll_7 (by decide) ?_
  refine mp_i X hR hS 46 (by decide) rfl rfl rfl q1183 dX1_tryAll_8 (fun H locs hR hS => ?_)
  refine lv_iconst (v := 0) hx hb dX1_tryAll_11 (by decide) ?_
  refine lv_istore_n (lv' := [(3, .int 0), (0, .ref (a 0)), (1, .int x1), (2, .int x2)]) hx hb dX1_tryAll_12 rfl hl (by decide) rfl (fun ls hl => ?_)
  have K13 : ∀ (H : Heap) (locs : List Loc) (ls : Array Slot), MR D d A a (m_tryAll_R13 S x1 x2).2 H → va_S A s.heap H locs → lv_has ls 6 [(3, .int ((m_tryAll_R13 S x1 x2).1)), (0, .ref (a 0)), (1, .int x1), (2, .int x2)] → W p l e (rm_ 4) s m av below meth c H locs 0 0 Q (F0 m 100 ls []) := by
    intro H locs ls hR hS hl
    exact m_rv hx hb hrt hlk hR hS hQ rfl dX1_tryAll_100
  have L13 : ∀ (f13 : Nat) (y3_13 : Int32) (S_13 : MS) (H : Heap) (locs : List Loc) (ls : Array Slot), (5 - y3_13 : Int32).toNatClampNeg < f13 → 0 ≤ y3_13 → S_13.1 7 (Int32.toNatClampNeg x1) ≤ 48 → m_tryAll_L13 x1 x2 (f13) y3_13 S_13 = (m_tryAll_R13 S x1 x2) → MR D d A a S_13 H → va_S A s.heap H locs → lv_has ls 6 [(3, .int y3_13), (0, .ref (a 0)), (1, .int x1), (2, .int x2)] → W p l e (rm_ 4) s m av below meth c H locs 0 0 Q (F0 m 13 ls []) := by
    intro f13
    induction f13 with
    | zero => intro y3_13 S_13 H locs ls hf; exact absurd hf (Nat.not_lt_zero _)
    | succ f13 ih =>
      intro y3_13 S_13 H locs ls hf hi3 hzA hE hR hS hl
      refine lv_iload_n hx hb dX1_tryAll_13 rfl (lv_at hl 0 rfl) ?_
      refine lv_iconst (v := 5) hx hb dX1_tryAll_14 (by decide) ?_
      refine lv_icmp_ge (tgt := 100) hx hb dX1_tryAll_15 (by decide) (fun c1 => ?_) (fun c1 => ?_)
      · have e0 : (m_tryAll_R13 S x1 x2) = (y3_13, S_13) := Eq.trans (Eq.symm hE) (Eq.trans (m_tryAll_L13_s _ _ _ _ _) (if_pos c1))
        exact K13 _ _ _ (by rw [e0]; exact hR) hS (by rw [e0]; exact lv_sub hl [0, 1, 2, 3] rfl)
      · refine lv_iconst (v := 0) hx hb dX1_tryAll_18 (by decide) ?_
        refine lv_istore (lv' := [(4, .int 0), (3, .int y3_13), (0, .ref (a 0)), (1, .int x1), (2, .int x2)]) hx hb dX1_tryAll_19 hl (by decide) rfl (fun ls hl => ?_)
        have K21 : ∀ (H : Heap) (locs : List Loc) (ls : Array Slot), ((m_tryAll_R21 x1 x2 y3_13 S_13).2.1 7 (Int32.toNatClampNeg x1) ≤ 48) → MR D d A a (m_tryAll_R21 x1 x2 y3_13 S_13).2 H → va_S A s.heap H locs → lv_has ls 6 [(4, .int ((m_tryAll_R21 x1 x2 y3_13 S_13).1)), (3, .int y3_13), (0, .ref (a 0)), (1, .int x1), (2, .int x2)] → W p l e (rm_ 4) s m av below meth c H locs 0 0 Q (F0 m 94 ls []) := by
          intro H locs ls hzB hR hS hl
          refine lv_iinc (v := (y3_13 + 1)) (lv' := [(3, .int (y3_13 + 1)), (4, .int ((m_tryAll_R21 x1 x2 y3_13 S_13).1)), (0, .ref (a 0)), (1, .int x1), (2, .int x2)]) hx hb dX1_tryAll_94 hl (k := 1) rfl rfl (by decide) rfl (fun ls hl => ?_)
          refine lv_goto (tgt := 13) hx hb dX1_tryAll_97 (by decide) ?_
          exact ih (y3_13 + 1) ((m_tryAll_R21 x1 x2 y3_13 S_13).2) _ _  _ (Nat.lt_of_lt_of_le (up_ hi3 (m_tryAll_o14 S x1 x2 y3_13 S_13 hr hz hi3 hzA c1 hzB)) (Nat.le_of_lt_succ hf)) (m_tryAll_o13 S x1 x2 y3_13 S_13 hr hz hi3 hzA c1 hzB) (hzB) (Eq.trans (Eq.symm (Eq.trans (m_tryAll_L13_s _ _ _ _ _) (if_neg c1))) hE) hR hS (lv_sub hl [0, 2, 3, 4] rfl)
        have L21 : ∀ (f21 : Nat) (y4_21 : Int32) (S_21 : MS) (H : Heap) (locs : List Loc) (ls : Array Slot), (48 - y4_21 : Int32).toNatClampNeg < f21 → 0 ≤ y4_21 → S_21.1 7 (Int32.toNatClampNeg x1) ≤ 48 → m_tryAll_L21 x1 x2 y3_13 (f21) y4_21 S_21 = (m_tryAll_R21 x1 x2 y3_13 S_13) → MR D d A a S_21 H → va_S A s.heap H locs → lv_has ls 6 [(4, .int y4_21), (3, .int y3_13), (0, .ref (a 0)), (1, .int x1), (2, .int x2)] → W p l e (rm_ 4) s m av below meth c H locs 0 0 Q (F0 m 21 ls []) := by
          intro f21
          induction f21 with
          | zero => intro y4_21 S_21 H locs ls hf; exact absurd hf (Nat.not_lt_zero _)
          | succ f21 ih =>
            intro y4_21 S_21 H locs ls hf hi4 hzB hE hR hS hl
            refine lv_iload hx hb dX1_tryAll_21 (lv_at hl 0 rfl) ?_
            refine lv_bipush (v := 48) hx hb dX1_tryAll_23 (by decide) ?_
            refine lv_icmp_ge (tgt := 94) hx hb dX1_tryAll_25 (by decide) (fun c2 => ?_) (fun c2 => ?_)
            · have e0 : (m_tryAll_R21 x1 x2 y3_13 S_13) = (y4_21, S_21) := Eq.trans (Eq.symm hE) (Eq.trans (m_tryAll_L21_s _ _ _ _ _ _) (if_pos c2))
              exact K21 _ _ _ (by rw [e0]; exact hzB) (by rw [e0]; exact hR) hS (by rw [e0]; exact lv_sub hl [0, 1, 2, 3, 4] rfl)
            · refine lv_iconst (v := 0) hx hb dX1_tryAll_28 (by decide) ?_
              refine lv_istore (lv' := [(5, .int 0), (4, .int y4_21), (3, .int y3_13), (0, .ref (a 0)), (1, .int x1), (2, .int x2)]) hx hb dX1_tryAll_29 hl (by decide) rfl (fun ls hl => ?_)
              have K31 : ∀ (H : Heap) (locs : List Loc) (ls : Array Slot), ((m_tryAll_R31 x1 x2 y3_13 y4_21 S_21).2.1 7 (Int32.toNatClampNeg x1) ≤ 48) → MR D d A a (m_tryAll_R31 x1 x2 y3_13 y4_21 S_21).2 H → va_S A s.heap H locs → lv_has ls 6 [(5, .int ((m_tryAll_R31 x1 x2 y3_13 y4_21 S_21).1)), (4, .int y4_21), (3, .int y3_13), (0, .ref (a 0)), (1, .int x1), (2, .int x2)] → W p l e (rm_ 4) s m av below meth c H locs 0 0 Q (F0 m 88 ls []) := by
                intro H locs ls hzC hR hS hl
                refine lv_iinc (v := (y4_21 + 1)) (lv' := [(4, .int (y4_21 + 1)), (5, .int ((m_tryAll_R31 x1 x2 y3_13 y4_21 S_21).1)), (3, .int y3_13), (0, .ref (a 0)), (1, .int x1), (2, .int x2)]) hx hb dX1_tryAll_88 hl (k := 1) rfl rfl (by decide) rfl (fun ls hl => ?_)
                refine lv_goto (tgt := 21) hx hb dX1_tryAll_91 (by decide) ?_
                exact ih (y4_21 + 1) ((m_tryAll_R31 x1 x2 y3_13 y4_21 S_21).2) _ _  _ (Nat.lt_of_lt_of_le (up_ hi4 (m_tryAll_o16 S x1 x2 y3_13 S_13 y4_21 S_21 hr hz hi3 hzA c1 hi4 hzB c2 hzC)) (Nat.le_of_lt_succ hf)) (m_tryAll_o15 S x1 x2 y3_13 S_13 y4_21 S_21 hr hz hi3 hzA c1 hi4 hzB c2 hzC) (hzC) (Eq.trans (Eq.symm (Eq.trans (m_tryAll_L21_s _ _ _ _ _ _) (if_neg c2))) hE) hR hS (lv_sub hl [0, 2, 3, 4, 5] rfl)
              have L31 : ∀ (f31 : Nat) (y5_31 : Int32) (S_31 : MS) (H : Heap) (locs : List Loc) (ls : Array Slot), (48 - y5_31 : Int32).toNatClampNeg < f31 → 0 ≤ y5_31 → S_31.1 7 (Int32.toNatClampNeg x1) ≤ 48 → m_tryAll_L31 x1 x2 y3_13 y4_21 (f31) y5_31 S_31 = (m_tryAll_R31 x1 x2 y3_13 y4_21 S_21) → MR D d A a S_31 H → va_S A s.heap H locs → lv_has ls 6 [(5, .int y5_31), (4, .int y4_21), (3, .int y3_13), (0, .ref (a 0)), (1, .int x1), (2, .int x2)] → W p l e (rm_ 4) s m av below meth c H locs 0 0 Q (F0 m 31 ls []) := by
                intro f31
                induction f31 with
                | zero => intro y5_31 S_31 H locs ls hf; exact absurd hf (Nat.not_lt_zero _)
                | succ f31 ih =>
                  intro y5_31 S_31 H locs ls hf hi5 hzC hE hR hS hl
                  refine lv_iload hx hb dX1_tryAll_31 (lv_at hl 0 rfl) ?_
                  refine lv_iload_n hx hb dX1_tryAll_33 rfl (lv_at hl 2 rfl) ?_
                  have J6 : ∀ (w5 : Int32) (H : Heap) (locs : List Loc) (ls : Array Slot), w5 = (m_tryAll_j48_s0 y3_13) → MR D d A a S_31 H → va_S A s.heap H locs → lv_has ls 6 [(5, .int y5_31), (4, .int y4_21), (3, .int y3_13), (0, .ref (a 0)), (1, .int x1), (2, .int x2)] → W p l e (rm_ 4) s m av below meth c H locs 0 0 Q (F0 m 48 ls [.int w5, .int y5_31]) := by
                    intro w5 H locs ls ew5 hR hS hl
                    subst ew5
                    refine lv_icmp_ge (tgt := 88) hx hb dX1_tryAll_48 (by decide) (fun c7 => ?_) (fun c7 => ?_)
                    · have e0 : (m_tryAll_R31 x1 x2 y3_13 y4_21 S_21) = (y5_31, S_31) := Eq.trans (Eq.symm hE) (Eq.trans (m_tryAll_L31_s _ _ _ _ _ _ _) (if_pos c7))
                      exact K31 _ _ _ (by rw [e0]; exact hzC) (by rw [e0]; exact hR) hS (by rw [e0]; exact lv_sub hl [0, 1, 2, 3, 4, 5] rfl)
                    · have hj48 : (m_tryAll_j48_s0 y3_13) ≤ 48 := m_tryAll_j48_le _
                      refine lv_iload_n hx hb dX1_tryAll_51 rfl (lv_at hl 2 rfl) ?_
                      refine lv_iload hx hb dX1_tryAll_52 (lv_at hl 1 rfl) ?_
                      refine lv_iload hx hb dX1_tryAll_54 (lv_at hl 0 rfl) ?_
                      refine s_ci X.1 (st_m_isFault l y3_13 y4_21 y5_31) 3 (lw_S q1608 q1609 q59 q1610) ⟨rfl, rfl⟩ (by decide +kernel) ⟨by decide, by decide⟩ ⟨by decide, by decide⟩ rfl hl.1 rfl (Nat.le_of_ble_eq_true rfl) dX1_tryAll_56 ?_
                      have J12 : ∀ (w11 : MS) (H : Heap) (locs : List Loc) (ls : Array Slot), w11 = (m_tryAll_j82_S x1 x2 y3_13 y4_21 y5_31 S_31) → MR D d A a w11 H → va_S A s.heap H locs → lv_has ls 6 [(5, .int y5_31), (4, .int y4_21), (3, .int y3_13), (0, .ref (a 0)), (1, .int x1), (2, .int x2)] → W p l e (rm_ 4) s m av below meth c H locs 0 0 Q (F0 m 82 ls []) := by
                        intro w11 H locs ls ew11 hR hS hl
                        subst ew11
                        refine lv_iinc (v := (y5_31 + 1)) (lv' := [(5, .int (y5_31 + 1)), (4, .int y4_21), (3, .int y3_13), (0, .ref (a 0)), (1, .int x1), (2, .int x2)]) hx hb dX1_tryAll_82 hl (k := 0) rfl rfl (by decide) rfl (fun ls hl => ?_)
                        refine lv_goto (tgt := 31) hx hb dX1_tryAll_85 (by decide) ?_
                        exact ih (y5_31 + 1) (m_tryAll_j82_S x1 x2 y3_13 y4_21 y5_31 S_31) _ _  _ (Nat.lt_of_lt_of_le (up_ hi5 (m_tryAll_o18 S x1 y3_13 S_13 y4_21 S_21 y5_31 S_31 hr hz hi3 hzA c1 hi4 hzB c2 hi5 hzC c7 hj48)) (Nat.le_of_lt_succ hf)) (m_tryAll_o17 S x1 y3_13 S_13 y4_21 S_21 y5_31 S_31 hr hz hi3 hzA c1 hi4 hzB c2 hi5 hzC c7 hj48) (by rw [(m_tryAll_82 _ _ _ _ _ _).at 7 (by decide)]; exact hzC) (Eq.trans (Eq.symm (Eq.trans (m_tryAll_L31_s _ _ _ _ _ _ _) (if_neg c7))) hE) hR hS (lv_sub hl [0, 1, 2, 3, 4, 5] rfl)
                      refine lv_if_eq (tgt := 82) hx hb dX1_tryAll_59 (by decide) (fun c8 => ?_) (fun c8 => ?_)
                      · exact J12 _ _ _  _ (Eq.symm (if_pos c8)) hR hS  (lv_sub hl [0, 1, 2, 3, 4, 5] rfl)
                      · refine lv_iload_n hx hb dX1_tryAll_62 rfl (lv_at hl 2 rfl) ?_
                        refine lv_if_gt (tgt := 71) hx hb dX1_tryAll_63 (by decide) (fun c9 => ?_) (fun c9 => ?_)
                        · refine lv_aload_n hx hb dX1_tryAll_71 rfl (lv_at hl 3 rfl) ?_
                          refine lv_iload_n hx hb dX1_tryAll_72 rfl (lv_at hl 4 rfl) ?_
                          refine lv_iload_n hx hb dX1_tryAll_73 rfl (lv_at hl 5 rfl) ?_
                          refine lv_iload_n hx hb dX1_tryAll_74 rfl (lv_at hl 2 rfl) ?_
                          refine lv_iload hx hb dX1_tryAll_75 (lv_at hl 1 rfl) ?_
                          refine lv_iload hx hb dX1_tryAll_77 (lv_at hl 0 rfl) ?_
                          refine m_cv X hR hS (mt_tryFault l D d A a S_31 x1 x2 y3_13 y4_21 y5_31 (hr) (hzC)) 5 (lw_V q1630 q1632 qs53 q59 q1633) ⟨rfl, rfl⟩ (by decide +kernel) ⟨by decide, by decide⟩ ⟨by decide, by decide⟩ rfl hl.1 rfl (Nat.le_of_ble_eq_true rfl) dX1_tryAll_79 (fun H locs hR hS => ?_)
                          exact J12 _ _ _  _ (Eq.symm (Eq.trans (if_neg c8) (if_pos c9))) hR hS  (lv_sub hl [0, 1, 2, 3, 4, 5] rfl)
                        · refine lv_iload hx hb dX1_tryAll_66 (lv_at hl 1 rfl) ?_
                          refine lv_if_ne (tgt := 82) hx hb dX1_tryAll_68 (by decide) (fun c10 => ?_) (fun c10 => ?_)
                          · exact J12 _ _ _  _ (Eq.symm (Eq.trans (if_neg c8) (Eq.trans (if_neg c9) (if_neg c10)))) hR hS  (lv_sub hl [0, 1, 2, 3, 4, 5] rfl)
                          · refine lv_aload_n hx hb dX1_tryAll_71 rfl (lv_at hl 3 rfl) ?_
                            refine lv_iload_n hx hb dX1_tryAll_72 rfl (lv_at hl 4 rfl) ?_
                            refine lv_iload_n hx hb dX1_tryAll_73 rfl (lv_at hl 5 rfl) ?_
                            refine lv_iload_n hx hb dX1_tryAll_74 rfl (lv_at hl 2 rfl) ?_
                            refine lv_iload hx hb dX1_tryAll_75 (lv_at hl 1 rfl) ?_
                            refine lv_iload hx hb dX1_tryAll_77 (lv_at hl 0 rfl) ?_
                            refine m_cv X hR hS (mt_tryFault l D d A a S_31 x1 x2 y3_13 y4_21 y5_31 (hr) (hzC)) 5 (lw_V q1630 q1632 qs53 q59 q1633) ⟨rfl, rfl⟩ (by decide +kernel) ⟨by decide, by decide⟩ ⟨by decide, by decide⟩ rfl hl.1 rfl (Nat.le_of_ble_eq_true rfl) dX1_tryAll_79 (fun H locs hR hS => ?_)
                            exact J12 _ _ _  _ (Eq.symm (Eq.trans (if_neg c8) (Eq.trans (if_neg c9) (if_pos c10)))) hR hS  (lv_sub hl [0, 1, 2, 3, 4, 5] rfl)
                  refine lv_if_eq (tgt := 42) hx hb dX1_tryAll_34 (by decide) (fun c3 => ?_) (fun c3 => ?_)
                  · refine lv_iconst (v := 1) hx hb dX1_tryAll_42 (by decide) ?_
                    refine lv_goto (tgt := 48) hx hb dX1_tryAll_43 (by decide) ?_
                    exact J6 _ _ _  _ (Eq.symm (if_pos c3)) hR hS  (lv_sub hl [0, 1, 2, 3, 4, 5] rfl)
                  · refine lv_iload_n hx hb dX1_tryAll_37 rfl (lv_at hl 2 rfl) ?_
                    refine lv_iconst (v := 3) hx hb dX1_tryAll_38 (by decide) ?_
                    refine lv_icmp_ne (tgt := 46) hx hb dX1_tryAll_39 (by decide) (fun c4 => ?_) (fun c4 => ?_)
                    · refine lv_bipush (v := 48) hx hb dX1_tryAll_46 (by decide) ?_
                      exact J6 _ _ _  _ (Eq.symm (Eq.trans (if_neg c3) (if_neg c4))) hR hS  (lv_sub hl [0, 1, 2, 3, 4, 5] rfl)
                    · refine lv_iconst (v := 1) hx hb dX1_tryAll_42 (by decide) ?_
                      refine lv_goto (tgt := 48) hx hb dX1_tryAll_43 (by decide) ?_
                      exact J6 _ _ _  _ (Eq.symm (Eq.trans (if_neg c3) (if_pos c4))) hR hS  (lv_sub hl [0, 1, 2, 3, 4, 5] rfl)
              exact L31 _ 0 S_21 _ _  _ (Nat.lt_succ_self _) (by decide) (hzB) rfl hR hS (lv_sub hl [0, 1, 2, 3, 4, 5] rfl)
        exact L21 _ 0 S_13 _ _  _ (Nat.lt_succ_self _) (by decide) (hzA) rfl hR hS (lv_sub hl [0, 1, 2, 3, 4] rfl)
  exact L13 _ 0 (mu (mu S 45 0 (-9)) 46 0 0) _ _  _ (Nat.lt_succ_self _) (by decide) (hz) rfl hR hS (lv_sub hl [0, 1, 2, 3] rfl)
theorem m_fault_o3 (S : MS) (x1 : Int32) (x2 : Int32) (hI : MInv S) (hzz : 0 ≤ x1 ∧ x1 < 8 → S.1 7 (Int32.toNatClampNeg x1) ≤ 48) (c1 : ¬ (m_in x2 1 12) = 0) (c2 : 0 ≤ (m_looked S x1).1) (okc2_0 : 0 ≤ x1 ∧ x1 < 8) (okc2_1 : 0 ≤ S.1 7 (Int32.toNatClampNeg x1)) : S.1 7 (Int32.toNatClampNeg x1) ≤ 48 := by 
  clear hI
  try simp only [m_in_eq] at *
  try simp only [i_le, i_lt, i_eq, Int32.reduceToInt] at *
  try simp only [Int32.reduceToInt] at *
  omega
def m_fault (S : MS) (x1 : Int32) (x2 : Int32) : Int32 × MS := (if (m_in x2 1 12) = 0 then ((-1), S) else (if 0 ≤ (m_looked S x1).1 then (((m_tryAll S x1 x2).1 47 (Int32.toNatClampNeg 0)), (mu (mu (mu (mu (m_tryAll S x1 x2) 42 0 ((m_tryAll S x1 x2).1 47 (Int32.toNatClampNeg 0))) 43 0 ((m_tryAll S x1 x2).1 47 (Int32.toNatClampNeg 1))) 44 0 ((m_tryAll S x1 x2).1 47 (Int32.toNatClampNeg 2))) 2 0 ((m_tryAll S x1 x2).1 45 0))) else ((m_looked S x1).1, (m_looked S x1).2)))
set_option maxHeartbeats 4000000 in
theorem mt_fault (l : Launch) (D : va_G) (d : Nat → ClassId) (A : Nat → Prop) (a : Nat → Nat) (S : MS) (x1 : Int32) (x2 : Int32) (hI : MInv S) : MI l yX1_fault cX1_fault 4 .int (rm_ 5) D d A a S [.int x1, .int x2] (m_fault S x1 x2) := by
  refine m_startI rfl (Nat.le_of_ble_eq_true rfl) ?_
  intro p e s m av below meth c ls Q X hrt hlk hl hR hQ
  have hx := X.1.1
  have hb := X.1.2.1
  have hown := X.1.2.2.2.1
  have hts := X.1.2.2.2.2
  have hS : va_S A s.heap s.heap [] := va_S.rf
  have hl : lv_has ls 4 [(0, .ref (a 0)), (1, .int x1), (2, .int x2)] := hl
  have hzz : 0 ≤ x1 ∧ x1 < 8 → S.1 7 (Int32.toNatClampNeg x1) ≤ 48 := mi_sz hI
  refine lv_iload_n hx hb dX1_fault_0 rfl (lv_at hl 2 rfl) ?_
  refine lv_iconst (v := 1) hx hb dX1_fault_1 (by decide) ?_
  refine lv_bipush (v := 12) hx hb dX1_fault_2 (by decide) ?_
  refine s_ci X.1 (st_m_in l x2 1 12) 3 (lw_S q1314 q1315 q59 q1316) ⟨rfl, rfl⟩ (by decide +kernel) ⟨by decide, by decide⟩ ⟨by decide, by decide⟩ rfl hl.1 rfl (Nat.le_of_ble_eq_true rfl) dX1_fault_4 ?_
  refine lv_if_ne (tgt := 12) hx hb dX1_fault_7 (by decide) (fun c1 => ?_) (fun c1 => ?_)
  · refine lv_aload_n hx hb dX1_fault_12 rfl (lv_at hl 0 rfl) ?_
    refine lv_iload_n hx hb dX1_fault_13 rfl (lv_at hl 1 rfl) ?_
    refine m_ci X hR hS (mt_looked l D d A a S x1) 1 (lw_V q1325 q1327 qs23 q59 q1328) ⟨rfl, rfl⟩ (by decide +kernel) ⟨by decide, by decide⟩ ⟨by decide, by decide⟩ rfl hl.1 rfl (Nat.le_of_ble_eq_true rfl) dX1_fault_14 (fun H locs hR hS => ?_)
    refine lv_istore_n (lv' := [(3, .int ((m_looked S x1).1)), (0, .ref (a 0)), (1, .int x1), (2, .int x2)]) hx hb dX1_fault_17 rfl hl (by decide) rfl (fun ls hl => ?_)
    refine lv_iload_n hx hb dX1_fault_18 rfl (lv_at hl 0 rfl) ?_
    refine lv_if_ge (tgt := 24) hx hb dX1_fault_19 (by decide) (fun c2 => ?_) (fun c2 => ?_)
    · have okc2 := m_looked_ok S x1 c2
      have hR : MR D d A a S H := okc2.1 ▸ hR
      have okc2_0 : 0 ≤ x1 ∧ x1 < 8 := okc2.2.1
      have okc2_1 : 0 ≤ S.1 7 (Int32.toNatClampNeg x1) := okc2.2.2
      refine lv_aload_n hx hb dX1_fault_24 rfl (lv_at hl 1 rfl) ?_
      refine lv_iload_n hx hb dX1_fault_25 rfl (lv_at hl 2 rfl) ?_
      refine lv_iload_n hx hb dX1_fault_26 rfl (lv_at hl 3 rfl) ?_
      refine m_cv X hR hS (mt_tryAll l D d A a S x1 x2 (okc2_0) (m_fault_o3 S x1 x2 hI hzz c1 c2 okc2_0 okc2_1)) 2 (lw_V q1626 q1628 qs52 q59 q1629) ⟨rfl, rfl⟩ (by decide +kernel) ⟨by decide, by decide⟩ ⟨by decide, by decide⟩ rfl hl.1 rfl (Nat.le_of_ble_eq_true rfl) dX1_fault_27 (fun H locs hR hS => ?_)
      refine lv_aload_n hx hb dX1_fault_30 rfl (lv_at hl 1 rfl) ?_
      refine lv_aload_n hx hb dX1_fault_31 rfl (lv_at hl 1 rfl) ?_
      refine mg_a X hR 47 (by decide) (by decide) q1184 dX1_fault_32 ?_
      refine lv_iconst (v := 0) hx hb dX1_fault_35 (by decide) ?_
      refine m_ld X hR ⟨by decide, rfl, by decide⟩ (ixl 3 3 (by decide) rfl (by decide)) (v := (m_tryAll S x1 x2).1 47 (Int32.toNatClampNeg 0)) rfl dX1_fault_36 ?_
      refine mp_i X hR hS 42 (by decide) rfl rfl rfl q1179 dX1_fault_37 (fun H locs hR hS => ?_)
      refine lv_aload_n hx hb dX1_fault_40 rfl (lv_at hl 1 rfl) ?_
      refine lv_aload_n hx hb dX1_fault_41 rfl (lv_at hl 1 rfl) ?_
      refine mg_a X hR 47 (by decide) (by decide) q1184 dX1_fault_42 ?_
      refine lv_iconst (v := 1) hx hb dX1_fault_45 (by decide) ?_
      refine m_ld X hR ⟨by decide, rfl, by decide⟩ (ixl 3 3 (by decide) rfl (by decide)) (v := (m_tryAll S x1 x2).1 47 (Int32.toNatClampNeg 1)) ((mu_k _ (by decide) _ _ _).trans rfl) dX1_fault_46 ?_
      refine mp_i X hR hS 43 (by decide) rfl rfl rfl q1180 dX1_fault_47 (fun H locs hR hS => ?_)
      refine lv_aload_n hx hb dX1_fault_50 rfl (lv_at hl 1 rfl) ?_
      refine lv_aload_n hx hb dX1_fault_51 rfl (lv_at hl 1 rfl) ?_
      refine mg_a X hR 47 (by decide) (by decide) q1184 dX1_fault_52 ?_
      refine lv_iconst (v := 2) hx hb dX1_fault_55 (by decide) ?_
      refine m_ld X hR ⟨by decide, rfl, by decide⟩ (ixl 3 3 (by decide) rfl (by decide)) (v := (m_tryAll S x1 x2).1 47 (Int32.toNatClampNeg 2)) ((mu_k _ (by decide) _ _ _).trans ((mu_k _ (by decide) _ _ _).trans rfl)) dX1_fault_56 ?_
      refine mp_i X hR hS 44 (by decide) rfl rfl rfl q1181 dX1_fault_57 (fun H locs hR hS => ?_)
      refine lv_aload_n hx hb dX1_fault_60 rfl (lv_at hl 1 rfl) ?_
      refine lv_aload_n hx hb dX1_fault_61 rfl (lv_at hl 1 rfl) ?_
      refine mg_i X hR 45 (by decide) rfl q1182 ((mu_k _ (by decide) _ _ _).trans ((mu_k _ (by decide) _ _ _).trans ((mu_k _ (by decide) _ _ _).trans rfl))) dX1_fault_62 ?_
      refine mp_i X hR hS 2 (by decide) rfl rfl rfl q1139 dX1_fault_65 (fun H locs hR hS => ?_)
      refine lv_aload_n hx hb dX1_fault_68 rfl (lv_at hl 1 rfl) ?_
      refine mg_i X hR 42 (by decide) rfl q1179 ((mu_k _ (by decide) _ _ _).trans ((mu_k _ (by decide) _ _ _).trans ((mu_k _ (by decide) _ _ _).trans (mu_self _ _ _ _)))) dX1_fault_69 ?_
      exact m_ri hx hb hrt (rfl) hlk hR hS hQ (Eq.trans (if_neg c1) (if_pos c2)) dX1_fault_72
    · refine lv_iload_n hx hb dX1_fault_22 rfl (lv_at hl 0 rfl) ?_
      exact m_ri hx hb hrt (rfl) hlk hR hS hQ (Eq.trans (if_neg c1) (if_neg c2)) dX1_fault_23
  · refine lv_iconst (v := (-1)) hx hb dX1_fault_10 (by decide) ?_
    exact m_ri hx hb hrt (rfl) hlk hR hS hQ (if_pos c1) dX1_fault_11
theorem m_explained_o3 (S : MS) (x1 : Int32) (x2 : Int32) (hI : MInv S) (hzz : 0 ≤ x1 ∧ x1 < 8 → S.1 7 (Int32.toNatClampNeg x1) ≤ 48) (c1 : ¬ (m_in x2 1 12) = 0) (c2 : 0 ≤ (m_looked S x1).1) (okc2_0 : 0 ≤ x1 ∧ x1 < 8) (okc2_1 : 0 ≤ S.1 7 (Int32.toNatClampNeg x1)) : S.1 7 (Int32.toNatClampNeg x1) ≤ 48 := by 
  clear hI
  try simp only [m_in_eq] at *
  try simp only [i_le, i_lt, i_eq, Int32.reduceToInt] at *
  try simp only [Int32.reduceToInt] at *
  omega
def m_explained (S : MS) (x1 : Int32) (x2 : Int32) : Int32 × MS := (if (m_in x2 1 12) = 0 then ((-1), S) else (if 0 ≤ (m_looked S x1).1 then (((m_tryAll S x1 x2).1 46 0), (m_tryAll S x1 x2)) else ((m_looked S x1).1, (m_looked S x1).2)))
set_option maxHeartbeats 4000000 in
theorem mt_explained (l : Launch) (D : va_G) (d : Nat → ClassId) (A : Nat → Prop) (a : Nat → Nat) (S : MS) (x1 : Int32) (x2 : Int32) (hI : MInv S) : MI l yX1_explained cX1_explained 4 .int (rm_ 5) D d A a S [.int x1, .int x2] (m_explained S x1 x2) := by
  refine m_startI rfl (Nat.le_of_ble_eq_true rfl) ?_
  intro p e s m av below meth c ls Q X hrt hlk hl hR hQ
  have hx := X.1.1
  have hb := X.1.2.1
  have hown := X.1.2.2.2.1
  have hts := X.1.2.2.2.2
  have hS : va_S A s.heap s.heap [] := va_S.rf
  have hl : lv_has ls 4 [(0, .ref (a 0)), (1, .int x1), (2, .int x2)] := hl
  have hzz : 0 ≤ x1 ∧ x1 < 8 → S.1 7 (Int32.toNatClampNeg x1) ≤ 48 := mi_sz hI
  refine lv_iload_n hx hb dX1_explained_0 rfl (lv_at hl 2 rfl) ?_
  refine lv_iconst (v := 1) hx hb dX1_explained_1 (by decide) ?_
  refine lv_bipush (v := 12) hx hb dX1_explained_2 (by decide) ?_
  refine s_ci X.1 (st_m_in l x2 1 12) 3 (lw_S q1314 q1315 q59 q1316) ⟨rfl, rfl⟩ (by decide +kernel) ⟨by decide, by decide⟩ ⟨by decide, by decide⟩ rfl hl.1 rfl (Nat.le_of_ble_eq_true rfl) dX1_explained_4 ?_
  refine lv_if_ne (tgt := 12) hx hb dX1_explained_7 (by decide) (fun c1 => ?_) (fun c1 => ?_)
  · refine lv_aload_n hx hb dX1_explained_12 rfl (lv_at hl 0 rfl) ?_
    refine lv_iload_n hx hb dX1_explained_13 rfl (lv_at hl 1 rfl) ?_
    refine m_ci X hR hS (mt_looked l D d A a S x1) 1 (lw_V q1325 q1327 qs23 q59 q1328) ⟨rfl, rfl⟩ (by decide +kernel) ⟨by decide, by decide⟩ ⟨by decide, by decide⟩ rfl hl.1 rfl (Nat.le_of_ble_eq_true rfl) dX1_explained_14 (fun H locs hR hS => ?_)
    refine lv_istore_n (lv' := [(3, .int ((m_looked S x1).1)), (0, .ref (a 0)), (1, .int x1), (2, .int x2)]) hx hb dX1_explained_17 rfl hl (by decide) rfl (fun ls hl => ?_)
    refine lv_iload_n hx hb dX1_explained_18 rfl (lv_at hl 0 rfl) ?_
    refine lv_if_ge (tgt := 24) hx hb dX1_explained_19 (by decide) (fun c2 => ?_) (fun c2 => ?_)
    · have okc2 := m_looked_ok S x1 c2
      have hR : MR D d A a S H := okc2.1 ▸ hR
      have okc2_0 : 0 ≤ x1 ∧ x1 < 8 := okc2.2.1
      have okc2_1 : 0 ≤ S.1 7 (Int32.toNatClampNeg x1) := okc2.2.2
      refine lv_aload_n hx hb dX1_explained_24 rfl (lv_at hl 1 rfl) ?_
      refine lv_iload_n hx hb dX1_explained_25 rfl (lv_at hl 2 rfl) ?_
      refine lv_iload_n hx hb dX1_explained_26 rfl (lv_at hl 3 rfl) ?_
      refine m_cv X hR hS (mt_tryAll l D d A a S x1 x2 (okc2_0) (m_explained_o3 S x1 x2 hI hzz c1 c2 okc2_0 okc2_1)) 2 (lw_V q1626 q1628 qs52 q59 q1629) ⟨rfl, rfl⟩ (by decide +kernel) ⟨by decide, by decide⟩ ⟨by decide, by decide⟩ rfl hl.1 rfl (Nat.le_of_ble_eq_true rfl) dX1_explained_27 (fun H locs hR hS => ?_)
      refine lv_aload_n hx hb dX1_explained_30 rfl (lv_at hl 1 rfl) ?_
      refine mg_i X hR 46 (by decide) rfl q1183 rfl dX1_explained_31 ?_
      exact m_ri hx hb hrt (rfl) hlk hR hS hQ (Eq.trans (if_neg c1) (if_pos c2)) dX1_explained_34
    · refine lv_iload_n hx hb dX1_explained_22 rfl (lv_at hl 0 rfl) ?_
      exact m_ri hx hb hrt (rfl) hlk hR hS hQ (Eq.trans (if_neg c1) (if_neg c2)) dX1_explained_23
  · refine lv_iconst (v := (-1)) hx hb dX1_explained_10 (by decide) ?_
    exact m_ri hx hb hrt (rfl) hlk hR hS hQ (if_pos c1) dX1_explained_11
theorem m_windy_o5 (S : MS) (x1 : Int32) (x2 : Int32) (x3 : Int32) (x4 : Int32) (x5 : Int32) (y7_41 : Int32) (hI : MInv S) (hzz : 0 ≤ x1 ∧ x1 < 8 → S.1 7 (Int32.toNatClampNeg x1) ≤ 48) (c1 : ¬ (m_in x2 1 12) = 0) (c2 : ¬ (m_isFault x3 x4 x5) = 0) (c3 : 0 ≤ (m_looked S x1).1) (okc3_0 : 0 ≤ x1 ∧ x1 < 8) (okc3_1 : 0 ≤ S.1 7 (Int32.toNatClampNeg x1)) (hi7 : 0 ≤ y7_41) (c4 : ¬ (S.1 7 (Int32.toNatClampNeg x1)) ≤ y7_41) : 0 ≤ ((48 * x1) + y7_41) ∧ ((48 * x1) + y7_41) < 384 := by 
  clear hI
  try simp only [m_in_eq] at *
  try simp only [i_le, i_lt, i_eq, Int32.reduceToInt] at *
  first | (have e_0 := m32 (x := 48) (y := x1) (by (try simp only [Int32.reduceToInt]); omega); (try simp only [Int32.reduceToInt] at e_0)) | skip
  first | (have e_1 := a32 (x := (48 * x1)) (y := y7_41) (by (try simp only [Int32.reduceToInt]); omega); (try simp only [Int32.reduceToInt] at e_1)) | skip
  try simp only [Int32.reduceToInt] at *
  omega
def m_windy_L41 (S : MS) (x1 : Int32) (x2 : Int32) (x3 : Int32) (x4 : Int32) (x5 : Int32) : Nat → Int32 → Int32 × Int32
  | 0, y7_41 => (0, y7_41)
  | f41 + 1, y7_41 => (if (S.1 7 (Int32.toNatClampNeg x1)) ≤ y7_41 then (1, y7_41) else (if (S.1 8 (Int32.toNatClampNeg ((48 * x1) + y7_41))) ≤ (m_dueAt x2 y7_41 x3 x4 x5) then (m_windy_L41 S x1 x2 x3 x4 x5 f41 (y7_41 + 1)) else (0, y7_41)))
theorem m_windy_L41_s (S : MS) (x1 : Int32) (x2 : Int32) (x3 : Int32) (x4 : Int32) (x5 : Int32) (f41 : Nat) (y7_41 : Int32) : m_windy_L41 S x1 x2 x3 x4 x5 (f41 + 1) y7_41 = (if (S.1 7 (Int32.toNatClampNeg x1)) ≤ y7_41 then (1, y7_41) else (if (S.1 8 (Int32.toNatClampNeg ((48 * x1) + y7_41))) ≤ (m_dueAt x2 y7_41 x3 x4 x5) then (m_windy_L41 S x1 x2 x3 x4 x5 f41 (y7_41 + 1)) else (0, y7_41))) := rfl
def m_windy_R41 (S : MS) (x1 : Int32) (x2 : Int32) (x3 : Int32) (x4 : Int32) (x5 : Int32) : Int32 × Int32 := m_windy_L41 S x1 x2 x3 x4 x5 ((S.1 7 (Int32.toNatClampNeg x1) - 0 : Int32).toNatClampNeg + 1) 0
theorem m_windy_o7 (S : MS) (x1 : Int32) (x2 : Int32) (x3 : Int32) (x4 : Int32) (x5 : Int32) (y7_41 : Int32) (hI : MInv S) (hzz : 0 ≤ x1 ∧ x1 < 8 → S.1 7 (Int32.toNatClampNeg x1) ≤ 48) (c1 : ¬ (m_in x2 1 12) = 0) (c2 : ¬ (m_isFault x3 x4 x5) = 0) (c3 : 0 ≤ (m_looked S x1).1) (okc3_0 : 0 ≤ x1 ∧ x1 < 8) (okc3_1 : 0 ≤ S.1 7 (Int32.toNatClampNeg x1)) (hi7 : 0 ≤ y7_41) (c4 : ¬ (S.1 7 (Int32.toNatClampNeg x1)) ≤ y7_41) (c6 : (S.1 8 (Int32.toNatClampNeg ((48 * x1) + y7_41))) ≤ (m_dueAt x2 y7_41 x3 x4 x5)) : 0 ≤ (y7_41 + 1) := by 
  clear hI
  try simp only [m_in_eq] at *
  try simp only [i_le, i_lt, i_eq, Int32.reduceToInt] at *
  first | (have e_0 := m32 (x := 48) (y := x1) (by (try simp only [Int32.reduceToInt]); omega); (try simp only [Int32.reduceToInt] at e_0)) | skip
  first | (have e_1 := a32 (x := (48 * x1)) (y := y7_41) (by (try simp only [Int32.reduceToInt]); omega); (try simp only [Int32.reduceToInt] at e_1)) | skip
  first | (have e_2 := a32 (x := y7_41) (y := 1) (by (try simp only [Int32.reduceToInt]); omega); (try simp only [Int32.reduceToInt] at e_2)) | skip
  try simp only [Int32.reduceToInt] at *
  omega
theorem m_windy_o8 (S : MS) (x1 : Int32) (x2 : Int32) (x3 : Int32) (x4 : Int32) (x5 : Int32) (y7_41 : Int32) (hI : MInv S) (hzz : 0 ≤ x1 ∧ x1 < 8 → S.1 7 (Int32.toNatClampNeg x1) ≤ 48) (c1 : ¬ (m_in x2 1 12) = 0) (c2 : ¬ (m_isFault x3 x4 x5) = 0) (c3 : 0 ≤ (m_looked S x1).1) (okc3_0 : 0 ≤ x1 ∧ x1 < 8) (okc3_1 : 0 ≤ S.1 7 (Int32.toNatClampNeg x1)) (hi7 : 0 ≤ y7_41) (c4 : ¬ (S.1 7 (Int32.toNatClampNeg x1)) ≤ y7_41) (c6 : (S.1 8 (Int32.toNatClampNeg ((48 * x1) + y7_41))) ≤ (m_dueAt x2 y7_41 x3 x4 x5)) : y7_41 < S.1 7 (Int32.toNatClampNeg x1) := by 
  clear hI
  try simp only [m_in_eq] at *
  try simp only [i_le, i_lt, i_eq, Int32.reduceToInt] at *
  first | (have e_0 := m32 (x := 48) (y := x1) (by (try simp only [Int32.reduceToInt]); omega); (try simp only [Int32.reduceToInt] at e_0)) | skip
  first | (have e_1 := a32 (x := (48 * x1)) (y := y7_41) (by (try simp only [Int32.reduceToInt]); omega); (try simp only [Int32.reduceToInt] at e_1)) | skip
  try simp only [Int32.reduceToInt] at *
  omega
def m_windy (S : MS) (x1 : Int32) (x2 : Int32) (x3 : Int32) (x4 : Int32) (x5 : Int32) : Int32 × MS := (if (m_in x2 1 12) = 0 then ((-1), S) else (if (m_isFault x3 x4 x5) = 0 then ((-1), S) else (if 0 ≤ (m_looked S x1).1 then (if (m_windy_R41 S x1 x2 x3 x4 x5).1 = 0 then (0, (mu S 2 0 ((m_windy_R41 S x1 x2 x3 x4 x5).2))) else (1, S)) else ((m_looked S x1).1, (m_looked S x1).2))))
set_option maxHeartbeats 4000000 in
theorem mt_windy (l : Launch) (D : va_G) (d : Nat → ClassId) (A : Nat → Prop) (a : Nat → Nat) (S : MS) (x1 : Int32) (x2 : Int32) (x3 : Int32) (x4 : Int32) (x5 : Int32) (hI : MInv S) : MI l yX1_windy cX1_windy 8 .int (rm_ 3) D d A a S [.int x1, .int x2, .int x3, .int x4, .int x5] (m_windy S x1 x2 x3 x4 x5) := by
  refine m_startI rfl (Nat.le_of_ble_eq_true rfl) ?_
  intro p e s m av below meth c ls Q X hrt hlk hl hR hQ
  have hx := X.1.1
  have hb := X.1.2.1
  have hown := X.1.2.2.2.1
  have hts := X.1.2.2.2.2
  have hS : va_S A s.heap s.heap [] := va_S.rf
  have hl : lv_has ls 8 [(0, .ref (a 0)), (1, .int x1), (2, .int x2), (3, .int x3), (4, .int x4), (5, .int x5)] := hl
  have hzz : 0 ≤ x1 ∧ x1 < 8 → S.1 7 (Int32.toNatClampNeg x1) ≤ 48 := mi_sz hI
  refine lv_iload_n hx hb dX1_windy_0 rfl (lv_at hl 2 rfl) ?_
  refine lv_iconst (v := 1) hx hb dX1_windy_1 (by decide) ?_
  refine lv_bipush (v := 12) hx hb dX1_windy_2 (by decide) ?_
  refine s_ci X.1 (st_m_in l x2 1 12) 3 (lw_S q1314 q1315 q59 q1316) ⟨rfl, rfl⟩ (by decide +kernel) ⟨by decide, by decide⟩ ⟨by decide, by decide⟩ rfl hl.1 rfl (Nat.le_of_ble_eq_true rfl) dX1_windy_4 ?_
  refine lv_if_eq (tgt := 21) hx hb dX1_windy_7 (by decide) (fun c1 => ?_) (fun c1 => ?_)
  · refine lv_iconst (v := (-1)) hx hb dX1_windy_21 (by decide) ?_
    exact m_ri hx hb hrt (rfl) hlk hR hS hQ (if_pos c1) dX1_windy_22
  · refine lv_iload_n hx hb dX1_windy_10 rfl (lv_at hl 3 rfl) ?_
    refine lv_iload hx hb dX1_windy_11 (lv_at hl 4 rfl) ?_
    refine lv_iload hx hb dX1_windy_13 (lv_at hl 5 rfl) ?_
    refine s_ci X.1 (st_m_isFault l x3 x4 x5) 3 (lw_S q1608 q1609 q59 q1610) ⟨rfl, rfl⟩ (by decide +kernel) ⟨by decide, by decide⟩ ⟨by decide, by decide⟩ rfl hl.1 rfl (Nat.le_of_ble_eq_true rfl) dX1_windy_15 ?_
    refine lv_if_ne (tgt := 23) hx hb dX1_windy_18 (by decide) (fun c2 => ?_) (fun c2 => ?_)
    · refine lv_aload_n hx hb dX1_windy_23 rfl (lv_at hl 0 rfl) ?_
      refine lv_iload_n hx hb dX1_windy_24 rfl (lv_at hl 1 rfl) ?_
      refine m_ci X hR hS (mt_looked l D d A a S x1) 1 (lw_V q1325 q1327 qs23 q59 q1328) ⟨rfl, rfl⟩ (by decide +kernel) ⟨by decide, by decide⟩ ⟨by decide, by decide⟩ rfl hl.1 rfl (Nat.le_of_ble_eq_true rfl) dX1_windy_25 (fun H locs hR hS => ?_)
      refine lv_istore (lv' := [(6, .int ((m_looked S x1).1)), (0, .ref (a 0)), (1, .int x1), (2, .int x2), (3, .int x3), (4, .int x4), (5, .int x5)]) hx hb dX1_windy_28 hl (by decide) rfl (fun ls hl => ?_)
      refine lv_iload hx hb dX1_windy_30 (lv_at hl 0 rfl) ?_
      refine lv_if_ge (tgt := 38) hx hb dX1_windy_32 (by decide) (fun c3 => ?_) (fun c3 => ?_)
      · have okc3 := m_looked_ok S x1 c3
        have hR : MR D d A a S H := okc3.1 ▸ hR
        have okc3_0 : 0 ≤ x1 ∧ x1 < 8 := okc3.2.1
        have okc3_1 : 0 ≤ S.1 7 (Int32.toNatClampNeg x1) := okc3.2.2
        refine lv_iconst (v := 0) hx hb dX1_windy_38 (by decide) ?_
        refine lv_istore (lv' := [(7, .int 0), (6, .int ((m_looked S x1).1)), (0, .ref (a 0)), (1, .int x1), (2, .int x2), (3, .int x3), (4, .int x4), (5, .int x5)]) hx hb dX1_windy_39 hl (by decide) rfl (fun ls hl => ?_)
        have K41b : ∀ (H : Heap) (locs : List Loc) (ls : Array Slot), ¬ (m_windy_R41 S x1 x2 x3 x4 x5).1 = 0 → MR D d A a S H → va_S A s.heap H locs → lv_has ls 8 [(7, .int ((m_windy_R41 S x1 x2 x3 x4 x5).2)), (6, .int ((m_looked S x1).1)), (0, .ref (a 0)), (1, .int x1), (2, .int x2), (3, .int x3), (4, .int x4), (5, .int x5)] → W p l e (rm_ 3) s m av below meth c H locs 0 0 Q (F0 m 92 ls []) := by
          intro H locs ls cx41 hR hS hl
          refine lv_iconst (v := 1) hx hb dX1_windy_92 (by decide) ?_
          exact m_ri hx hb hrt (rfl) hlk hR hS hQ (Eq.trans (if_neg c1) (Eq.trans (if_neg c2) (Eq.trans (if_pos c3) (if_neg cx41)))) dX1_windy_93
        have K41 : ∀ (H : Heap) (locs : List Loc) (ls : Array Slot), (m_windy_R41 S x1 x2 x3 x4 x5).1 = 0 → MR D d A a S H → va_S A s.heap H locs → lv_has ls 8 [(7, .int ((m_windy_R41 S x1 x2 x3 x4 x5).2)), (6, .int ((m_looked S x1).1)), (0, .ref (a 0)), (1, .int x1), (2, .int x2), (3, .int x3), (4, .int x4), (5, .int x5)] → W p l e (rm_ 3) s m av below meth c H locs 0 0 Q (F0 m 78 ls []) := by
          intro H locs ls cx41 hR hS hl
          refine lv_aload_n hx hb dX1_windy_78 rfl (lv_at hl 2 rfl) ?_
          refine lv_iload hx hb dX1_windy_79 (lv_at hl 0 rfl) ?_
          refine mp_i X hR hS 2 (by decide) rfl rfl rfl q1139 dX1_windy_81 (fun H locs hR hS => ?_)
          refine lv_iconst (v := 0) hx hb dX1_windy_84 (by decide) ?_
          exact m_ri hx hb hrt (rfl) hlk hR hS hQ (Eq.trans (if_neg c1) (Eq.trans (if_neg c2) (Eq.trans (if_pos c3) (if_pos cx41)))) dX1_windy_85
        have L41 : ∀ (f41 : Nat) (y7_41 : Int32) (H : Heap) (locs : List Loc) (ls : Array Slot), (S.1 7 (Int32.toNatClampNeg x1) - y7_41 : Int32).toNatClampNeg < f41 → 0 ≤ y7_41 → m_windy_L41 S x1 x2 x3 x4 x5 (f41) y7_41 = (m_windy_R41 S x1 x2 x3 x4 x5) → MR D d A a S H → va_S A s.heap H locs → lv_has ls 8 [(7, .int y7_41), (6, .int ((m_looked S x1).1)), (0, .ref (a 0)), (1, .int x1), (2, .int x2), (3, .int x3), (4, .int x4), (5, .int x5)] → W p l e (rm_ 3) s m av below meth c H locs 0 0 Q (F0 m 41 ls []) := by
          intro f41
          induction f41 with
          | zero => intro y7_41 H locs ls hf; exact absurd hf (Nat.not_lt_zero _)
          | succ f41 ih =>
            intro y7_41 H locs ls hf hi7 hE hR hS hl
            refine lv_iload hx hb dX1_windy_41 (lv_at hl 0 rfl) ?_
            refine lv_aload_n hx hb dX1_windy_43 rfl (lv_at hl 2 rfl) ?_
            refine mg_a X hR 7 (by decide) (by decide) q1144 dX1_windy_44 ?_
            refine lv_iload_n hx hb dX1_windy_47 rfl (lv_at hl 3 rfl) ?_
            refine m_ld X hR ⟨by decide, rfl, by decide⟩ (ixl 8 8 (by decide) rfl (okc3_0)) (v := S.1 7 (Int32.toNatClampNeg x1)) rfl dX1_windy_48 ?_
            refine lv_icmp_ge (tgt := 92) hx hb dX1_windy_49 (by decide) (fun c4 => ?_) (fun c4 => ?_)
            · have e0 : (m_windy_R41 S x1 x2 x3 x4 x5) = (1, y7_41) := Eq.trans (Eq.symm hE) (Eq.trans (m_windy_L41_s _ _ _ _ _ _ _ _) (if_pos c4))
              exact K41b _ _ _ (by rw [e0]; exact (by decide : ¬ (1 : Int32) = 0)) hR hS (by rw [e0]; exact lv_sub hl [0, 1, 2, 3, 4, 5, 6, 7] rfl)
            · refine lv_aload_n hx hb dX1_windy_52 rfl (lv_at hl 2 rfl) ?_
              refine mg_a X hR 8 (by decide) (by decide) q1145 dX1_windy_53 ?_
              refine lv_bipush (v := 48) hx hb dX1_windy_56 (by decide) ?_
              refine lv_iload_n hx hb dX1_windy_58 rfl (lv_at hl 3 rfl) ?_
              refine lv_imul hx hb dX1_windy_59 ?_
              refine lv_iload hx hb dX1_windy_60 (lv_at hl 0 rfl) ?_
              refine lv_iadd hx hb dX1_windy_62 ?_
              refine m_ld X hR ⟨by decide, rfl, by decide⟩ (ixl 384 384 (by decide) rfl (m_windy_o5 S x1 x2 x3 x4 x5 y7_41 hI hzz c1 c2 c3 okc3_0 okc3_1 hi7 c4)) (v := S.1 8 (Int32.toNatClampNeg ((48 * x1) + y7_41))) rfl dX1_windy_63 ?_
              refine lv_iload_n hx hb dX1_windy_64 rfl (lv_at hl 4 rfl) ?_
              refine lv_iload hx hb dX1_windy_65 (lv_at hl 0 rfl) ?_
              refine lv_iload_n hx hb dX1_windy_67 rfl (lv_at hl 5 rfl) ?_
              refine lv_iload hx hb dX1_windy_68 (lv_at hl 6 rfl) ?_
              refine lv_iload hx hb dX1_windy_70 (lv_at hl 7 rfl) ?_
              refine s_ci X.1 (st_m_dueAt l x2 y7_41 x3 x4 x5) 5 (lw_S q1611 q1612 q59 q1613) ⟨rfl, rfl⟩ (by decide +kernel) ⟨by decide, by decide⟩ ⟨by decide, by decide⟩ rfl hl.1 rfl (Nat.le_of_ble_eq_true rfl) dX1_windy_72 ?_
              refine lv_icmp_le (tgt := 86) hx hb dX1_windy_75 (by decide) (fun c6 => ?_) (fun c6 => ?_)
              · refine lv_iinc (v := (y7_41 + 1)) (lv' := [(7, .int (y7_41 + 1)), (6, .int ((m_looked S x1).1)), (0, .ref (a 0)), (1, .int x1), (2, .int x2), (3, .int x3), (4, .int x4), (5, .int x5)]) hx hb dX1_windy_86 hl (k := 0) rfl rfl (by decide) rfl (fun ls hl => ?_)
                refine lv_goto (tgt := 41) hx hb dX1_windy_89 (by decide) ?_
                exact ih (y7_41 + 1) _ _  _ (Nat.lt_of_lt_of_le (up_ hi7 (m_windy_o8 S x1 x2 x3 x4 x5 y7_41 hI hzz c1 c2 c3 okc3_0 okc3_1 hi7 c4 c6)) (Nat.le_of_lt_succ hf)) (m_windy_o7 S x1 x2 x3 x4 x5 y7_41 hI hzz c1 c2 c3 okc3_0 okc3_1 hi7 c4 c6) (Eq.trans (Eq.symm (Eq.trans (m_windy_L41_s _ _ _ _ _ _ _ _) (Eq.trans (if_neg c4) (if_pos c6)))) hE) hR hS (lv_sub hl [0, 1, 2, 3, 4, 5, 6, 7] rfl)
              · have e0 : (m_windy_R41 S x1 x2 x3 x4 x5) = (0, y7_41) := Eq.trans (Eq.symm hE) (Eq.trans (m_windy_L41_s _ _ _ _ _ _ _ _) (Eq.trans (if_neg c4) (if_neg c6)))
                exact K41 _ _ _ (by rw [e0]) hR hS (by rw [e0]; exact lv_sub hl [0, 1, 2, 3, 4, 5, 6, 7] rfl)
        exact L41 _ 0 _ _  _ (Nat.lt_succ_self _) (by decide) rfl hR hS (lv_sub hl [0, 1, 2, 3, 4, 5, 6, 7] rfl)
      · refine lv_iload hx hb dX1_windy_35 (lv_at hl 0 rfl) ?_
        exact m_ri hx hb hrt (rfl) hlk hR hS hQ (Eq.trans (if_neg c1) (Eq.trans (if_neg c2) (if_neg c3))) dX1_windy_37
    · refine lv_iconst (v := (-1)) hx hb dX1_windy_21 (by decide) ?_
      exact m_ri hx hb hrt (rfl) hlk hR hS hQ (Eq.trans (if_neg c1) (if_pos c2)) dX1_windy_22
theorem m_tryGears_o2 (S : MS) (x3 : Int32) (y8_9 : Int32) (hn : 1 ≤ x3 ∧ x3 ≤ 2) (hI : MInv S) (hi8 : 0 ≤ y8_9) (c1 : ¬ x3 ≤ y8_9) : 0 ≤ (2 * y8_9) ∧ (2 * y8_9) < 4 := by 
  clear hI
  try simp only [i_le, i_lt, i_eq, Int32.reduceToInt] at *
  first | (have e_0 := m32 (x := 2) (y := y8_9) (by (try simp only [Int32.reduceToInt]); omega); (try simp only [Int32.reduceToInt] at e_0)) | skip
  try simp only [Int32.reduceToInt] at *
  omega
def m_tryGears_v33 (S : MS) (y4_9 : Int64) (y8_9 : Int32) : Int64 := (y4_9 * (Int32.toInt64 (S.1 49 (Int32.toNatClampNeg (S.1 52 (Int32.toNatClampNeg (2 * y8_9)))))))
theorem m_tryGears_o3 (S : MS) (x3 : Int32) (y8_9 : Int32) (hn : 1 ≤ x3 ∧ x3 ≤ 2) (hI : MInv S) (hi8 : 0 ≤ y8_9) (c1 : ¬ x3 ≤ y8_9) (hx29 : 0 ≤ (2 * y8_9) ∧ (2 * y8_9) < 4) (h4a : 0 ≤ (S.1 52 (Int32.toNatClampNeg (2 * y8_9))) ∧ (S.1 52 (Int32.toNatClampNeg (2 * y8_9))) < 12) : 0 ≤ ((2 * y8_9) + 1) ∧ ((2 * y8_9) + 1) < 4 := by 
  clear hI
  try simp only [i_le, i_lt, i_eq, Int32.reduceToInt] at *
  first | (have e_0 := m32 (x := 2) (y := y8_9) (by (try simp only [Int32.reduceToInt]); omega); (try simp only [Int32.reduceToInt] at e_0)) | skip
  first | (have e_1 := a32 (x := (2 * y8_9)) (y := 1) (by (try simp only [Int32.reduceToInt]); omega); (try simp only [Int32.reduceToInt] at e_1)) | skip
  try simp only [Int32.reduceToInt] at *
  omega
def m_tryGears_v55 (S : MS) (y6_9 : Int64) (y8_9 : Int32) : Int64 := (y6_9 * (Int32.toInt64 (S.1 49 (Int32.toNatClampNeg (S.1 52 (Int32.toNatClampNeg ((2 * y8_9) + 1)))))))
def m_tryGears_L9 (S : MS) (x3 : Int32) : Nat → Int64 → Int64 → Int32 → Int64 × Int64 × Int32
  | 0, y4_9, y6_9, y8_9 => (y4_9, y6_9, y8_9)
  | f9 + 1, y4_9, y6_9, y8_9 => (if x3 ≤ y8_9 then (y4_9, y6_9, y8_9) else (m_tryGears_L9 S x3 f9 (m_tryGears_v33 S y4_9 y8_9) (m_tryGears_v55 S y6_9 y8_9) (y8_9 + 1)))
theorem m_tryGears_L9_s (S : MS) (x3 : Int32) (f9 : Nat) (y4_9 : Int64) (y6_9 : Int64) (y8_9 : Int32) : m_tryGears_L9 S x3 (f9 + 1) y4_9 y6_9 y8_9 = (if x3 ≤ y8_9 then (y4_9, y6_9, y8_9) else (m_tryGears_L9 S x3 f9 (m_tryGears_v33 S y4_9 y8_9) (m_tryGears_v55 S y6_9 y8_9) (y8_9 + 1))) := rfl
def m_tryGears_R9 (S : MS) (x3 : Int32) : Int64 × Int64 × Int32 := m_tryGears_L9 S x3 ((x3 - 0 : Int32).toNatClampNeg + 1) 1 1 0
theorem m_tryGears_o6 (S : MS) (x3 : Int32) (y8_128 : Int32) (hn : 1 ≤ x3 ∧ x3 ≤ 2) (hI : MInv S) (c4 : (S.1 55 0) = 0) (hi8 : 0 ≤ y8_128) (c5 : ¬ 4 ≤ y8_128) : 0 ≤ y8_128 ∧ y8_128 < 4 := by 
  clear hI
  try simp only [i_le, i_lt, i_eq, Int32.reduceToInt] at *
  try simp only [Int32.reduceToInt] at *
  omega
def m_tryGears_L128 : Nat → Int32 → MS → Int32 × MS
  | 0, y8_128, S_128 => (y8_128, S_128)
  | f128 + 1, y8_128, S_128 => (if 4 ≤ y8_128 then (y8_128, S_128) else (m_tryGears_L128 f128 (y8_128 + 1) (mu S_128 51 (Int32.toNatClampNeg y8_128) (S_128.1 52 (Int32.toNatClampNeg y8_128)))))
theorem m_tryGears_L128_s (f128 : Nat) (y8_128 : Int32) (S_128 : MS) : m_tryGears_L128 (f128 + 1) y8_128 S_128 = (if 4 ≤ y8_128 then (y8_128, S_128) else (m_tryGears_L128 f128 (y8_128 + 1) (mu S_128 51 (Int32.toNatClampNeg y8_128) (S_128.1 52 (Int32.toNatClampNeg y8_128))))) := rfl
def m_tryGears_R128 (S : MS) (x3 : Int32) : Int32 × MS := m_tryGears_L128 ((4 - 0 : Int32).toNatClampNeg + 1) 0 (ml (ml (mu S 55 0 1) 53 ((m_tryGears_R9 S x3).1)) 54 ((m_tryGears_R9 S x3).2.1))
theorem m_tryGears_o9 (S : MS) (x1 : Int32) (x2 : Int32) (x3 : Int32) (y8_128x : Int32) (hn : 1 ≤ x3 ∧ x3 ≤ 2) (hI : MInv S) (c4 : ¬ (S.1 55 0) = 0) (c7 : ¬ ((m_differs (S.2 53) (S.2 54) (Int32.toInt64 x1) (Int32.toInt64 x2)) * (m_tryGears_R9 S x3).2.1) ≤ ((m_differs ((m_tryGears_R9 S x3).1) ((m_tryGears_R9 S x3).2.1) (Int32.toInt64 x1) (Int32.toInt64 x2)) * (S.2 54))) (hi8 : 0 ≤ y8_128x) (c8 : ¬ 4 ≤ y8_128x) : 0 ≤ y8_128x ∧ y8_128x < 4 := by 
  clear hI c7
  try simp only [i_le, i_lt, i_eq, Int32.reduceToInt] at *
  try simp only [Int32.reduceToInt] at *
  omega
def m_tryGears_L128x : Nat → Int32 → MS → Int32 × MS
  | 0, y8_128x, S_128x => (y8_128x, S_128x)
  | f128x + 1, y8_128x, S_128x => (if 4 ≤ y8_128x then (y8_128x, S_128x) else (m_tryGears_L128x f128x (y8_128x + 1) (mu S_128x 51 (Int32.toNatClampNeg y8_128x) (S_128x.1 52 (Int32.toNatClampNeg y8_128x)))))
theorem m_tryGears_L128x_s (f128x : Nat) (y8_128x : Int32) (S_128x : MS) : m_tryGears_L128x (f128x + 1) y8_128x S_128x = (if 4 ≤ y8_128x then (y8_128x, S_128x) else (m_tryGears_L128x f128x (y8_128x + 1) (mu S_128x 51 (Int32.toNatClampNeg y8_128x) (S_128x.1 52 (Int32.toNatClampNeg y8_128x))))) := rfl
def m_tryGears_R128x (S : MS) (x3 : Int32) : Int32 × MS := m_tryGears_L128x ((4 - 0 : Int32).toNatClampNeg + 1) 0 (ml (ml (mu S 55 0 1) 53 ((m_tryGears_R9 S x3).1)) 54 ((m_tryGears_R9 S x3).2.1))
theorem m_tryGears_o10 (S : MS) (x3 : Int32) (y8_128 : Int32) (hn : 1 ≤ x3 ∧ x3 ≤ 2) (hI : MInv S) (c4 : (S.1 55 0) = 0) (hi8 : 0 ≤ y8_128) (c5 : ¬ 4 ≤ y8_128) : 0 ≤ (y8_128 + 1) := by 
  clear hI
  try simp only [i_le, i_lt, i_eq, Int32.reduceToInt] at *
  first | (have e_0 := a32 (x := y8_128) (y := 1) (by (try simp only [Int32.reduceToInt]); omega); (try simp only [Int32.reduceToInt] at e_0)) | skip
  try simp only [Int32.reduceToInt] at *
  omega
theorem m_tryGears_o11 (S : MS) (x3 : Int32) (y8_128 : Int32) (hn : 1 ≤ x3 ∧ x3 ≤ 2) (hI : MInv S) (c4 : (S.1 55 0) = 0) (hi8 : 0 ≤ y8_128) (c5 : ¬ 4 ≤ y8_128) : y8_128 < 4 := by 
  clear hI
  try simp only [i_le, i_lt, i_eq, Int32.reduceToInt] at *
  try simp only [Int32.reduceToInt] at *
  omega
theorem m_tryGears_o12 (S : MS) (x1 : Int32) (x2 : Int32) (x3 : Int32) (y8_128x : Int32) (hn : 1 ≤ x3 ∧ x3 ≤ 2) (hI : MInv S) (c4 : ¬ (S.1 55 0) = 0) (c7 : ¬ ((m_differs (S.2 53) (S.2 54) (Int32.toInt64 x1) (Int32.toInt64 x2)) * (m_tryGears_R9 S x3).2.1) ≤ ((m_differs ((m_tryGears_R9 S x3).1) ((m_tryGears_R9 S x3).2.1) (Int32.toInt64 x1) (Int32.toInt64 x2)) * (S.2 54))) (hi8 : 0 ≤ y8_128x) (c8 : ¬ 4 ≤ y8_128x) : 0 ≤ (y8_128x + 1) := by 
  clear hI c7
  try simp only [i_le, i_lt, i_eq, Int32.reduceToInt] at *
  first | (have e_0 := a32 (x := y8_128x) (y := 1) (by (try simp only [Int32.reduceToInt]); omega); (try simp only [Int32.reduceToInt] at e_0)) | skip
  try simp only [Int32.reduceToInt] at *
  omega
theorem m_tryGears_o13 (S : MS) (x1 : Int32) (x2 : Int32) (x3 : Int32) (y8_128x : Int32) (hn : 1 ≤ x3 ∧ x3 ≤ 2) (hI : MInv S) (c4 : ¬ (S.1 55 0) = 0) (c7 : ¬ ((m_differs (S.2 53) (S.2 54) (Int32.toInt64 x1) (Int32.toInt64 x2)) * (m_tryGears_R9 S x3).2.1) ≤ ((m_differs ((m_tryGears_R9 S x3).1) ((m_tryGears_R9 S x3).2.1) (Int32.toInt64 x1) (Int32.toInt64 x2)) * (S.2 54))) (hi8 : 0 ≤ y8_128x) (c8 : ¬ 4 ≤ y8_128x) : y8_128x < 4 := by 
  clear hI c7
  try simp only [i_le, i_lt, i_eq, Int32.reduceToInt] at *
  try simp only [Int32.reduceToInt] at *
  omega
theorem m_tryGears_o14 (S : MS) (x3 : Int32) (y8_9 : Int32) (hn : 1 ≤ x3 ∧ x3 ≤ 2) (hI : MInv S) (hi8 : 0 ≤ y8_9) (c1 : ¬ x3 ≤ y8_9) (hx29 : 0 ≤ (2 * y8_9) ∧ (2 * y8_9) < 4) (h4a : 0 ≤ (S.1 52 (Int32.toNatClampNeg (2 * y8_9))) ∧ (S.1 52 (Int32.toNatClampNeg (2 * y8_9))) < 12) (hx51 : 0 ≤ ((2 * y8_9) + 1) ∧ ((2 * y8_9) + 1) < 4) (h4b : 0 ≤ (S.1 52 (Int32.toNatClampNeg ((2 * y8_9) + 1))) ∧ (S.1 52 (Int32.toNatClampNeg ((2 * y8_9) + 1))) < 12) : 0 ≤ (y8_9 + 1) := by 
  clear hI
  try simp only [i_le, i_lt, i_eq, Int32.reduceToInt] at *
  first | (have e_0 := m32 (x := 2) (y := y8_9) (by (try simp only [Int32.reduceToInt]); omega); (try simp only [Int32.reduceToInt] at e_0)) | skip
  first | (have e_1 := a32 (x := (2 * y8_9)) (y := 1) (by (try simp only [Int32.reduceToInt]); omega); (try simp only [Int32.reduceToInt] at e_1)) | skip
  first | (have e_2 := a32 (x := y8_9) (y := 1) (by (try simp only [Int32.reduceToInt]); omega); (try simp only [Int32.reduceToInt] at e_2)) | skip
  try simp only [Int32.reduceToInt] at *
  omega
theorem m_tryGears_o15 (S : MS) (x3 : Int32) (y8_9 : Int32) (hn : 1 ≤ x3 ∧ x3 ≤ 2) (hI : MInv S) (hi8 : 0 ≤ y8_9) (c1 : ¬ x3 ≤ y8_9) (hx29 : 0 ≤ (2 * y8_9) ∧ (2 * y8_9) < 4) (h4a : 0 ≤ (S.1 52 (Int32.toNatClampNeg (2 * y8_9))) ∧ (S.1 52 (Int32.toNatClampNeg (2 * y8_9))) < 12) (hx51 : 0 ≤ ((2 * y8_9) + 1) ∧ ((2 * y8_9) + 1) < 4) (h4b : 0 ≤ (S.1 52 (Int32.toNatClampNeg ((2 * y8_9) + 1))) ∧ (S.1 52 (Int32.toNatClampNeg ((2 * y8_9) + 1))) < 12) : y8_9 < x3 := by 
  clear hI
  try simp only [i_le, i_lt, i_eq, Int32.reduceToInt] at *
  first | (have e_0 := m32 (x := 2) (y := y8_9) (by (try simp only [Int32.reduceToInt]); omega); (try simp only [Int32.reduceToInt] at e_0)) | skip
  first | (have e_1 := a32 (x := (2 * y8_9)) (y := 1) (by (try simp only [Int32.reduceToInt]); omega); (try simp only [Int32.reduceToInt] at e_1)) | skip
  try simp only [Int32.reduceToInt] at *
  omega
def m_tryGears (S : MS) (x1 : Int32) (x2 : Int32) (x3 : Int32) : MS := (if (S.1 55 0) = 0 then (m_tryGears_R128 S x3).2 else (if ((m_differs (S.2 53) (S.2 54) (Int32.toInt64 x1) (Int32.toInt64 x2)) * (m_tryGears_R9 S x3).2.1) ≤ ((m_differs ((m_tryGears_R9 S x3).1) ((m_tryGears_R9 S x3).2.1) (Int32.toInt64 x1) (Int32.toInt64 x2)) * (S.2 54)) then S else (m_tryGears_R128x S x3).2))
set_option maxHeartbeats 4000000 in
theorem mt_tryGears (l : Launch) (D : va_G) (d : Nat → ClassId) (A : Nat → Prop) (a : Nat → Nat) (S : MS) (x1 : Int32) (x2 : Int32) (x3 : Int32) (hn : 1 ≤ x3 ∧ x3 ≤ 2) (hI : MInv S) : MV l yX1_tryGears cX1_tryGears 9 (rm_ 1) D d A a S [.int x1, .int x2, .int x3] (m_tryGears S x1 x2 x3) := by
  refine m_startV rfl (Nat.le_of_ble_eq_true rfl) ?_
  intro p e s m av below meth c ls Q X hrt hlk hl hR hQ
  have hx := X.1.1
  have hb := X.1.2.1
  have hown := X.1.2.2.2.1
  have hts := X.1.2.2.2.2
  have hS : va_S A s.heap s.heap [] := va_S.rf
  have hl : lv_has ls 9 [(0, .ref (a 0)), (1, .int x1), (2, .int x2), (3, .int x3)] := hl
  refine lv_lconst (v := 1) hx hb dX1_tryGears_0 (by decide) ?_
  refine lv_lstore (lv' := [(4, .long 1), (0, .ref (a 0)), (1, .int x1), (2, .int x2), (3, .int x3)]) hx hb dX1_tryGears_1 hl (by decide) rfl (fun ls hl => ?_)
  refine lv_lconst (v := 1) hx hb dX1_tryGears_3 (by decide) ?_
  refine lv_lstore (lv' := [(6, .long 1), (4, .long 1), (0, .ref (a 0)), (1, .int x1), (2, .int x2), (3, .int x3)]) hx hb dX1_tryGears_4 hl (by decide) rfl (fun ls hl => ?_)
  refine lv_iconst (v := 0) hx hb dX1_tryGears_6 (by decide) ?_
  refine lv_istore (lv' := [(8, .int 0), (6, .long 1), (4, .long 1), (0, .ref (a 0)), (1, .int x1), (2, .int x2), (3, .int x3)]) hx hb dX1_tryGears_7 hl (by decide) rfl (fun ls hl => ?_)
  have K9 : ∀ (H : Heap) (locs : List Loc) (ls : Array Slot), MR D d A a S H → va_S A s.heap H locs → lv_has ls 9 [(8, .int ((m_tryGears_R9 S x3).2.2)), (6, .long ((m_tryGears_R9 S x3).2.1)), (4, .long ((m_tryGears_R9 S x3).1)), (0, .ref (a 0)), (1, .int x1), (2, .int x2), (3, .int x3)] → W p l e (rm_ 1) s m av below meth c H locs 0 0 Q (F0 m 63 ls []) := by
    intro H locs ls hR hS hl
    refine lv_aload_n hx hb dX1_tryGears_63 rfl (lv_at hl 3 rfl) ?_
    refine mg_i X hR 55 (by decide) rfl q1192 rfl dX1_tryGears_64 ?_
    refine lv_if_eq (tgt := 108) hx hb dX1_tryGears_67 (by decide) (fun c4 => ?_) (fun c4 => ?_)
    · refine lv_aload_n hx hb dX1_tryGears_108 rfl (lv_at hl 3 rfl) ?_
      refine lv_iconst (v := 1) hx hb dX1_tryGears_109 (by decide) ?_
      refine mp_z X hR hS 55 (by decide) rfl rfl rfl q1192 (Or.inr rfl) dX1_tryGears_110 (fun H locs hR hS => ?_)
      refine lv_aload_n hx hb dX1_tryGears_113 rfl (lv_at hl 3 rfl) ?_
      refine lv_lload hx hb dX1_tryGears_114 (lv_at hl 2 rfl) ?_
      refine mp_l X hR hS 53 (by decide) rfl rfl rfl q1190 dX1_tryGears_116 (fun H locs hR hS => ?_)
      refine lv_aload_n hx hb dX1_tryGears_119 rfl (lv_at hl 3 rfl) ?_
      refine lv_lload hx hb dX1_tryGears_120 (lv_at hl 1 rfl) ?_
      refine mp_l X hR hS 54 (by decide) rfl rfl rfl q1191 dX1_tryGears_122 (fun H locs hR hS => ?_)
      refine lv_iconst (v := 0) hx hb dX1_tryGears_125 (by decide) ?_
      refine lv_istore (lv' := [(8, .int 0), (6, .long ((m_tryGears_R9 S x3).2.1)), (4, .long ((m_tryGears_R9 S x3).1)), (0, .ref (a 0)), (1, .int x1), (2, .int x2), (3, .int x3)]) hx hb dX1_tryGears_126 hl (by decide) rfl (fun ls hl => ?_)
      have K128 : ∀ (H : Heap) (locs : List Loc) (ls : Array Slot), MR D d A a (m_tryGears_R128 S x3).2 H → va_S A s.heap H locs → lv_has ls 9 [(8, .int ((m_tryGears_R128 S x3).1)), (6, .long ((m_tryGears_R9 S x3).2.1)), (4, .long ((m_tryGears_R9 S x3).1)), (0, .ref (a 0)), (1, .int x1), (2, .int x2), (3, .int x3)] → W p l e (rm_ 1) s m av below meth c H locs 0 0 Q (F0 m 154 ls []) := by
        intro H locs ls hR hS hl
        exact m_rv hx hb hrt hlk hR hS hQ (if_pos c4) dX1_tryGears_154
      have L128 : ∀ (f128 : Nat) (y8_128 : Int32) (S_128 : MS) (H : Heap) (locs : List Loc) (ls : Array Slot), (4 - y8_128 : Int32).toNatClampNeg < f128 → 0 ≤ y8_128 → m_tryGears_L128 (f128) y8_128 S_128 = (m_tryGears_R128 S x3) → MR D d A a S_128 H → va_S A s.heap H locs → lv_has ls 9 [(8, .int y8_128), (6, .long ((m_tryGears_R9 S x3).2.1)), (4, .long ((m_tryGears_R9 S x3).1)), (0, .ref (a 0)), (1, .int x1), (2, .int x2), (3, .int x3)] → W p l e (rm_ 1) s m av below meth c H locs 0 0 Q (F0 m 128 ls []) := by
        intro f128
        induction f128 with
        | zero => intro y8_128 S_128 H locs ls hf; exact absurd hf (Nat.not_lt_zero _)
        | succ f128 ih =>
          intro y8_128 S_128 H locs ls hf hi8 hE hR hS hl
          refine lv_iload hx hb dX1_tryGears_128 (lv_at hl 0 rfl) ?_
          refine lv_iconst (v := 4) hx hb dX1_tryGears_130 (by decide) ?_
          refine lv_icmp_ge (tgt := 154) hx hb dX1_tryGears_131 (by decide) (fun c5 => ?_) (fun c5 => ?_)
          · have e0 : (m_tryGears_R128 S x3) = (y8_128, S_128) := Eq.trans (Eq.symm hE) (Eq.trans (m_tryGears_L128_s _ _ _) (if_pos c5))
            exact K128 _ _ _ (by rw [e0]; exact hR) hS (by rw [e0]; exact lv_sub hl [0, 1, 2, 3, 4, 5, 6] rfl)
          · refine lv_aload_n hx hb dX1_tryGears_134 rfl (lv_at hl 3 rfl) ?_
            refine mg_a X hR 51 (by decide) (by decide) q1188 dX1_tryGears_135 ?_
            refine lv_iload hx hb dX1_tryGears_138 (lv_at hl 0 rfl) ?_
            refine lv_aload_n hx hb dX1_tryGears_140 rfl (lv_at hl 3 rfl) ?_
            refine mg_a X hR 52 (by decide) (by decide) q1189 dX1_tryGears_141 ?_
            refine lv_iload hx hb dX1_tryGears_144 (lv_at hl 0 rfl) ?_
            refine m_ld X hR ⟨by decide, rfl, by decide⟩ (ixl 4 4 (by decide) rfl (m_tryGears_o6 S x3 y8_128 hn hI c4 hi8 c5)) (v := S_128.1 52 (Int32.toNatClampNeg y8_128)) rfl dX1_tryGears_146 ?_
            refine m_st X hR hS ⟨by decide, rfl, by decide⟩ (ixl 4 4 (by decide) rfl (m_tryGears_o6 S x3 y8_128 hn hI c4 hi8 c5)) dX1_tryGears_147 (fun H locs hR hS => ?_)
            refine lv_iinc (v := (y8_128 + 1)) (lv' := [(8, .int (y8_128 + 1)), (6, .long ((m_tryGears_R9 S x3).2.1)), (4, .long ((m_tryGears_R9 S x3).1)), (0, .ref (a 0)), (1, .int x1), (2, .int x2), (3, .int x3)]) hx hb dX1_tryGears_148 hl (k := 0) rfl rfl (by decide) rfl (fun ls hl => ?_)
            refine lv_goto (tgt := 128) hx hb dX1_tryGears_151 (by decide) ?_
            exact ih (y8_128 + 1) (mu S_128 51 (Int32.toNatClampNeg y8_128) (S_128.1 52 (Int32.toNatClampNeg y8_128))) _ _  _ (Nat.lt_of_lt_of_le (up_ hi8 (m_tryGears_o11 S x3 y8_128 hn hI c4 hi8 c5)) (Nat.le_of_lt_succ hf)) (m_tryGears_o10 S x3 y8_128 hn hI c4 hi8 c5) (Eq.trans (Eq.symm (Eq.trans (m_tryGears_L128_s _ _ _) (if_neg c5))) hE) hR hS (lv_sub hl [0, 1, 2, 3, 4, 5, 6] rfl)
      exact L128 _ 0 (ml (ml (mu S 55 0 1) 53 ((m_tryGears_R9 S x3).1)) 54 ((m_tryGears_R9 S x3).2.1)) _ _  _ (Nat.lt_succ_self _) (by decide) rfl hR hS (lv_sub hl [0, 1, 2, 3, 4, 5, 6] rfl)
    · refine lv_lload hx hb dX1_tryGears_70 (lv_at hl 2 rfl) ?_
      refine lv_lload hx hb dX1_tryGears_72 (lv_at hl 1 rfl) ?_
      refine lv_iload_n hx hb dX1_tryGears_74 rfl (lv_at hl 4 rfl) ?_
      refine lv_i2l hx hb dX1_tryGears_75 rfl ?_
      refine lv_iload_n hx hb dX1_tryGears_76 rfl (lv_at hl 5 rfl) ?_
      refine lv_i2l hx hb dX1_tryGears_77 rfl ?_
      refine s_cl X.1 (st_m_differs l ((m_tryGears_R9 S x3).1) ((m_tryGears_R9 S x3).2.1) (Int32.toInt64 x1) (Int32.toInt64 x2)) 4 (lw_S q1658 q1659 q59 q1660) ⟨rfl, rfl⟩ (by decide +kernel) ⟨by decide, by decide⟩ ⟨by decide, by decide⟩ rfl hl.1 rfl (Nat.le_of_ble_eq_true rfl) dX1_tryGears_78 ?_
      refine lv_aload_n hx hb dX1_tryGears_81 rfl (lv_at hl 3 rfl) ?_
      refine mg_l X hR 54 (by decide) rfl q1191 (v := S.2 54) rfl dX1_tryGears_82 ?_
      refine lv_lmul hx hb dX1_tryGears_85 ?_
      refine lv_aload_n hx hb dX1_tryGears_86 rfl (lv_at hl 3 rfl) ?_
      refine mg_l X hR 53 (by decide) rfl q1190 (v := S.2 53) rfl dX1_tryGears_87 ?_
      refine lv_aload_n hx hb dX1_tryGears_90 rfl (lv_at hl 3 rfl) ?_
      refine mg_l X hR 54 (by decide) rfl q1191 (v := S.2 54) rfl dX1_tryGears_91 ?_
      refine lv_iload_n hx hb dX1_tryGears_94 rfl (lv_at hl 4 rfl) ?_
      refine lv_i2l hx hb dX1_tryGears_95 rfl ?_
      refine lv_iload_n hx hb dX1_tryGears_96 rfl (lv_at hl 5 rfl) ?_
      refine lv_i2l hx hb dX1_tryGears_97 rfl ?_
      refine s_cl X.1 (st_m_differs l (S.2 53) (S.2 54) (Int32.toInt64 x1) (Int32.toInt64 x2)) 4 (lw_S q1658 q1659 q59 q1660) ⟨rfl, rfl⟩ (by decide +kernel) ⟨by decide, by decide⟩ ⟨by decide, by decide⟩ rfl hl.1 rfl (Nat.le_of_ble_eq_true rfl) dX1_tryGears_98 ?_
      refine lv_lload hx hb dX1_tryGears_101 (lv_at hl 1 rfl) ?_
      refine lv_lmul hx hb dX1_tryGears_103 ?_
      refine hl_ge (tgt := 154) hx hb dX1_tryGears_104 dX1_tryGears_105 (by decide) (fun c7 => ?_) (fun c7 => ?_)
      · exact m_rv hx hb hrt hlk hR hS hQ (Eq.trans (if_neg c4) (if_pos c7)) dX1_tryGears_154
      · refine lv_aload_n hx hb dX1_tryGears_108 rfl (lv_at hl 3 rfl) ?_
        refine lv_iconst (v := 1) hx hb dX1_tryGears_109 (by decide) ?_
        refine mp_z X hR hS 55 (by decide) rfl rfl rfl q1192 (Or.inr rfl) dX1_tryGears_110 (fun H locs hR hS => ?_)
        refine lv_aload_n hx hb dX1_tryGears_113 rfl (lv_at hl 3 rfl) ?_
        refine lv_lload hx hb dX1_tryGears_114 (lv_at hl 2 rfl) ?_
        refine mp_l X hR hS 53 (by decide) rfl rfl rfl q1190 dX1_tryGears_116 (fun H locs hR hS => ?_)
        refine lv_aload_n hx hb dX1_tryGears_119 rfl (lv_at hl 3 rfl) ?_
        refine lv_lload hx hb dX1_tryGears_120 (lv_at hl 1 rfl) ?_
        refine mp_l X hR hS 54 (by decide) rfl rfl rfl q1191 dX1_tryGears_122 (fun H locs hR hS => ?_)
        refine lv_iconst (v := 0) hx hb dX1_tryGears_125 (by decide) ?_
        refine lv_istore (lv' := [(8, .int 0), (6, .long ((m_tryGears_R9 S x3).2.1)), (4, .long ((m_tryGears_R9 S x3).1)), (0, .ref (a 0)), (1, .int x1), (2, .int x2), (3, .int x3)]) hx hb dX1_tryGears_126 hl (by decide) rfl (fun ls hl => ?_)
        have K128x : ∀ (H : Heap) (locs : List Loc) (ls : Array Slot), MR D d A a (m_tryGears_R128x S x3).2 H → va_S A s.heap H locs → lv_has ls 9 [(8, .int ((m_tryGears_R128x S x3).1)), (6, .long ((m_tryGears_R9 S x3).2.1)), (4, .long ((m_tryGears_R9 S x3).1)), (0, .ref (a 0)), (1, .int x1), (2, .int x2), (3, .int x3)] → W p l e (rm_ 1) s m av below meth c H locs 0 0 Q (F0 m 154 ls []) := by
          intro H locs ls hR hS hl
          exact m_rv hx hb hrt hlk hR hS hQ (Eq.trans (if_neg c4) (if_neg c7)) dX1_tryGears_154
        have L128x : ∀ (f128x : Nat) (y8_128x : Int32) (S_128x : MS) (H : Heap) (locs : List Loc) (ls : Array Slot), (4 - y8_128x : Int32).toNatClampNeg < f128x → 0 ≤ y8_128x → m_tryGears_L128x (f128x) y8_128x S_128x = (m_tryGears_R128x S x3) → MR D d A a S_128x H → va_S A s.heap H locs → lv_has ls 9 [(8, .int y8_128x), (6, .long ((m_tryGears_R9 S x3).2.1)), (4, .long ((m_tryGears_R9 S x3).1)), (0, .ref (a 0)), (1, .int x1), (2, .int x2), (3, .int x3)] → W p l e (rm_ 1) s m av below meth c H locs 0 0 Q (F0 m 128 ls []) := by
          intro f128x
          induction f128x with
          | zero => intro y8_128x S_128x H locs ls hf; exact absurd hf (Nat.not_lt_zero _)
          | succ f128x ih =>
            intro y8_128x S_128x H locs ls hf hi8 hE hR hS hl
            refine lv_iload hx hb dX1_tryGears_128 (lv_at hl 0 rfl) ?_
            refine lv_iconst (v := 4) hx hb dX1_tryGears_130 (by decide) ?_
            refine lv_icmp_ge (tgt := 154) hx hb dX1_tryGears_131 (by decide) (fun c8 => ?_) (fun c8 => ?_)
            · have e0 : (m_tryGears_R128x S x3) = (y8_128x, S_128x) := Eq.trans (Eq.symm hE) (Eq.trans (m_tryGears_L128x_s _ _ _) (if_pos c8))
              exact K128x _ _ _ (by rw [e0]; exact hR) hS (by rw [e0]; exact lv_sub hl [0, 1, 2, 3, 4, 5, 6] rfl)
            · refine lv_aload_n hx hb dX1_tryGears_134 rfl (lv_at hl 3 rfl) ?_
              refine mg_a X hR 51 (by decide) (by decide) q1188 dX1_tryGears_135 ?_
              refine lv_iload hx hb dX1_tryGears_138 (lv_at hl 0 rfl) ?_
              refine lv_aload_n hx hb dX1_tryGears_140 rfl (lv_at hl 3 rfl) ?_
              refine mg_a X hR 52 (by decide) (by decide) q1189 dX1_tryGears_141 ?_
              refine lv_iload hx hb dX1_tryGears_144 (lv_at hl 0 rfl) ?_
              refine m_ld X hR ⟨by decide, rfl, by decide⟩ (ixl 4 4 (by decide) rfl (m_tryGears_o9 S x1 x2 x3 y8_128x hn hI c4 c7 hi8 c8)) (v := S_128x.1 52 (Int32.toNatClampNeg y8_128x)) rfl dX1_tryGears_146 ?_
              refine m_st X hR hS ⟨by decide, rfl, by decide⟩ (ixl 4 4 (by decide) rfl (m_tryGears_o9 S x1 x2 x3 y8_128x hn hI c4 c7 hi8 c8)) dX1_tryGears_147 (fun H locs hR hS => ?_)
              refine lv_iinc (v := (y8_128x + 1)) (lv' := [(8, .int (y8_128x + 1)), (6, .long ((m_tryGears_R9 S x3).2.1)), (4, .long ((m_tryGears_R9 S x3).1)), (0, .ref (a 0)), (1, .int x1), (2, .int x2), (3, .int x3)]) hx hb dX1_tryGears_148 hl (k := 0) rfl rfl (by decide) rfl (fun ls hl => ?_)
              refine lv_goto (tgt := 128) hx hb dX1_tryGears_151 (by decide) ?_
              exact ih (y8_128x + 1) (mu S_128x 51 (Int32.toNatClampNeg y8_128x) (S_128x.1 52 (Int32.toNatClampNeg y8_128x))) _ _  _ (Nat.lt_of_lt_of_le (up_ hi8 (m_tryGears_o13 S x1 x2 x3 y8_128x hn hI c4 c7 hi8 c8)) (Nat.le_of_lt_succ hf)) (m_tryGears_o12 S x1 x2 x3 y8_128x hn hI c4 c7 hi8 c8) (Eq.trans (Eq.symm (Eq.trans (m_tryGears_L128x_s _ _ _) (if_neg c8))) hE) hR hS (lv_sub hl [0, 1, 2, 3, 4, 5, 6] rfl)
        exact L128x _ 0 (ml (ml (mu S 55 0 1) 53 ((m_tryGears_R9 S x3).1)) 54 ((m_tryGears_R9 S x3).2.1)) _ _  _ (Nat.lt_succ_self _) (by decide) rfl hR hS (lv_sub hl [0, 1, 2, 3, 4, 5, 6] rfl)
  have L9 : ∀ (f9 : Nat) (y4_9 : Int64) (y6_9 : Int64) (y8_9 : Int32) (H : Heap) (locs : List Loc) (ls : Array Slot), (x3 - y8_9 : Int32).toNatClampNeg < f9 → 0 ≤ y8_9 → m_tryGears_L9 S x3 (f9) y4_9 y6_9 y8_9 = (m_tryGears_R9 S x3) → MR D d A a S H → va_S A s.heap H locs → lv_has ls 9 [(8, .int y8_9), (6, .long y6_9), (4, .long y4_9), (0, .ref (a 0)), (1, .int x1), (2, .int x2), (3, .int x3)] → W p l e (rm_ 1) s m av below meth c H locs 0 0 Q (F0 m 9 ls []) := by
    intro f9
    induction f9 with
    | zero => intro y4_9 y6_9 y8_9 H locs ls hf; exact absurd hf (Nat.not_lt_zero _)
    | succ f9 ih =>
      intro y4_9 y6_9 y8_9 H locs ls hf hi8 hE hR hS hl
      refine lv_iload hx hb dX1_tryGears_9 (lv_at hl 0 rfl) ?_
      refine lv_iload_n hx hb dX1_tryGears_11 rfl (lv_at hl 6 rfl) ?_
      refine lv_icmp_ge (tgt := 63) hx hb dX1_tryGears_12 (by decide) (fun c1 => ?_) (fun c1 => ?_)
      · have e0 : (m_tryGears_R9 S x3) = (y4_9, y6_9, y8_9) := Eq.trans (Eq.symm hE) (Eq.trans (m_tryGears_L9_s _ _ _ _ _ _) (if_pos c1))
        exact K9 _ _ _ hR hS (by rw [e0]; exact lv_sub hl [0, 1, 2, 3, 4, 5, 6] rfl)
      · refine lv_lload hx hb dX1_tryGears_15 (lv_at hl 2 rfl) ?_
        refine lv_aload_n hx hb dX1_tryGears_17 rfl (lv_at hl 3 rfl) ?_
        refine mg_a X hR 49 (by decide) (by decide) q1186 dX1_tryGears_18 ?_
        refine lv_aload_n hx hb dX1_tryGears_21 rfl (lv_at hl 3 rfl) ?_
        refine mg_a X hR 52 (by decide) (by decide) q1189 dX1_tryGears_22 ?_
        refine lv_iconst (v := 2) hx hb dX1_tryGears_25 (by decide) ?_
        refine lv_iload hx hb dX1_tryGears_26 (lv_at hl 0 rfl) ?_
        refine lv_imul hx hb dX1_tryGears_28 ?_
        have hx29 : 0 ≤ (2 * y8_9) ∧ (2 * y8_9) < 4 := m_tryGears_o2 S x3 y8_9 hn hI hi8 c1
        refine m_ld X hR ⟨by decide, rfl, by decide⟩ (ixl 4 4 (by decide) rfl (hx29)) (v := S.1 52 (Int32.toNatClampNeg (2 * y8_9))) rfl dX1_tryGears_29 ?_
        have h4a : 0 ≤ (S.1 52 (Int32.toNatClampNeg (2 * y8_9))) ∧ (S.1 52 (Int32.toNatClampNeg (2 * y8_9))) < 12 := mi_4 hI hx29
        refine m_ld X hR ⟨by decide, rfl, by decide⟩ (ixl 12 12 (by decide) rfl (h4a)) (v := S.1 49 (Int32.toNatClampNeg (S.1 52 (Int32.toNatClampNeg (2 * y8_9))))) rfl dX1_tryGears_30 ?_
        refine lv_i2l hx hb dX1_tryGears_31 rfl ?_
        refine lv_lmul hx hb dX1_tryGears_32 ?_
        refine lv_lstore (lv' := [(4, .long (m_tryGears_v33 S y4_9 y8_9)), (8, .int y8_9), (6, .long y6_9), (0, .ref (a 0)), (1, .int x1), (2, .int x2), (3, .int x3)]) hx hb dX1_tryGears_33 hl (by decide) rfl (fun ls hl => ?_)
        refine lv_lload hx hb dX1_tryGears_35 (lv_at hl 2 rfl) ?_
        refine lv_aload_n hx hb dX1_tryGears_37 rfl (lv_at hl 3 rfl) ?_
        refine mg_a X hR 49 (by decide) (by decide) q1186 dX1_tryGears_38 ?_
        refine lv_aload_n hx hb dX1_tryGears_41 rfl (lv_at hl 3 rfl) ?_
        refine mg_a X hR 52 (by decide) (by decide) q1189 dX1_tryGears_42 ?_
        refine lv_iconst (v := 2) hx hb dX1_tryGears_45 (by decide) ?_
        refine lv_iload hx hb dX1_tryGears_46 (lv_at hl 1 rfl) ?_
        refine lv_imul hx hb dX1_tryGears_48 ?_
        refine lv_iconst (v := 1) hx hb dX1_tryGears_49 (by decide) ?_
        refine lv_iadd hx hb dX1_tryGears_50 ?_
        have hx51 : 0 ≤ ((2 * y8_9) + 1) ∧ ((2 * y8_9) + 1) < 4 := m_tryGears_o3 S x3 y8_9 hn hI hi8 c1 hx29 h4a
        refine m_ld X hR ⟨by decide, rfl, by decide⟩ (ixl 4 4 (by decide) rfl (hx51)) (v := S.1 52 (Int32.toNatClampNeg ((2 * y8_9) + 1))) rfl dX1_tryGears_51 ?_
        have h4b : 0 ≤ (S.1 52 (Int32.toNatClampNeg ((2 * y8_9) + 1))) ∧ (S.1 52 (Int32.toNatClampNeg ((2 * y8_9) + 1))) < 12 := mi_4 hI hx51
        refine m_ld X hR ⟨by decide, rfl, by decide⟩ (ixl 12 12 (by decide) rfl (h4b)) (v := S.1 49 (Int32.toNatClampNeg (S.1 52 (Int32.toNatClampNeg ((2 * y8_9) + 1))))) rfl dX1_tryGears_52 ?_
        refine lv_i2l hx hb dX1_tryGears_53 rfl ?_
        refine lv_lmul hx hb dX1_tryGears_54 ?_
        refine lv_lstore (lv' := [(6, .long (m_tryGears_v55 S y6_9 y8_9)), (4, .long (m_tryGears_v33 S y4_9 y8_9)), (8, .int y8_9), (0, .ref (a 0)), (1, .int x1), (2, .int x2), (3, .int x3)]) hx hb dX1_tryGears_55 hl (by decide) rfl (fun ls hl => ?_)
        refine lv_iinc (v := (y8_9 + 1)) (lv' := [(8, .int (y8_9 + 1)), (6, .long (m_tryGears_v55 S y6_9 y8_9)), (4, .long (m_tryGears_v33 S y4_9 y8_9)), (0, .ref (a 0)), (1, .int x1), (2, .int x2), (3, .int x3)]) hx hb dX1_tryGears_57 hl (k := 2) rfl rfl (by decide) rfl (fun ls hl => ?_)
        refine lv_goto (tgt := 9) hx hb dX1_tryGears_60 (by decide) ?_
        exact ih (m_tryGears_v33 S y4_9 y8_9) (m_tryGears_v55 S y6_9 y8_9) (y8_9 + 1) _ _  _ (Nat.lt_of_lt_of_le (up_ hi8 (m_tryGears_o15 S x3 y8_9 hn hI hi8 c1 hx29 h4a hx51 h4b)) (Nat.le_of_lt_succ hf)) (m_tryGears_o14 S x3 y8_9 hn hI hi8 c1 hx29 h4a hx51 h4b) (Eq.trans (Eq.symm (Eq.trans (m_tryGears_L9_s _ _ _ _ _ _) (if_neg c1))) hE) hR hS (lv_sub hl [0, 1, 2, 3, 4, 5, 6] rfl)
  exact L9 _ 1 1 0 _ _  _ (Nat.lt_succ_self _) (by decide) rfl hR hS (lv_sub hl [0, 1, 2, 3, 4, 5, 6] rfl)
def m_dayOf_j14_s0 (x2 : Int32) : Int32 := (if x2 = 0 then 24 else 96)
theorem m_dayOf_o5 (S : MS) (x1 : Int32) (x2 : Int32) (x3 : Int32) (y6_19 : Int32) (hn : 0 ≤ x1 ∧ x1 < 16) (hm : 0 ≤ S.1 11 (Int32.toNatClampNeg x1) ∧ S.1 11 (Int32.toNatClampNeg x1) ≤ 3 ∧ 0 ≤ S.1 12 (Int32.toNatClampNeg x1) ∧ S.1 12 (Int32.toNatClampNeg x1) ≤ 24 ∧ (S.1 11 (Int32.toNatClampNeg x1) = 0 ∨ 1 ≤ S.1 12 (Int32.toNatClampNeg x1)) ∧ 0 ≤ S.1 14 (Int32.toNatClampNeg x1) ∧ (S.1 14 (Int32.toNatClampNeg x1) < S.1 12 (Int32.toNatClampNeg x1) ∨ S.1 14 (Int32.toNatClampNeg x1) = 0)) (hfr : 0 ≤ x3 ∧ x3 ≤ 24) (hi6 : 0 ≤ y6_19) (c4 : ¬ (m_dayOf_j14_s0 x2) ≤ y6_19) (hj14 : (m_dayOf_j14_s0 x2) ≤ 96) : 0 ≤ y6_19 ∧ y6_19 < 96 := by 
  try simp only [i_le, i_lt, i_eq, Int32.reduceToInt] at *
  try simp only [Int32.reduceToInt] at *
  omega
def m_dayOf_j42_s0 (x2 : Int32) (y6_19 : Int32) : Int32 := (if x2 = 0 then (y6_19 - y6_19 / 12 * 12) else (y6_19 - y6_19 / 4 * 4))
theorem m_dayOf_o10 (S : MS) (x1 : Int32) (x2 : Int32) (x3 : Int32) (y6_19 : Int32) (hn : 0 ≤ x1 ∧ x1 < 16) (hm : 0 ≤ S.1 11 (Int32.toNatClampNeg x1) ∧ S.1 11 (Int32.toNatClampNeg x1) ≤ 3 ∧ 0 ≤ S.1 12 (Int32.toNatClampNeg x1) ∧ S.1 12 (Int32.toNatClampNeg x1) ≤ 24 ∧ (S.1 11 (Int32.toNatClampNeg x1) = 0 ∨ 1 ≤ S.1 12 (Int32.toNatClampNeg x1)) ∧ 0 ≤ S.1 14 (Int32.toNatClampNeg x1) ∧ (S.1 14 (Int32.toNatClampNeg x1) < S.1 12 (Int32.toNatClampNeg x1) ∨ S.1 14 (Int32.toNatClampNeg x1) = 0)) (hfr : 0 ≤ x3 ∧ x3 ≤ 24) (hi6 : 0 ≤ y6_19) (c4 : ¬ (m_dayOf_j14_s0 x2) ≤ y6_19) (hj14 : (m_dayOf_j14_s0 x2) ≤ 96) (hk6 : 0 ≤ y6_19 ∧ y6_19 < 96) (c9 : ¬ (S.1 11 (Int32.toNatClampNeg x1)) = 0) : 1 ≤ S.1 12 (Int32.toNatClampNeg x1) := by 
  try simp only [i_le, i_lt, i_eq, Int32.reduceToInt] at *
  try simp only [Int32.reduceToInt] at *
  omega
theorem m_dayOf_o12 (S : MS) (x1 : Int32) (x2 : Int32) (x3 : Int32) (y6_19 : Int32) (hn : 0 ≤ x1 ∧ x1 < 16) (hm : 0 ≤ S.1 11 (Int32.toNatClampNeg x1) ∧ S.1 11 (Int32.toNatClampNeg x1) ≤ 3 ∧ 0 ≤ S.1 12 (Int32.toNatClampNeg x1) ∧ S.1 12 (Int32.toNatClampNeg x1) ≤ 24 ∧ (S.1 11 (Int32.toNatClampNeg x1) = 0 ∨ 1 ≤ S.1 12 (Int32.toNatClampNeg x1)) ∧ 0 ≤ S.1 14 (Int32.toNatClampNeg x1) ∧ (S.1 14 (Int32.toNatClampNeg x1) < S.1 12 (Int32.toNatClampNeg x1) ∨ S.1 14 (Int32.toNatClampNeg x1) = 0)) (hfr : 0 ≤ x3 ∧ x3 ≤ 24) (hi6 : 0 ≤ y6_19) (c4 : ¬ (m_dayOf_j14_s0 x2) ≤ y6_19) (hj14 : (m_dayOf_j14_s0 x2) ≤ 96) (hk6 : 0 ≤ y6_19 ∧ y6_19 < 96) (c9 : ¬ (S.1 11 (Int32.toNatClampNeg x1)) = 0) (hm1 : 1 ≤ S.1 12 (Int32.toNatClampNeg x1)) (c11 : ¬ (S.1 11 (Int32.toNatClampNeg x1)) = 2) : ¬ (S.1 12 (Int32.toNatClampNeg x1)) = 0 := by 
  try simp only [i_le, i_lt, i_eq, Int32.reduceToInt] at *
  try simp only [Int32.reduceToInt] at *
  omega
theorem m_dayOf_o13 (S : MS) (x1 : Int32) (x2 : Int32) (x3 : Int32) (y6_19 : Int32) (hn : 0 ≤ x1 ∧ x1 < 16) (hm : 0 ≤ S.1 11 (Int32.toNatClampNeg x1) ∧ S.1 11 (Int32.toNatClampNeg x1) ≤ 3 ∧ 0 ≤ S.1 12 (Int32.toNatClampNeg x1) ∧ S.1 12 (Int32.toNatClampNeg x1) ≤ 24 ∧ (S.1 11 (Int32.toNatClampNeg x1) = 0 ∨ 1 ≤ S.1 12 (Int32.toNatClampNeg x1)) ∧ 0 ≤ S.1 14 (Int32.toNatClampNeg x1) ∧ (S.1 14 (Int32.toNatClampNeg x1) < S.1 12 (Int32.toNatClampNeg x1) ∨ S.1 14 (Int32.toNatClampNeg x1) = 0)) (hfr : 0 ≤ x3 ∧ x3 ≤ 24) (hi6 : 0 ≤ y6_19) (c4 : ¬ (m_dayOf_j14_s0 x2) ≤ y6_19) (hj14 : (m_dayOf_j14_s0 x2) ≤ 96) (hk6 : 0 ≤ y6_19 ∧ y6_19 < 96) (c9 : ¬ (S.1 11 (Int32.toNatClampNeg x1)) = 0) (hm1 : 1 ≤ S.1 12 (Int32.toNatClampNeg x1)) (c11 : (S.1 11 (Int32.toNatClampNeg x1)) = 2) : ¬ (S.1 12 (Int32.toNatClampNeg x1)) = 0 := by 
  try simp only [i_le, i_lt, i_eq, Int32.reduceToInt] at *
  try simp only [Int32.reduceToInt] at *
  omega
def m_dayOf_j100_s0 (S : MS) (x1 : Int32) (x2 : Int32) (x3 : Int32) (y6_19 : Int32) : Int32 := (if (S.1 11 (Int32.toNatClampNeg x1)) = 2 then ((m_dayOf_j42_s0 x2 y6_19) - (m_dayOf_j42_s0 x2 y6_19) / (S.1 12 (Int32.toNatClampNeg x1)) * (S.1 12 (Int32.toNatClampNeg x1))) else ((x3 + y6_19) - (x3 + y6_19) / (S.1 12 (Int32.toNatClampNeg x1)) * (S.1 12 (Int32.toNatClampNeg x1))))
theorem m_dayOf_o16 (S : MS) (x1 : Int32) (x2 : Int32) (x3 : Int32) (y6_19 : Int32) (hn : 0 ≤ x1 ∧ x1 < 16) (hm : 0 ≤ S.1 11 (Int32.toNatClampNeg x1) ∧ S.1 11 (Int32.toNatClampNeg x1) ≤ 3 ∧ 0 ≤ S.1 12 (Int32.toNatClampNeg x1) ∧ S.1 12 (Int32.toNatClampNeg x1) ≤ 24 ∧ (S.1 11 (Int32.toNatClampNeg x1) = 0 ∨ 1 ≤ S.1 12 (Int32.toNatClampNeg x1)) ∧ 0 ≤ S.1 14 (Int32.toNatClampNeg x1) ∧ (S.1 14 (Int32.toNatClampNeg x1) < S.1 12 (Int32.toNatClampNeg x1) ∨ S.1 14 (Int32.toNatClampNeg x1) = 0)) (hfr : 0 ≤ x3 ∧ x3 ≤ 24) (hi6 : 0 ≤ y6_19) (c4 : ¬ (m_dayOf_j14_s0 x2) ≤ y6_19) (hj14 : (m_dayOf_j14_s0 x2) ≤ 96) (hk6 : 0 ≤ y6_19 ∧ y6_19 < 96) (c9 : ¬ (S.1 11 (Int32.toNatClampNeg x1)) = 0) (hm1 : 1 ≤ S.1 12 (Int32.toNatClampNeg x1)) (h100 : 0 ≤ (m_dayOf_j100_s0 S x1 x2 x3 y6_19) ∧ (m_dayOf_j100_s0 S x1 x2 x3 y6_19) < S.1 12 (Int32.toNatClampNeg x1)) : 0 ≤ ((24 * x1) + (m_dayOf_j100_s0 S x1 x2 x3 y6_19)) ∧ ((24 * x1) + (m_dayOf_j100_s0 S x1 x2 x3 y6_19)) < 384 := by 
  try simp only [i_le, i_lt, i_eq, Int32.reduceToInt] at *
  first | (have e_0 := m32 (x := 24) (y := x1) (by (try simp only [Int32.reduceToInt]); omega); (try simp only [Int32.reduceToInt] at e_0)) | skip
  first | (have e_1 := a32 (x := (24 * x1)) (y := (m_dayOf_j100_s0 S x1 x2 x3 y6_19)) (by (try simp only [Int32.reduceToInt]); omega); (try simp only [Int32.reduceToInt] at e_1)) | skip
  try simp only [Int32.reduceToInt] at *
  omega
def m_dayOf_j102_s0 (S : MS) (x1 : Int32) (x2 : Int32) (x3 : Int32) (y6_19 : Int32) : Int32 := (if (S.1 11 (Int32.toNatClampNeg x1)) = 0 then 1 else (S.1 13 (Int32.toNatClampNeg ((24 * x1) + (m_dayOf_j100_s0 S x1 x2 x3 y6_19)))))
def m_dayOf_v103 (S : MS) (x1 : Int32) (x2 : Int32) (x3 : Int32) (y4_19 : Int32) (y6_19 : Int32) : Int32 := (y4_19 + (m_dayOf_j102_s0 S x1 x2 x3 y6_19))
def m_dayOf_L19 (S : MS) (x1 : Int32) (x2 : Int32) (x3 : Int32) : Nat → Int32 → Int32 → Int32 × Int32
  | 0, y4_19, y6_19 => (y4_19, y6_19)
  | f19 + 1, y4_19, y6_19 => (if (m_dayOf_j14_s0 x2) ≤ y6_19 then (y4_19, y6_19) else (m_dayOf_L19 S x1 x2 x3 f19 (m_dayOf_v103 S x1 x2 x3 y4_19 y6_19) (y6_19 + 1)))
theorem m_dayOf_L19_s (S : MS) (x1 : Int32) (x2 : Int32) (x3 : Int32) (f19 : Nat) (y4_19 : Int32) (y6_19 : Int32) : m_dayOf_L19 S x1 x2 x3 (f19 + 1) y4_19 y6_19 = (if (m_dayOf_j14_s0 x2) ≤ y6_19 then (y4_19, y6_19) else (m_dayOf_L19 S x1 x2 x3 f19 (m_dayOf_v103 S x1 x2 x3 y4_19 y6_19) (y6_19 + 1))) := rfl
def m_dayOf_R19 (S : MS) (x1 : Int32) (x2 : Int32) (x3 : Int32) : Int32 × Int32 := m_dayOf_L19 S x1 x2 x3 (((m_dayOf_j14_s0 x2) - 0 : Int32).toNatClampNeg + 1) 0 0
theorem m_dayOf_o19 (S : MS) (x1 : Int32) (x2 : Int32) (x3 : Int32) (y6_19 : Int32) (hn : 0 ≤ x1 ∧ x1 < 16) (hm : 0 ≤ S.1 11 (Int32.toNatClampNeg x1) ∧ S.1 11 (Int32.toNatClampNeg x1) ≤ 3 ∧ 0 ≤ S.1 12 (Int32.toNatClampNeg x1) ∧ S.1 12 (Int32.toNatClampNeg x1) ≤ 24 ∧ (S.1 11 (Int32.toNatClampNeg x1) = 0 ∨ 1 ≤ S.1 12 (Int32.toNatClampNeg x1)) ∧ 0 ≤ S.1 14 (Int32.toNatClampNeg x1) ∧ (S.1 14 (Int32.toNatClampNeg x1) < S.1 12 (Int32.toNatClampNeg x1) ∨ S.1 14 (Int32.toNatClampNeg x1) = 0)) (hfr : 0 ≤ x3 ∧ x3 ≤ 24) (hi6 : 0 ≤ y6_19) (c4 : ¬ (m_dayOf_j14_s0 x2) ≤ y6_19) (hj14 : (m_dayOf_j14_s0 x2) ≤ 96) (hk6 : 0 ≤ y6_19 ∧ y6_19 < 96) : 0 ≤ (y6_19 + 1) := by 
  try simp only [i_le, i_lt, i_eq, Int32.reduceToInt] at *
  first | (have e_0 := a32 (x := y6_19) (y := 1) (by (try simp only [Int32.reduceToInt]); omega); (try simp only [Int32.reduceToInt] at e_0)) | skip
  try simp only [Int32.reduceToInt] at *
  omega
theorem m_dayOf_o20 (S : MS) (x1 : Int32) (x2 : Int32) (x3 : Int32) (y6_19 : Int32) (hn : 0 ≤ x1 ∧ x1 < 16) (hm : 0 ≤ S.1 11 (Int32.toNatClampNeg x1) ∧ S.1 11 (Int32.toNatClampNeg x1) ≤ 3 ∧ 0 ≤ S.1 12 (Int32.toNatClampNeg x1) ∧ S.1 12 (Int32.toNatClampNeg x1) ≤ 24 ∧ (S.1 11 (Int32.toNatClampNeg x1) = 0 ∨ 1 ≤ S.1 12 (Int32.toNatClampNeg x1)) ∧ 0 ≤ S.1 14 (Int32.toNatClampNeg x1) ∧ (S.1 14 (Int32.toNatClampNeg x1) < S.1 12 (Int32.toNatClampNeg x1) ∨ S.1 14 (Int32.toNatClampNeg x1) = 0)) (hfr : 0 ≤ x3 ∧ x3 ≤ 24) (hi6 : 0 ≤ y6_19) (c4 : ¬ (m_dayOf_j14_s0 x2) ≤ y6_19) (hj14 : (m_dayOf_j14_s0 x2) ≤ 96) (hk6 : 0 ≤ y6_19 ∧ y6_19 < 96) : y6_19 < (m_dayOf_j14_s0 x2) := by 
  try simp only [i_le, i_lt, i_eq, Int32.reduceToInt] at *
  try simp only [Int32.reduceToInt] at *
  omega
theorem m_dayOf_j14_le (k : Int32) : (m_dayOf_j14_s0 k) ≤ 96 := by
  unfold m_dayOf_j14_s0
  split <;> decide
theorem m_dayOf_j42_ok (x2 k : Int32) (h : 0 ≤ k) : 0 ≤ (m_dayOf_j42_s0 x2 k) := by
  unfold m_dayOf_j42_s0
  split
  · exact (dv_ h (by decide)).2.2.1
  · exact (dv_ h (by decide)).2.2.1
theorem m_dayOf_100 (S : MS) (x1 x2 x3 k : Int32) (hk : 0 ≤ k ∧ k < 96) (hf : 0 ≤ x3 ∧ x3 ≤ 24) (hm : 1 ≤ S.1 12 (Int32.toNatClampNeg x1)) : 0 ≤ (m_dayOf_j100_s0 S x1 x2 x3 k) ∧ (m_dayOf_j100_s0 S x1 x2 x3 k) < S.1 12 (Int32.toNatClampNeg x1) := by
  have h2 : 0 < S.1 12 (Int32.toNatClampNeg x1) := by simp only [i_le, i_lt, Int32.reduceToInt] at hm ⊢; omega
  have h3 : 0 ≤ x3 + k := by
    simp only [i_le, i_lt, Int32.reduceToInt] at *
    have e := a32 (x := x3) (y := k) (by omega)
    omega
  unfold m_dayOf_j100_s0
  split
  · exact (dv_ (m_dayOf_j42_ok x2 k hk.1) h2).2.2
  · exact (dv_ h3 h2).2.2
def m_dayOf (S : MS) (x1 : Int32) (x2 : Int32) (x3 : Int32) : Int32 := (m_dayOf_R19 S x1 x2 x3).1
set_option maxHeartbeats 4000000 in
theorem mt_dayOf (l : Launch) (D : va_G) (d : Nat → ClassId) (A : Nat → Prop) (a : Nat → Nat) (S : MS) (x1 : Int32) (x2 : Int32) (x3 : Int32) (hn : 0 ≤ x1 ∧ x1 < 16) (hm : 0 ≤ S.1 11 (Int32.toNatClampNeg x1) ∧ S.1 11 (Int32.toNatClampNeg x1) ≤ 3 ∧ 0 ≤ S.1 12 (Int32.toNatClampNeg x1) ∧ S.1 12 (Int32.toNatClampNeg x1) ≤ 24 ∧ (S.1 11 (Int32.toNatClampNeg x1) = 0 ∨ 1 ≤ S.1 12 (Int32.toNatClampNeg x1)) ∧ 0 ≤ S.1 14 (Int32.toNatClampNeg x1) ∧ (S.1 14 (Int32.toNatClampNeg x1) < S.1 12 (Int32.toNatClampNeg x1) ∨ S.1 14 (Int32.toNatClampNeg x1) = 0)) (hfr : 0 ≤ x3 ∧ x3 ≤ 24) : MI l yX1_dayOf cX1_dayOf 8 .int (rm_ 0) D d A a S [.int x1, .int x2, .int x3] ((m_dayOf S x1 x2 x3), S) := by
  refine m_startI rfl (Nat.le_of_ble_eq_true rfl) ?_
  intro p e s m av below meth c ls Q X hrt hlk hl hR hQ
  have hx := X.1.1
  have hb := X.1.2.1
  have hown := X.1.2.2.2.1
  have hts := X.1.2.2.2.2
  have hS : va_S A s.heap s.heap [] := va_S.rf
  have hl : lv_has ls 8 [(0, .ref (a 0)), (1, .int x1), (2, .int x2), (3, .int x3)] := hl
  refine lv_iconst (v := 0) hx hb dX1_dayOf_0 (by decide) ?_
  refine lv_istore (lv' := [(4, .int 0), (0, .ref (a 0)), (1, .int x1), (2, .int x2), (3, .int x3)]) hx hb dX1_dayOf_1 hl (by decide) rfl (fun ls hl => ?_)
  refine lv_iload_n hx hb dX1_dayOf_3 rfl (lv_at hl 3 rfl) ?_
  have J3 : ∀ (w2 : Int32) (H : Heap) (locs : List Loc) (ls : Array Slot), w2 = (m_dayOf_j14_s0 x2) → MR D d A a S H → va_S A s.heap H locs → lv_has ls 8 [(4, .int 0), (0, .ref (a 0)), (1, .int x1), (2, .int x2), (3, .int x3)] → W p l e (rm_ 0) s m av below meth c H locs 0 0 Q (F0 m 14 ls [.int w2]) := by
    intro w2 H locs ls ew2 hR hS hl
    subst ew2
    refine lv_istore (lv' := [(5, .int (m_dayOf_j14_s0 x2)), (4, .int 0), (0, .ref (a 0)), (1, .int x1), (2, .int x2), (3, .int x3)]) hx hb dX1_dayOf_14 hl (by decide) rfl (fun ls hl => ?_)
    refine lv_iconst (v := 0) hx hb dX1_dayOf_16 (by decide) ?_
    refine lv_istore (lv' := [(6, .int 0), (5, .int (m_dayOf_j14_s0 x2)), (4, .int 0), (0, .ref (a 0)), (1, .int x1), (2, .int x2), (3, .int x3)]) hx hb dX1_dayOf_17 hl (by decide) rfl (fun ls hl => ?_)
    have K19 : ∀ (H : Heap) (locs : List Loc) (ls : Array Slot), MR D d A a S H → va_S A s.heap H locs → lv_has ls 8 [(6, .int ((m_dayOf_R19 S x1 x2 x3).2)), (5, .int (m_dayOf_j14_s0 x2)), (4, .int ((m_dayOf_R19 S x1 x2 x3).1)), (0, .ref (a 0)), (1, .int x1), (2, .int x2), (3, .int x3)] → W p l e (rm_ 0) s m av below meth c H locs 0 0 Q (F0 m 111 ls []) := by
      intro H locs ls hR hS hl
      refine lv_iload hx hb dX1_dayOf_111 (lv_at hl 2 rfl) ?_
      exact m_ri hx hb hrt (rfl) hlk hR hS hQ (hF1 rfl) dX1_dayOf_113
    have L19 : ∀ (f19 : Nat) (y4_19 : Int32) (y6_19 : Int32) (H : Heap) (locs : List Loc) (ls : Array Slot), ((m_dayOf_j14_s0 x2) - y6_19 : Int32).toNatClampNeg < f19 → 0 ≤ y6_19 → m_dayOf_L19 S x1 x2 x3 (f19) y4_19 y6_19 = (m_dayOf_R19 S x1 x2 x3) → MR D d A a S H → va_S A s.heap H locs → lv_has ls 8 [(6, .int y6_19), (5, .int (m_dayOf_j14_s0 x2)), (4, .int y4_19), (0, .ref (a 0)), (1, .int x1), (2, .int x2), (3, .int x3)] → W p l e (rm_ 0) s m av below meth c H locs 0 0 Q (F0 m 19 ls []) := by
      intro f19
      induction f19 with
      | zero => intro y4_19 y6_19 H locs ls hf; exact absurd hf (Nat.not_lt_zero _)
      | succ f19 ih =>
        intro y4_19 y6_19 H locs ls hf hi6 hE hR hS hl
        refine lv_iload hx hb dX1_dayOf_19 (lv_at hl 0 rfl) ?_
        refine lv_iload hx hb dX1_dayOf_21 (lv_at hl 1 rfl) ?_
        refine lv_icmp_ge (tgt := 111) hx hb dX1_dayOf_23 (by decide) (fun c4 => ?_) (fun c4 => ?_)
        · have e0 : (m_dayOf_R19 S x1 x2 x3) = (y4_19, y6_19) := Eq.trans (Eq.symm hE) (Eq.trans (m_dayOf_L19_s _ _ _ _ _ _ _) (if_pos c4))
          exact K19 _ _ _ hR hS (by rw [e0]; exact lv_sub hl [0, 1, 2, 3, 4, 5, 6] rfl)
        · have hj14 : (m_dayOf_j14_s0 x2) ≤ 96 := m_dayOf_j14_le _
          have hk6 : 0 ≤ y6_19 ∧ y6_19 < 96 := m_dayOf_o5 S x1 x2 x3 y6_19 hn hm hfr hi6 c4 hj14
          refine lv_iload_n hx hb dX1_dayOf_26 rfl (lv_at hl 5 rfl) ?_
          have J8 : ∀ (w7 : Int32) (H : Heap) (locs : List Loc) (ls : Array Slot), w7 = (m_dayOf_j42_s0 x2 y6_19) → MR D d A a S H → va_S A s.heap H locs → lv_has ls 8 [(6, .int y6_19), (5, .int (m_dayOf_j14_s0 x2)), (4, .int y4_19), (0, .ref (a 0)), (1, .int x1), (2, .int x2), (3, .int x3)] → W p l e (rm_ 0) s m av below meth c H locs 0 0 Q (F0 m 42 ls [.int w7]) := by
            intro w7 H locs ls ew7 hR hS hl
            subst ew7
            refine lv_istore (lv' := [(7, .int (m_dayOf_j42_s0 x2 y6_19)), (6, .int y6_19), (5, .int (m_dayOf_j14_s0 x2)), (4, .int y4_19), (0, .ref (a 0)), (1, .int x1), (2, .int x2), (3, .int x3)]) hx hb dX1_dayOf_42 hl (by decide) rfl (fun ls hl => ?_)
            refine lv_iload hx hb dX1_dayOf_44 (lv_at hl 3 rfl) ?_
            refine lv_aload_n hx hb dX1_dayOf_46 rfl (lv_at hl 4 rfl) ?_
            refine mg_a X hR 11 (by decide) (by decide) q1148 dX1_dayOf_47 ?_
            refine lv_iload_n hx hb dX1_dayOf_50 rfl (lv_at hl 5 rfl) ?_
            refine m_ld X hR ⟨by decide, rfl, by decide⟩ (ixl 16 16 (by decide) rfl (hn)) (v := S.1 11 (Int32.toNatClampNeg x1)) rfl dX1_dayOf_51 ?_
            have J18 : ∀ (w17 : Int32) (H : Heap) (locs : List Loc) (ls : Array Slot), w17 = (m_dayOf_j102_s0 S x1 x2 x3 y6_19) → MR D d A a S H → va_S A s.heap H locs → lv_has ls 8 [(7, .int (m_dayOf_j42_s0 x2 y6_19)), (6, .int y6_19), (5, .int (m_dayOf_j14_s0 x2)), (4, .int y4_19), (0, .ref (a 0)), (1, .int x1), (2, .int x2), (3, .int x3)] → W p l e (rm_ 0) s m av below meth c H locs 0 0 Q (F0 m 102 ls [.int w17, .int y4_19]) := by
              intro w17 H locs ls ew17 hR hS hl
              subst ew17
              refine lv_iadd hx hb dX1_dayOf_102 ?_
              refine lv_istore (lv' := [(4, .int (m_dayOf_v103 S x1 x2 x3 y4_19 y6_19)), (7, .int (m_dayOf_j42_s0 x2 y6_19)), (6, .int y6_19), (5, .int (m_dayOf_j14_s0 x2)), (0, .ref (a 0)), (1, .int x1), (2, .int x2), (3, .int x3)]) hx hb dX1_dayOf_103 hl (by decide) rfl (fun ls hl => ?_)
              refine lv_iinc (v := (y6_19 + 1)) (lv' := [(6, .int (y6_19 + 1)), (4, .int (m_dayOf_v103 S x1 x2 x3 y4_19 y6_19)), (7, .int (m_dayOf_j42_s0 x2 y6_19)), (5, .int (m_dayOf_j14_s0 x2)), (0, .ref (a 0)), (1, .int x1), (2, .int x2), (3, .int x3)]) hx hb dX1_dayOf_105 hl (k := 2) rfl rfl (by decide) rfl (fun ls hl => ?_)
              refine lv_goto (tgt := 19) hx hb dX1_dayOf_108 (by decide) ?_
              exact ih (m_dayOf_v103 S x1 x2 x3 y4_19 y6_19) (y6_19 + 1) _ _  _ (Nat.lt_of_lt_of_le (up_ hi6 (m_dayOf_o20 S x1 x2 x3 y6_19 hn hm hfr hi6 c4 hj14 hk6)) (Nat.le_of_lt_succ hf)) (m_dayOf_o19 S x1 x2 x3 y6_19 hn hm hfr hi6 c4 hj14 hk6) (Eq.trans (Eq.symm (Eq.trans (m_dayOf_L19_s _ _ _ _ _ _ _) (if_neg c4))) hE) hR hS (lv_sub hl [0, 3, 1, 4, 5, 6, 7] rfl)
            refine lv_if_ne (tgt := 59) hx hb dX1_dayOf_52 (by decide) (fun c9 => ?_) (fun c9 => ?_)
            · have hm1 : 1 ≤ S.1 12 (Int32.toNatClampNeg x1) := m_dayOf_o10 S x1 x2 x3 y6_19 hn hm hfr hi6 c4 hj14 hk6 c9
              refine lv_aload_n hx hb dX1_dayOf_59 rfl (lv_at hl 4 rfl) ?_
              refine mg_a X hR 13 (by decide) (by decide) q1150 dX1_dayOf_60 ?_
              refine lv_bipush (v := 24) hx hb dX1_dayOf_63 (by decide) ?_
              refine lv_iload_n hx hb dX1_dayOf_65 rfl (lv_at hl 5 rfl) ?_
              refine lv_imul hx hb dX1_dayOf_66 ?_
              refine lv_aload_n hx hb dX1_dayOf_67 rfl (lv_at hl 4 rfl) ?_
              refine mg_a X hR 11 (by decide) (by decide) q1148 dX1_dayOf_68 ?_
              refine lv_iload_n hx hb dX1_dayOf_71 rfl (lv_at hl 5 rfl) ?_
              refine m_ld X hR ⟨by decide, rfl, by decide⟩ (ixl 16 16 (by decide) rfl (hn)) (v := S.1 11 (Int32.toNatClampNeg x1)) rfl dX1_dayOf_72 ?_
              refine lv_iconst (v := 2) hx hb dX1_dayOf_73 (by decide) ?_
              have J15 : ∀ (w14 : Int32) (H : Heap) (locs : List Loc) (ls : Array Slot), w14 = (m_dayOf_j100_s0 S x1 x2 x3 y6_19) → MR D d A a S H → va_S A s.heap H locs → lv_has ls 8 [(7, .int (m_dayOf_j42_s0 x2 y6_19)), (6, .int y6_19), (5, .int (m_dayOf_j14_s0 x2)), (4, .int y4_19), (0, .ref (a 0)), (1, .int x1), (2, .int x2), (3, .int x3)] → W p l e (rm_ 0) s m av below meth c H locs 0 0 Q (F0 m 100 ls [.int w14, .int (24 * x1), .ref (a 13), .int y4_19]) := by
                intro w14 H locs ls ew14 hR hS hl
                subst ew14
                have h100 : 0 ≤ (m_dayOf_j100_s0 S x1 x2 x3 y6_19) ∧ (m_dayOf_j100_s0 S x1 x2 x3 y6_19) < S.1 12 (Int32.toNatClampNeg x1) := m_dayOf_100 S x1 x2 x3 _ hk6 hfr hm1
                refine lv_iadd hx hb dX1_dayOf_100 ?_
                refine m_ld X hR ⟨by decide, rfl, by decide⟩ (ixl 384 384 (by decide) rfl (m_dayOf_o16 S x1 x2 x3 y6_19 hn hm hfr hi6 c4 hj14 hk6 c9 hm1 h100)) (v := S.1 13 (Int32.toNatClampNeg ((24 * x1) + (m_dayOf_j100_s0 S x1 x2 x3 y6_19)))) rfl dX1_dayOf_101 ?_
                exact J18 _ _ _  _ (Eq.symm (if_neg c9)) hR hS  (lv_sub hl [0, 1, 2, 3, 4, 5, 6, 7] rfl)
              refine lv_icmp_ne (tgt := 89) hx hb dX1_dayOf_74 (by decide) (fun c11 => ?_) (fun c11 => ?_)
              · refine lv_iload_n hx hb dX1_dayOf_89 rfl (lv_at hl 7 rfl) ?_
                refine lv_iload hx hb dX1_dayOf_90 (lv_at hl 1 rfl) ?_
                refine lv_iadd hx hb dX1_dayOf_92 ?_
                refine lv_aload_n hx hb dX1_dayOf_93 rfl (lv_at hl 4 rfl) ?_
                refine mg_a X hR 12 (by decide) (by decide) q1149 dX1_dayOf_94 ?_
                refine lv_iload_n hx hb dX1_dayOf_97 rfl (lv_at hl 5 rfl) ?_
                refine m_ld X hR ⟨by decide, rfl, by decide⟩ (ixl 16 16 (by decide) rfl (hn)) (v := S.1 12 (Int32.toNatClampNeg x1)) rfl dX1_dayOf_98 ?_
                refine lv_irem hx hb dX1_dayOf_99 (m_dayOf_o12 S x1 x2 x3 y6_19 hn hm hfr hi6 c4 hj14 hk6 c9 hm1 c11) ?_
                exact J15 _ _ _  _ (Eq.symm (if_neg c11)) hR hS  (lv_sub hl [0, 1, 2, 3, 4, 5, 6, 7] rfl)
              · refine lv_iload hx hb dX1_dayOf_77 (lv_at hl 0 rfl) ?_
                refine lv_aload_n hx hb dX1_dayOf_79 rfl (lv_at hl 4 rfl) ?_
                refine mg_a X hR 12 (by decide) (by decide) q1149 dX1_dayOf_80 ?_
                refine lv_iload_n hx hb dX1_dayOf_83 rfl (lv_at hl 5 rfl) ?_
                refine m_ld X hR ⟨by decide, rfl, by decide⟩ (ixl 16 16 (by decide) rfl (hn)) (v := S.1 12 (Int32.toNatClampNeg x1)) rfl dX1_dayOf_84 ?_
                refine lv_irem hx hb dX1_dayOf_85 (m_dayOf_o13 S x1 x2 x3 y6_19 hn hm hfr hi6 c4 hj14 hk6 c9 hm1 c11) ?_
                refine lv_goto (tgt := 100) hx hb dX1_dayOf_86 (by decide) ?_
                exact J15 _ _ _  _ (Eq.symm (if_pos c11)) hR hS  (lv_sub hl [0, 1, 2, 3, 4, 5, 6, 7] rfl)
            · refine lv_iconst (v := 1) hx hb dX1_dayOf_55 (by decide) ?_
              refine lv_goto (tgt := 102) hx hb dX1_dayOf_56 (by decide) ?_
              exact J18 _ _ _  _ (Eq.symm (if_pos c9)) hR hS  (lv_sub hl [0, 1, 2, 3, 4, 5, 6, 7] rfl)
          refine lv_if_eq (tgt := 37) hx hb dX1_dayOf_27 (by decide) (fun c6 => ?_) (fun c6 => ?_)
          · refine lv_iload hx hb dX1_dayOf_37 (lv_at hl 0 rfl) ?_
            refine lv_bipush (v := 12) hx hb dX1_dayOf_39 (by decide) ?_
            refine lv_irem hx hb dX1_dayOf_41 (by decide) ?_
            exact J8 _ _ _  _ (Eq.symm (if_pos c6)) hR hS  (lv_sub hl [0, 1, 2, 3, 4, 5, 6] rfl)
          · refine lv_iload hx hb dX1_dayOf_30 (lv_at hl 0 rfl) ?_
            refine lv_iconst (v := 4) hx hb dX1_dayOf_32 (by decide) ?_
            refine lv_irem hx hb dX1_dayOf_33 (by decide) ?_
            refine lv_goto (tgt := 42) hx hb dX1_dayOf_34 (by decide) ?_
            exact J8 _ _ _  _ (Eq.symm (if_neg c6)) hR hS  (lv_sub hl [0, 1, 2, 3, 4, 5, 6] rfl)
    exact L19 _ 0 0 _ _  _ (Nat.lt_succ_self _) (by decide) rfl hR hS (lv_sub hl [0, 1, 2, 3, 4, 5, 6] rfl)
  refine lv_if_eq (tgt := 12) hx hb dX1_dayOf_4 (by decide) (fun c1 => ?_) (fun c1 => ?_)
  · refine lv_bipush (v := 24) hx hb dX1_dayOf_12 (by decide) ?_
    exact J3 _ _ _  _ (Eq.symm (if_pos c1)) hR hS  (lv_sub hl [0, 1, 2, 3, 4] rfl)
  · refine lv_bipush (v := 96) hx hb dX1_dayOf_7 (by decide) ?_
    refine lv_goto (tgt := 14) hx hb dX1_dayOf_9 (by decide) ?_
    exact J3 _ _ _  _ (Eq.symm (if_neg c1)) hR hS  (lv_sub hl [0, 1, 2, 3, 4] rfl)
theorem m_daily_o2 (S : MS) (x1 : Int32) (hI : MInv S) (hn : ¬ (m_isTrain S x1) = 0 → 0 ≤ x1 ∧ x1 < 16) (hm : 0 ≤ x1 ∧ x1 < 16 → 0 ≤ S.1 11 (Int32.toNatClampNeg x1) ∧ S.1 11 (Int32.toNatClampNeg x1) ≤ 3 ∧ 0 ≤ S.1 12 (Int32.toNatClampNeg x1) ∧ S.1 12 (Int32.toNatClampNeg x1) ≤ 24 ∧ (S.1 11 (Int32.toNatClampNeg x1) = 0 ∨ 1 ≤ S.1 12 (Int32.toNatClampNeg x1)) ∧ 0 ≤ S.1 14 (Int32.toNatClampNeg x1) ∧ (S.1 14 (Int32.toNatClampNeg x1) < S.1 12 (Int32.toNatClampNeg x1) ∨ S.1 14 (Int32.toNatClampNeg x1) = 0)) (c1 : ¬ (m_isTrain S x1) = 0) : 0 ≤ x1 ∧ x1 < 16 := by 
  clear hI
  try simp only [i_le, i_lt, i_eq, Int32.reduceToInt] at *
  try simp only [Int32.reduceToInt] at *
  omega
theorem m_daily_o3 (S : MS) (x1 : Int32) (hI : MInv S) (hn : ¬ (m_isTrain S x1) = 0 → 0 ≤ x1 ∧ x1 < 16) (hm : 0 ≤ x1 ∧ x1 < 16 → 0 ≤ S.1 11 (Int32.toNatClampNeg x1) ∧ S.1 11 (Int32.toNatClampNeg x1) ≤ 3 ∧ 0 ≤ S.1 12 (Int32.toNatClampNeg x1) ∧ S.1 12 (Int32.toNatClampNeg x1) ≤ 24 ∧ (S.1 11 (Int32.toNatClampNeg x1) = 0 ∨ 1 ≤ S.1 12 (Int32.toNatClampNeg x1)) ∧ 0 ≤ S.1 14 (Int32.toNatClampNeg x1) ∧ (S.1 14 (Int32.toNatClampNeg x1) < S.1 12 (Int32.toNatClampNeg x1) ∨ S.1 14 (Int32.toNatClampNeg x1) = 0)) (c1 : ¬ (m_isTrain S x1) = 0) : 0 ≤ S.1 11 (Int32.toNatClampNeg x1) ∧ S.1 11 (Int32.toNatClampNeg x1) ≤ 3 ∧ 0 ≤ S.1 12 (Int32.toNatClampNeg x1) ∧ S.1 12 (Int32.toNatClampNeg x1) ≤ 24 ∧ (S.1 11 (Int32.toNatClampNeg x1) = 0 ∨ 1 ≤ S.1 12 (Int32.toNatClampNeg x1)) ∧ 0 ≤ S.1 14 (Int32.toNatClampNeg x1) ∧ (S.1 14 (Int32.toNatClampNeg x1) < S.1 12 (Int32.toNatClampNeg x1) ∨ S.1 14 (Int32.toNatClampNeg x1) = 0) := by 
  clear hI
  try simp only [i_le, i_lt, i_eq, Int32.reduceToInt] at *
  try simp only [Int32.reduceToInt] at *
  omega
theorem m_daily_o4 (S : MS) (x1 : Int32) (hI : MInv S) (hn : ¬ (m_isTrain S x1) = 0 → 0 ≤ x1 ∧ x1 < 16) (hm : 0 ≤ x1 ∧ x1 < 16 → 0 ≤ S.1 11 (Int32.toNatClampNeg x1) ∧ S.1 11 (Int32.toNatClampNeg x1) ≤ 3 ∧ 0 ≤ S.1 12 (Int32.toNatClampNeg x1) ∧ S.1 12 (Int32.toNatClampNeg x1) ≤ 24 ∧ (S.1 11 (Int32.toNatClampNeg x1) = 0 ∨ 1 ≤ S.1 12 (Int32.toNatClampNeg x1)) ∧ 0 ≤ S.1 14 (Int32.toNatClampNeg x1) ∧ (S.1 14 (Int32.toNatClampNeg x1) < S.1 12 (Int32.toNatClampNeg x1) ∨ S.1 14 (Int32.toNatClampNeg x1) = 0)) (c1 : ¬ (m_isTrain S x1) = 0) : 0 ≤ (S.1 14 (Int32.toNatClampNeg x1)) ∧ (S.1 14 (Int32.toNatClampNeg x1)) ≤ 24 := by 
  clear hI
  try simp only [i_le, i_lt, i_eq, Int32.reduceToInt] at *
  try simp only [Int32.reduceToInt] at *
  omega
def m_daily (S : MS) (x1 : Int32) (x2 : Int32) : Int32 := (if (m_isTrain S x1) = 0 then (-1) else (m_dayOf S x1 x2 (S.1 14 (Int32.toNatClampNeg x1))))
set_option maxHeartbeats 4000000 in
theorem mt_daily (l : Launch) (D : va_G) (d : Nat → ClassId) (A : Nat → Prop) (a : Nat → Nat) (S : MS) (x1 : Int32) (x2 : Int32) (hI : MInv S) : MI l yX1_daily cX1_daily 3 .int (rm_ 2) D d A a S [.int x1, .int x2] ((m_daily S x1 x2), S) := by
  refine m_startI rfl (Nat.le_of_ble_eq_true rfl) ?_
  intro p e s m av below meth c ls Q X hrt hlk hl hR hQ
  have hx := X.1.1
  have hb := X.1.2.1
  have hown := X.1.2.2.2.1
  have hts := X.1.2.2.2.2
  have hS : va_S A s.heap s.heap [] := va_S.rf
  have hl : lv_has ls 3 [(0, .ref (a 0)), (1, .int x1), (2, .int x2)] := hl
  have hn : ¬ (m_isTrain S x1) = 0 → 0 ≤ x1 ∧ x1 < 16 := isTrain_ok hI
  have hm : 0 ≤ x1 ∧ x1 < 16 → 0 ≤ S.1 11 (Int32.toNatClampNeg x1) ∧ S.1 11 (Int32.toNatClampNeg x1) ≤ 3 ∧ 0 ≤ S.1 12 (Int32.toNatClampNeg x1) ∧ S.1 12 (Int32.toNatClampNeg x1) ≤ 24 ∧ (S.1 11 (Int32.toNatClampNeg x1) = 0 ∨ 1 ≤ S.1 12 (Int32.toNatClampNeg x1)) ∧ 0 ≤ S.1 14 (Int32.toNatClampNeg x1) ∧ (S.1 14 (Int32.toNatClampNeg x1) < S.1 12 (Int32.toNatClampNeg x1) ∨ S.1 14 (Int32.toNatClampNeg x1) = 0) := mi_n hI
  refine lv_aload_n hx hb dX1_daily_0 rfl (lv_at hl 0 rfl) ?_
  refine lv_iload_n hx hb dX1_daily_1 rfl (lv_at hl 1 rfl) ?_
  refine m_cr X hR hS (mt_isTrain l D d A a S x1) 1 (lw_V q1373 q1375 qs28 q59 q1376) ⟨rfl, rfl⟩ (by decide +kernel) ⟨by decide, by decide⟩ ⟨by decide, by decide⟩ rfl hl.1 rfl (Nat.le_of_ble_eq_true rfl) dX1_daily_2 (fun H locs hR hS => ?_)
  refine lv_if_eq (tgt := 23) hx hb dX1_daily_5 (by decide) (fun c1 => ?_) (fun c1 => ?_)
  · refine lv_iconst (v := (-1)) hx hb dX1_daily_23 (by decide) ?_
    exact m_ri hx hb hrt (rfl) hlk hR hS hQ (hF1 (if_pos c1)) dX1_daily_24
  · refine lv_aload_n hx hb dX1_daily_8 rfl (lv_at hl 0 rfl) ?_
    refine lv_iload_n hx hb dX1_daily_9 rfl (lv_at hl 1 rfl) ?_
    refine lv_iload_n hx hb dX1_daily_10 rfl (lv_at hl 2 rfl) ?_
    refine lv_aload_n hx hb dX1_daily_11 rfl (lv_at hl 0 rfl) ?_
    refine mg_a X hR 14 (by decide) (by decide) q1151 dX1_daily_12 ?_
    refine lv_iload_n hx hb dX1_daily_15 rfl (lv_at hl 1 rfl) ?_
    refine m_ld X hR ⟨by decide, rfl, by decide⟩ (ixl 16 16 (by decide) rfl (m_daily_o2 S x1 hI hn hm c1)) (v := S.1 14 (Int32.toNatClampNeg x1)) rfl dX1_daily_16 ?_
    refine m_cr X hR hS (mt_dayOf l D d A a S x1 x2 (S.1 14 (Int32.toNatClampNeg x1)) (m_daily_o2 S x1 hI hn hm c1) (m_daily_o3 S x1 hI hn hm c1) (m_daily_o4 S x1 hI hn hm c1)) 3 (lw_V q1673 q1675 qs56 q59 q1676) ⟨rfl, rfl⟩ (by decide +kernel) ⟨by decide, by decide⟩ ⟨by decide, by decide⟩ rfl hl.1 rfl (Nat.le_of_ble_eq_true rfl) dX1_daily_17 (fun H locs hR hS => ?_)
    refine lv_goto (tgt := 24) hx hb dX1_daily_20 (by decide) ?_
    exact m_ri hx hb hrt (rfl) hlk hR hS hQ (hF1 (if_neg c1)) dX1_daily_24

theorem m_count_o5 (x1 : Int32) (y3_52 : Int32) (c1 : ¬ x1 = 0) (c2 : ¬ x1 = 1) (c3 : x1 = 2) (hi3 : 0 ≤ y3_52) (c4 : ¬ 4 ≤ y3_52) : 0 ≤ y3_52 ∧ y3_52 < 4 := by 
  try simp only [i_le, i_lt, i_eq, Int32.reduceToInt] at *
  try simp only [Int32.reduceToInt] at *
  omega
def m_count_j72_s0 (S : MS) (y3_52 : Int32) : Int32 := (if (S.1 26 (Int32.toNatClampNeg y3_52)) = 0 then 0 else 1)
def m_count_v73 (S : MS) (y2_52 : Int32) (y3_52 : Int32) : Int32 := (y2_52 + (m_count_j72_s0 S y3_52))
def m_count_L52 (S : MS) : Nat → Int32 → Int32 → Int32 × Int32
  | 0, y2_52, y3_52 => (y2_52, y3_52)
  | f52 + 1, y2_52, y3_52 => (if 4 ≤ y3_52 then (y2_52, y3_52) else (m_count_L52 S f52 (m_count_v73 S y2_52 y3_52) (y3_52 + 1)))
theorem m_count_L52_s (S : MS) (f52 : Nat) (y2_52 : Int32) (y3_52 : Int32) : m_count_L52 S (f52 + 1) y2_52 y3_52 = (if 4 ≤ y3_52 then (y2_52, y3_52) else (m_count_L52 S f52 (m_count_v73 S y2_52 y3_52) (y3_52 + 1))) := rfl
def m_count_R52 (S : MS) : Int32 × Int32 := m_count_L52 S ((4 - 0 : Int32).toNatClampNeg + 1) 0 0
theorem m_count_o12 (x1 : Int32) (y3_89 : Int32) (c1 : ¬ x1 = 0) (c2 : ¬ x1 = 1) (c3 : ¬ x1 = 2) (c9 : ¬ x1 = 3) (c10 : x1 = 4) (hi3 : 0 ≤ y3_89) (c11 : ¬ 8 ≤ y3_89) : 0 ≤ y3_89 ∧ y3_89 < 8 := by 
  try simp only [i_le, i_lt, i_eq, Int32.reduceToInt] at *
  try simp only [Int32.reduceToInt] at *
  omega
def m_count_j110_s0 (S : MS) (y3_89 : Int32) : Int32 := (if (S.1 7 (Int32.toNatClampNeg y3_89)) < 0 then 0 else 1)
def m_count_v111 (S : MS) (y2_89 : Int32) (y3_89 : Int32) : Int32 := (y2_89 + (m_count_j110_s0 S y3_89))
def m_count_L89 (S : MS) : Nat → Int32 → Int32 → Int32 × Int32
  | 0, y2_89, y3_89 => (y2_89, y3_89)
  | f89 + 1, y2_89, y3_89 => (if 8 ≤ y3_89 then (y2_89, y3_89) else (m_count_L89 S f89 (m_count_v111 S y2_89 y3_89) (y3_89 + 1)))
theorem m_count_L89_s (S : MS) (f89 : Nat) (y2_89 : Int32) (y3_89 : Int32) : m_count_L89 S (f89 + 1) y2_89 y3_89 = (if 8 ≤ y3_89 then (y2_89, y3_89) else (m_count_L89 S f89 (m_count_v111 S y2_89 y3_89) (y3_89 + 1))) := rfl
def m_count_R89 (S : MS) : Int32 × Int32 := m_count_L89 S ((8 - 0 : Int32).toNatClampNeg + 1) 0 0
theorem m_count_o17 (x1 : Int32) (y3_52 : Int32) (c1 : ¬ x1 = 0) (c2 : ¬ x1 = 1) (c3 : x1 = 2) (hi3 : 0 ≤ y3_52) (c4 : ¬ 4 ≤ y3_52) : 0 ≤ (y3_52 + 1) := by 
  try simp only [i_le, i_lt, i_eq, Int32.reduceToInt] at *
  first | (have e_0 := a32 (x := y3_52) (y := 1) (by (try simp only [Int32.reduceToInt]); omega); (try simp only [Int32.reduceToInt] at e_0)) | skip
  try simp only [Int32.reduceToInt] at *
  omega
theorem m_count_o18 (x1 : Int32) (y3_52 : Int32) (c1 : ¬ x1 = 0) (c2 : ¬ x1 = 1) (c3 : x1 = 2) (hi3 : 0 ≤ y3_52) (c4 : ¬ 4 ≤ y3_52) : y3_52 < 4 := by 
  try simp only [i_le, i_lt, i_eq, Int32.reduceToInt] at *
  try simp only [Int32.reduceToInt] at *
  omega
theorem m_count_o19 (x1 : Int32) (y3_89 : Int32) (c1 : ¬ x1 = 0) (c2 : ¬ x1 = 1) (c3 : ¬ x1 = 2) (c9 : ¬ x1 = 3) (c10 : x1 = 4) (hi3 : 0 ≤ y3_89) (c11 : ¬ 8 ≤ y3_89) : 0 ≤ (y3_89 + 1) := by 
  try simp only [i_le, i_lt, i_eq, Int32.reduceToInt] at *
  first | (have e_0 := a32 (x := y3_89) (y := 1) (by (try simp only [Int32.reduceToInt]); omega); (try simp only [Int32.reduceToInt] at e_0)) | skip
  try simp only [Int32.reduceToInt] at *
  omega
theorem m_count_o20 (x1 : Int32) (y3_89 : Int32) (c1 : ¬ x1 = 0) (c2 : ¬ x1 = 1) (c3 : ¬ x1 = 2) (c9 : ¬ x1 = 3) (c10 : x1 = 4) (hi3 : 0 ≤ y3_89) (c11 : ¬ 8 ≤ y3_89) : y3_89 < 8 := by 
  try simp only [i_le, i_lt, i_eq, Int32.reduceToInt] at *
  try simp only [Int32.reduceToInt] at *
  omega
def m_count (S : MS) (x1 : Int32) : Int32 := (if x1 = 0 then (S.1 5 0) else (if x1 = 1 then (S.1 10 0) else (if x1 = 2 then (m_count_R52 S).1 else (if x1 = 3 then (S.1 48 0) else (if x1 = 4 then (m_count_R89 S).1 else (if x1 = 5 then (S.1 6 0) else (-1)))))))
set_option maxHeartbeats 4000000 in
theorem mt_count (l : Launch) (D : va_G) (d : Nat → ClassId) (A : Nat → Prop) (a : Nat → Nat) (S : MS) (x1 : Int32) : MI l yX1_count cX1_count 4 .int (rm_ 0) D d A a S [.int x1] ((m_count S x1), S) := by
  refine m_startI rfl (Nat.le_of_ble_eq_true rfl) ?_
  intro p e s m av below meth c ls Q X hrt hlk hl hR hQ
  have hx := X.1.1
  have hb := X.1.2.1
  have hown := X.1.2.2.2.1
  have hts := X.1.2.2.2.2
  have hS : va_S A s.heap s.heap [] := va_S.rf
  have hl : lv_has ls 4 [(0, .ref (a 0)), (1, .int x1)] := hl
  refine lv_iconst (v := 0) hx hb dX1_count_0 (by decide) ?_
  refine lv_istore_n (lv' := [(2, .int 0), (0, .ref (a 0)), (1, .int x1)]) hx hb dX1_count_1 rfl hl (by decide) rfl (fun ls hl => ?_)
  refine lv_iload_n hx hb dX1_count_2 rfl (lv_at hl 2 rfl) ?_
  by_cases c1 : x1 = 0
  · refine lv_tableIn (off := 37) (tgt := 40) hx hb dX1_count_3 (by rw [c1]; decide) (by rw [c1]; decide) (by rw [c1]; rfl) (by decide) ?_
    refine lv_aload_n hx hb dX1_count_40 rfl (lv_at hl 1 rfl) ?_
    refine mg_i X hR 5 (by decide) rfl q1142 rfl dX1_count_41 ?_
    exact m_ri hx hb hrt (rfl) hlk hR hS hQ (hF1 (if_pos c1)) dX1_count_44
  · by_cases c2 : x1 = 1
    · refine lv_tableIn (off := 42) (tgt := 45) hx hb dX1_count_3 (by rw [c2]; decide) (by rw [c2]; decide) (by rw [c2]; rfl) (by decide) ?_
      refine lv_aload_n hx hb dX1_count_45 rfl (lv_at hl 1 rfl) ?_
      refine mg_i X hR 10 (by decide) rfl q1147 rfl dX1_count_46 ?_
      exact m_ri hx hb hrt (rfl) hlk hR hS hQ (hF1 (Eq.trans (if_neg c1) (if_pos c2))) dX1_count_49
    · by_cases c3 : x1 = 2
      · refine lv_tableIn (off := 47) (tgt := 50) hx hb dX1_count_3 (by rw [c3]; decide) (by rw [c3]; decide) (by rw [c3]; rfl) (by decide) ?_
        refine lv_iconst (v := 0) hx hb dX1_count_50 (by decide) ?_
        refine lv_istore_n (lv' := [(3, .int 0), (2, .int 0), (0, .ref (a 0)), (1, .int x1)]) hx hb dX1_count_51 rfl hl (by decide) rfl (fun ls hl => ?_)
        have K52 : ∀ (H : Heap) (locs : List Loc) (ls : Array Slot), MR D d A a S H → va_S A s.heap H locs → lv_has ls 4 [(3, .int ((m_count_R52 S).2)), (2, .int ((m_count_R52 S).1)), (0, .ref (a 0)), (1, .int x1)] → W p l e (rm_ 0) s m av below meth c H locs 0 0 Q (F0 m 80 ls []) := by
          intro H locs ls hR hS hl
          refine lv_iload_n hx hb dX1_count_80 rfl (lv_at hl 1 rfl) ?_
          exact m_ri hx hb hrt (rfl) hlk hR hS hQ (hF1 (Eq.trans (if_neg c1) (Eq.trans (if_neg c2) (if_pos c3)))) dX1_count_81
        have L52 : ∀ (f52 : Nat) (y2_52 : Int32) (y3_52 : Int32) (H : Heap) (locs : List Loc) (ls : Array Slot), (4 - y3_52 : Int32).toNatClampNeg < f52 → 0 ≤ y3_52 → m_count_L52 S (f52) y2_52 y3_52 = (m_count_R52 S) → MR D d A a S H → va_S A s.heap H locs → lv_has ls 4 [(3, .int y3_52), (2, .int y2_52), (0, .ref (a 0)), (1, .int x1)] → W p l e (rm_ 0) s m av below meth c H locs 0 0 Q (F0 m 52 ls []) := by
          intro f52
          induction f52 with
          | zero => intro y2_52 y3_52 H locs ls hf; exact absurd hf (Nat.not_lt_zero _)
          | succ f52 ih =>
            intro y2_52 y3_52 H locs ls hf hi3 hE hR hS hl
            refine lv_iload_n hx hb dX1_count_52 rfl (lv_at hl 0 rfl) ?_
            refine lv_iconst (v := 4) hx hb dX1_count_53 (by decide) ?_
            refine lv_icmp_ge (tgt := 80) hx hb dX1_count_54 (by decide) (fun c4 => ?_) (fun c4 => ?_)
            · have e0 : (m_count_R52 S) = (y2_52, y3_52) := Eq.trans (Eq.symm hE) (Eq.trans (m_count_L52_s _ _ _ _) (if_pos c4))
              exact K52 _ _ _ hR hS (by rw [e0]; exact lv_sub hl [0, 1, 2, 3] rfl)
            · refine lv_iload_n hx hb dX1_count_57 rfl (lv_at hl 1 rfl) ?_
              refine lv_aload_n hx hb dX1_count_58 rfl (lv_at hl 2 rfl) ?_
              refine mg_a X hR 26 (by decide) (by decide) q1163 dX1_count_59 ?_
              refine lv_iload_n hx hb dX1_count_62 rfl (lv_at hl 0 rfl) ?_
              refine m_zld X hR ⟨by decide, rfl, by decide⟩ (ixl 4 4 (by decide) rfl (m_count_o5 x1 y3_52 c1 c2 c3 hi3 c4)) (v := S.1 26 (Int32.toNatClampNeg y3_52)) rfl dX1_count_63 ?_
              have J8 : ∀ (w7 : Int32) (H : Heap) (locs : List Loc) (ls : Array Slot), w7 = (m_count_j72_s0 S y3_52) → MR D d A a S H → va_S A s.heap H locs → lv_has ls 4 [(3, .int y3_52), (2, .int y2_52), (0, .ref (a 0)), (1, .int x1)] → W p l e (rm_ 0) s m av below meth c H locs 0 0 Q (F0 m 72 ls [.int w7, .int y2_52]) := by
                intro w7 H locs ls ew7 hR hS hl
                subst ew7
                refine lv_iadd hx hb dX1_count_72 ?_
                refine lv_istore_n (lv' := [(2, .int (m_count_v73 S y2_52 y3_52)), (3, .int y3_52), (0, .ref (a 0)), (1, .int x1)]) hx hb dX1_count_73 rfl hl (by decide) rfl (fun ls hl => ?_)
                refine lv_iinc (v := (y3_52 + 1)) (lv' := [(3, .int (y3_52 + 1)), (2, .int (m_count_v73 S y2_52 y3_52)), (0, .ref (a 0)), (1, .int x1)]) hx hb dX1_count_74 hl (k := 1) rfl rfl (by decide) rfl (fun ls hl => ?_)
                refine lv_goto (tgt := 52) hx hb dX1_count_77 (by decide) ?_
                exact ih (m_count_v73 S y2_52 y3_52) (y3_52 + 1) _ _  _ (Nat.lt_of_lt_of_le (up_ hi3 (m_count_o18 x1 y3_52 c1 c2 c3 hi3 c4)) (Nat.le_of_lt_succ hf)) (m_count_o17 x1 y3_52 c1 c2 c3 hi3 c4) (Eq.trans (Eq.symm (Eq.trans (m_count_L52_s _ _ _ _) (if_neg c4))) hE) hR hS (lv_sub hl [0, 1, 2, 3] rfl)
              refine lv_if_eq (tgt := 71) hx hb dX1_count_64 (by decide) (fun c6 => ?_) (fun c6 => ?_)
              · refine lv_iconst (v := 0) hx hb dX1_count_71 (by decide) ?_
                exact J8 _ _ _  _ (Eq.symm (if_pos c6)) hR hS  (lv_sub hl [0, 1, 2, 3] rfl)
              · refine lv_iconst (v := 1) hx hb dX1_count_67 (by decide) ?_
                refine lv_goto (tgt := 72) hx hb dX1_count_68 (by decide) ?_
                exact J8 _ _ _  _ (Eq.symm (if_neg c6)) hR hS  (lv_sub hl [0, 1, 2, 3] rfl)
        exact L52 _ 0 0 _ _  _ (Nat.lt_succ_self _) (by decide) rfl hR hS (lv_sub hl [0, 1, 2, 3] rfl)
      · by_cases c9 : x1 = 3
        · refine lv_tableIn (off := 79) (tgt := 82) hx hb dX1_count_3 (by rw [c9]; decide) (by rw [c9]; decide) (by rw [c9]; rfl) (by decide) ?_
          refine lv_aload_n hx hb dX1_count_82 rfl (lv_at hl 1 rfl) ?_
          refine mg_i X hR 48 (by decide) rfl q1185 rfl dX1_count_83 ?_
          exact m_ri hx hb hrt (rfl) hlk hR hS hQ (hF1 (Eq.trans (if_neg c1) (Eq.trans (if_neg c2) (Eq.trans (if_neg c3) (if_pos c9))))) dX1_count_86
        · by_cases c10 : x1 = 4
          · refine lv_tableIn (off := 84) (tgt := 87) hx hb dX1_count_3 (by rw [c10]; decide) (by rw [c10]; decide) (by rw [c10]; rfl) (by decide) ?_
            refine lv_iconst (v := 0) hx hb dX1_count_87 (by decide) ?_
            refine lv_istore_n (lv' := [(3, .int 0), (2, .int 0), (0, .ref (a 0)), (1, .int x1)]) hx hb dX1_count_88 rfl hl (by decide) rfl (fun ls hl => ?_)
            have K89 : ∀ (H : Heap) (locs : List Loc) (ls : Array Slot), MR D d A a S H → va_S A s.heap H locs → lv_has ls 4 [(3, .int ((m_count_R89 S).2)), (2, .int ((m_count_R89 S).1)), (0, .ref (a 0)), (1, .int x1)] → W p l e (rm_ 0) s m av below meth c H locs 0 0 Q (F0 m 118 ls []) := by
              intro H locs ls hR hS hl
              refine lv_iload_n hx hb dX1_count_118 rfl (lv_at hl 1 rfl) ?_
              exact m_ri hx hb hrt (rfl) hlk hR hS hQ (hF1 (Eq.trans (if_neg c1) (Eq.trans (if_neg c2) (Eq.trans (if_neg c3) (Eq.trans (if_neg c9) (if_pos c10)))))) dX1_count_119
            have L89 : ∀ (f89 : Nat) (y2_89 : Int32) (y3_89 : Int32) (H : Heap) (locs : List Loc) (ls : Array Slot), (8 - y3_89 : Int32).toNatClampNeg < f89 → 0 ≤ y3_89 → m_count_L89 S (f89) y2_89 y3_89 = (m_count_R89 S) → MR D d A a S H → va_S A s.heap H locs → lv_has ls 4 [(3, .int y3_89), (2, .int y2_89), (0, .ref (a 0)), (1, .int x1)] → W p l e (rm_ 0) s m av below meth c H locs 0 0 Q (F0 m 89 ls []) := by
              intro f89
              induction f89 with
              | zero => intro y2_89 y3_89 H locs ls hf; exact absurd hf (Nat.not_lt_zero _)
              | succ f89 ih =>
                intro y2_89 y3_89 H locs ls hf hi3 hE hR hS hl
                refine lv_iload_n hx hb dX1_count_89 rfl (lv_at hl 0 rfl) ?_
                refine lv_bipush (v := 8) hx hb dX1_count_90 (by decide) ?_
                refine lv_icmp_ge (tgt := 118) hx hb dX1_count_92 (by decide) (fun c11 => ?_) (fun c11 => ?_)
                · have e0 : (m_count_R89 S) = (y2_89, y3_89) := Eq.trans (Eq.symm hE) (Eq.trans (m_count_L89_s _ _ _ _) (if_pos c11))
                  exact K89 _ _ _ hR hS (by rw [e0]; exact lv_sub hl [0, 1, 2, 3] rfl)
                · refine lv_iload_n hx hb dX1_count_95 rfl (lv_at hl 1 rfl) ?_
                  refine lv_aload_n hx hb dX1_count_96 rfl (lv_at hl 2 rfl) ?_
                  refine mg_a X hR 7 (by decide) (by decide) q1144 dX1_count_97 ?_
                  refine lv_iload_n hx hb dX1_count_100 rfl (lv_at hl 0 rfl) ?_
                  refine m_ld X hR ⟨by decide, rfl, by decide⟩ (ixl 8 8 (by decide) rfl (m_count_o12 x1 y3_89 c1 c2 c3 c9 c10 hi3 c11)) (v := S.1 7 (Int32.toNatClampNeg y3_89)) rfl dX1_count_101 ?_
                  have J15 : ∀ (w14 : Int32) (H : Heap) (locs : List Loc) (ls : Array Slot), w14 = (m_count_j110_s0 S y3_89) → MR D d A a S H → va_S A s.heap H locs → lv_has ls 4 [(3, .int y3_89), (2, .int y2_89), (0, .ref (a 0)), (1, .int x1)] → W p l e (rm_ 0) s m av below meth c H locs 0 0 Q (F0 m 110 ls [.int w14, .int y2_89]) := by
                    intro w14 H locs ls ew14 hR hS hl
                    subst ew14
                    refine lv_iadd hx hb dX1_count_110 ?_
                    refine lv_istore_n (lv' := [(2, .int (m_count_v111 S y2_89 y3_89)), (3, .int y3_89), (0, .ref (a 0)), (1, .int x1)]) hx hb dX1_count_111 rfl hl (by decide) rfl (fun ls hl => ?_)
                    refine lv_iinc (v := (y3_89 + 1)) (lv' := [(3, .int (y3_89 + 1)), (2, .int (m_count_v111 S y2_89 y3_89)), (0, .ref (a 0)), (1, .int x1)]) hx hb dX1_count_112 hl (k := 1) rfl rfl (by decide) rfl (fun ls hl => ?_)
                    refine lv_goto (tgt := 89) hx hb dX1_count_115 (by decide) ?_
                    exact ih (m_count_v111 S y2_89 y3_89) (y3_89 + 1) _ _  _ (Nat.lt_of_lt_of_le (up_ hi3 (m_count_o20 x1 y3_89 c1 c2 c3 c9 c10 hi3 c11)) (Nat.le_of_lt_succ hf)) (m_count_o19 x1 y3_89 c1 c2 c3 c9 c10 hi3 c11) (Eq.trans (Eq.symm (Eq.trans (m_count_L89_s _ _ _ _) (if_neg c11))) hE) hR hS (lv_sub hl [0, 1, 2, 3] rfl)
                  refine lv_if_lt (tgt := 109) hx hb dX1_count_102 (by decide) (fun c13 => ?_) (fun c13 => ?_)
                  · refine lv_iconst (v := 0) hx hb dX1_count_109 (by decide) ?_
                    exact J15 _ _ _  _ (Eq.symm (if_pos c13)) hR hS  (lv_sub hl [0, 1, 2, 3] rfl)
                  · refine lv_iconst (v := 1) hx hb dX1_count_105 (by decide) ?_
                    refine lv_goto (tgt := 110) hx hb dX1_count_106 (by decide) ?_
                    exact J15 _ _ _  _ (Eq.symm (if_neg c13)) hR hS  (lv_sub hl [0, 1, 2, 3] rfl)
            exact L89 _ 0 0 _ _  _ (Nat.lt_succ_self _) (by decide) rfl hR hS (lv_sub hl [0, 1, 2, 3] rfl)
          · by_cases c16 : x1 = 5
            · refine lv_tableIn (off := 117) (tgt := 120) hx hb dX1_count_3 (by rw [c16]; decide) (by rw [c16]; decide) (by rw [c16]; rfl) (by decide) ?_
              refine lv_aload_n hx hb dX1_count_120 rfl (lv_at hl 1 rfl) ?_
              refine mg_i X hR 6 (by decide) rfl q1143 rfl dX1_count_121 ?_
              exact m_ri hx hb hrt (rfl) hlk hR hS hQ (hF1 (Eq.trans (if_neg c1) (Eq.trans (if_neg c2) (Eq.trans (if_neg c3) (Eq.trans (if_neg c9) (Eq.trans (if_neg c10) (if_pos c16))))))) dX1_count_124
            · refine lv_tableOut (tgt := 125) hx hb dX1_count_3 (sw_out _ _ _ (fun k hk => by match k, hk with | 0, _ => exact c1 | 1, _ => exact c2 | 2, _ => exact c3 | 3, _ => exact c9 | 4, _ => exact c10 | 5, _ => exact c16)) (by decide) ?_
              refine lv_iconst (v := (-1)) hx hb dX1_count_125 (by decide) ?_
              exact m_ri hx hb hrt (rfl) hlk hR hS hQ (hF1 (Eq.trans (if_neg c1) (Eq.trans (if_neg c2) (Eq.trans (if_neg c3) (Eq.trans (if_neg c9) (Eq.trans (if_neg c10) (if_neg c16))))))) dX1_count_126
def m_digest_v9 (S : MS) : Int64 := (527 + (Int32.toInt64 (S.1 5 0)))
theorem m_digest_o2 (S : MS) (y3_12 : Int32) (hI : MInv S) (ht_ : 0 ≤ S.1 10 0 ∧ S.1 10 0 ≤ 16) (hi3 : 0 ≤ y3_12) (c1 : ¬ (S.1 10 0) ≤ y3_12) : 0 ≤ y3_12 ∧ y3_12 < 16 := by 
  clear hI
  try simp only [i_le, i_lt, i_eq, Int32.reduceToInt] at *
  try simp only [Int32.reduceToInt] at *
  omega
def m_digest_v44 (S : MS) (y3_12 : Int32) (y1_23 : Int64) (y4_23 : Int32) : Int64 := ((31 * y1_23) + (Int32.toInt64 (m_trainTells S y3_12 y4_23)))
def m_digest_L23 (S : MS) (y3_12 : Int32) : Nat → Int64 → Int32 → Int64 × Int32
  | 0, y1_23, y4_23 => (y1_23, y4_23)
  | f23 + 1, y1_23, y4_23 => (if 7 < y4_23 then (y1_23, y4_23) else (m_digest_L23 S y3_12 f23 (m_digest_v44 S y3_12 y1_23 y4_23) (y4_23 + 1)))
theorem m_digest_L23_s (S : MS) (y3_12 : Int32) (f23 : Nat) (y1_23 : Int64) (y4_23 : Int32) : m_digest_L23 S y3_12 (f23 + 1) y1_23 y4_23 = (if 7 < y4_23 then (y1_23, y4_23) else (m_digest_L23 S y3_12 f23 (m_digest_v44 S y3_12 y1_23 y4_23) (y4_23 + 1))) := rfl
def m_digest_R23 (S : MS) (y1_12 : Int64) (y3_12 : Int32) : Int64 × Int32 := m_digest_L23 S y3_12 ((8 - 0 : Int32).toNatClampNeg + 1) y1_12 0
theorem m_digest_o5 (S : MS) (y3_12 : Int32) (y4_54 : Int32) (hI : MInv S) (ht_ : 0 ≤ S.1 10 0 ∧ S.1 10 0 ≤ 16) (hi3 : 0 ≤ y3_12) (c1 : ¬ (S.1 10 0) ≤ y3_12) (hn3 : 0 ≤ y3_12 ∧ y3_12 < 16) (hm3 : 0 ≤ S.1 11 (Int32.toNatClampNeg y3_12) ∧ S.1 11 (Int32.toNatClampNeg y3_12) ≤ 3 ∧ 0 ≤ S.1 12 (Int32.toNatClampNeg y3_12) ∧ S.1 12 (Int32.toNatClampNeg y3_12) ≤ 24 ∧ (S.1 11 (Int32.toNatClampNeg y3_12) = 0 ∨ 1 ≤ S.1 12 (Int32.toNatClampNeg y3_12)) ∧ 0 ≤ S.1 14 (Int32.toNatClampNeg y3_12) ∧ (S.1 14 (Int32.toNatClampNeg y3_12) < S.1 12 (Int32.toNatClampNeg y3_12) ∨ S.1 14 (Int32.toNatClampNeg y3_12) = 0)) (hp3 : 0 ≤ S.1 15 (Int32.toNatClampNeg y3_12) ∧ S.1 15 (Int32.toNatClampNeg y3_12) ≤ 48 ∧ 0 ≤ S.1 17 (Int32.toNatClampNeg y3_12) ∧ (S.1 11 (Int32.toNatClampNeg y3_12) = 3 → S.1 17 (Int32.toNatClampNeg y3_12) < S.1 15 (Int32.toNatClampNeg y3_12))) (hi4 : 0 ≤ y4_54) (c4 : ¬ (S.1 12 (Int32.toNatClampNeg y3_12)) ≤ y4_54) : 0 ≤ ((24 * y3_12) + y4_54) ∧ ((24 * y3_12) + y4_54) < 384 := by 
  clear hI
  try simp only [i_le, i_lt, i_eq, Int32.reduceToInt] at *
  first | (have e_0 := m32 (x := 24) (y := y3_12) (by (try simp only [Int32.reduceToInt]); omega); (try simp only [Int32.reduceToInt] at e_0)) | skip
  first | (have e_1 := a32 (x := (24 * y3_12)) (y := y4_54) (by (try simp only [Int32.reduceToInt]); omega); (try simp only [Int32.reduceToInt] at e_1)) | skip
  try simp only [Int32.reduceToInt] at *
  omega
def m_digest_v84 (S : MS) (y3_12 : Int32) (y1_54 : Int64) (y4_54 : Int32) : Int64 := ((31 * y1_54) + (Int32.toInt64 (S.1 13 (Int32.toNatClampNeg ((24 * y3_12) + y4_54)))))
def m_digest_L54 (S : MS) (y3_12 : Int32) : Nat → Int64 → Int32 → Int64 × Int32
  | 0, y1_54, y4_54 => (y1_54, y4_54)
  | f54 + 1, y1_54, y4_54 => (if (S.1 12 (Int32.toNatClampNeg y3_12)) ≤ y4_54 then (y1_54, y4_54) else (m_digest_L54 S y3_12 f54 (m_digest_v84 S y3_12 y1_54 y4_54) (y4_54 + 1)))
theorem m_digest_L54_s (S : MS) (y3_12 : Int32) (f54 : Nat) (y1_54 : Int64) (y4_54 : Int32) : m_digest_L54 S y3_12 (f54 + 1) y1_54 y4_54 = (if (S.1 12 (Int32.toNatClampNeg y3_12)) ≤ y4_54 then (y1_54, y4_54) else (m_digest_L54 S y3_12 f54 (m_digest_v84 S y3_12 y1_54 y4_54) (y4_54 + 1))) := rfl
def m_digest_R54 (S : MS) (y1_12 : Int64) (y3_12 : Int32) : Int64 × Int32 := m_digest_L54 S y3_12 ((S.1 12 (Int32.toNatClampNeg y3_12) - 0 : Int32).toNatClampNeg + 1) ((m_digest_R23 S y1_12 y3_12).1) 0
theorem m_digest_o7 (S : MS) (y3_12 : Int32) (y4_94 : Int32) (hI : MInv S) (ht_ : 0 ≤ S.1 10 0 ∧ S.1 10 0 ≤ 16) (hi3 : 0 ≤ y3_12) (c1 : ¬ (S.1 10 0) ≤ y3_12) (hn3 : 0 ≤ y3_12 ∧ y3_12 < 16) (hm3 : 0 ≤ S.1 11 (Int32.toNatClampNeg y3_12) ∧ S.1 11 (Int32.toNatClampNeg y3_12) ≤ 3 ∧ 0 ≤ S.1 12 (Int32.toNatClampNeg y3_12) ∧ S.1 12 (Int32.toNatClampNeg y3_12) ≤ 24 ∧ (S.1 11 (Int32.toNatClampNeg y3_12) = 0 ∨ 1 ≤ S.1 12 (Int32.toNatClampNeg y3_12)) ∧ 0 ≤ S.1 14 (Int32.toNatClampNeg y3_12) ∧ (S.1 14 (Int32.toNatClampNeg y3_12) < S.1 12 (Int32.toNatClampNeg y3_12) ∨ S.1 14 (Int32.toNatClampNeg y3_12) = 0)) (hp3 : 0 ≤ S.1 15 (Int32.toNatClampNeg y3_12) ∧ S.1 15 (Int32.toNatClampNeg y3_12) ≤ 48 ∧ 0 ≤ S.1 17 (Int32.toNatClampNeg y3_12) ∧ (S.1 11 (Int32.toNatClampNeg y3_12) = 3 → S.1 17 (Int32.toNatClampNeg y3_12) < S.1 15 (Int32.toNatClampNeg y3_12))) (hi4 : 0 ≤ y4_94) (c6 : ¬ (S.1 15 (Int32.toNatClampNeg y3_12)) ≤ y4_94) : 0 ≤ ((48 * y3_12) + y4_94) ∧ ((48 * y3_12) + y4_94) < 768 := by 
  clear hI
  try simp only [i_le, i_lt, i_eq, Int32.reduceToInt] at *
  first | (have e_0 := m32 (x := 48) (y := y3_12) (by (try simp only [Int32.reduceToInt]); omega); (try simp only [Int32.reduceToInt] at e_0)) | skip
  first | (have e_1 := a32 (x := (48 * y3_12)) (y := y4_94) (by (try simp only [Int32.reduceToInt]); omega); (try simp only [Int32.reduceToInt] at e_1)) | skip
  try simp only [Int32.reduceToInt] at *
  omega
def m_digest_v124 (S : MS) (y3_12 : Int32) (y1_94 : Int64) (y4_94 : Int32) : Int64 := ((31 * y1_94) + (Int32.toInt64 (S.1 16 (Int32.toNatClampNeg ((48 * y3_12) + y4_94)))))
def m_digest_L94 (S : MS) (y3_12 : Int32) : Nat → Int64 → Int32 → Int64 × Int32
  | 0, y1_94, y4_94 => (y1_94, y4_94)
  | f94 + 1, y1_94, y4_94 => (if (S.1 15 (Int32.toNatClampNeg y3_12)) ≤ y4_94 then (y1_94, y4_94) else (m_digest_L94 S y3_12 f94 (m_digest_v124 S y3_12 y1_94 y4_94) (y4_94 + 1)))
theorem m_digest_L94_s (S : MS) (y3_12 : Int32) (f94 : Nat) (y1_94 : Int64) (y4_94 : Int32) : m_digest_L94 S y3_12 (f94 + 1) y1_94 y4_94 = (if (S.1 15 (Int32.toNatClampNeg y3_12)) ≤ y4_94 then (y1_94, y4_94) else (m_digest_L94 S y3_12 f94 (m_digest_v124 S y3_12 y1_94 y4_94) (y4_94 + 1))) := rfl
def m_digest_R94 (S : MS) (y1_12 : Int64) (y3_12 : Int32) : Int64 × Int32 := m_digest_L94 S y3_12 ((S.1 15 (Int32.toNatClampNeg y3_12) - 0 : Int32).toNatClampNeg + 1) ((m_digest_R54 S y1_12 y3_12).1) 0
def m_digest_j158_s0 (S : MS) (y1_12 : Int64) (y3_12 : Int32) : Int64 := (if (S.1 11 (Int32.toNatClampNeg y3_12)) = 3 then ((31 * (m_digest_R94 S y1_12 y3_12).1) + (Int32.toInt64 (S.1 17 (Int32.toNatClampNeg y3_12)))) else (m_digest_R94 S y1_12 y3_12).1)
def m_digest_L12 (S : MS) : Nat → Int64 → Int32 → Int64 × Int32
  | 0, y1_12, y3_12 => (y1_12, y3_12)
  | f12 + 1, y1_12, y3_12 => (if (S.1 10 0) ≤ y3_12 then (y1_12, y3_12) else (m_digest_L12 S f12 (m_digest_j158_s0 S y1_12 y3_12) (y3_12 + 1)))
theorem m_digest_L12_s (S : MS) (f12 : Nat) (y1_12 : Int64) (y3_12 : Int32) : m_digest_L12 S (f12 + 1) y1_12 y3_12 = (if (S.1 10 0) ≤ y3_12 then (y1_12, y3_12) else (m_digest_L12 S f12 (m_digest_j158_s0 S y1_12 y3_12) (y3_12 + 1))) := rfl
def m_digest_R12 (S : MS) : Int64 × Int32 := m_digest_L12 S ((S.1 10 0 - 0 : Int32).toNatClampNeg + 1) (m_digest_v9 S) 0
theorem m_digest_o12 (S : MS) (y3_167 : Int32) (hI : MInv S) (ht_ : 0 ≤ S.1 10 0 ∧ S.1 10 0 ≤ 16) (hi3 : 0 ≤ y3_167) (c11 : ¬ 4 ≤ y3_167) : 0 ≤ y3_167 ∧ y3_167 < 4 := by 
  clear hI
  try simp only [i_le, i_lt, i_eq, Int32.reduceToInt] at *
  try simp only [Int32.reduceToInt] at *
  omega
def m_digest_v216 (S : MS) (y3_167 : Int32) (y1_195 : Int64) (y4_195 : Int32) : Int64 := ((31 * y1_195) + (Int32.toInt64 (m_towerTells S y3_167 y4_195)))
def m_digest_L195 (S : MS) (y3_167 : Int32) : Nat → Int64 → Int32 → Int64 × Int32
  | 0, y1_195, y4_195 => (y1_195, y4_195)
  | f195 + 1, y1_195, y4_195 => (if 8 < y4_195 then (y1_195, y4_195) else (m_digest_L195 S y3_167 f195 (m_digest_v216 S y3_167 y1_195 y4_195) (y4_195 + 1)))
theorem m_digest_L195_s (S : MS) (y3_167 : Int32) (f195 : Nat) (y1_195 : Int64) (y4_195 : Int32) : m_digest_L195 S y3_167 (f195 + 1) y1_195 y4_195 = (if 8 < y4_195 then (y1_195, y4_195) else (m_digest_L195 S y3_167 f195 (m_digest_v216 S y3_167 y1_195 y4_195) (y4_195 + 1))) := rfl
def m_digest_R195 (S : MS) (y1_167 : Int64) (y3_167 : Int32) : Int64 × Int32 := m_digest_L195 S y3_167 ((9 - 0 : Int32).toNatClampNeg + 1) y1_167 0
def m_digest_v236 (S : MS) (y1_167 : Int64) (y3_167 : Int32) : Int64 := ((31 * (m_digest_R195 S y1_167 y3_167).1) + (Int32.toInt64 (S.1 37 (Int32.toNatClampNeg y3_167))))
theorem m_digest_o17 (S : MS) (y3_167 : Int32) (y4_240 : Int32) (hI : MInv S) (ht_ : 0 ≤ S.1 10 0 ∧ S.1 10 0 ≤ 16) (hi3 : 0 ≤ y3_167) (c11 : ¬ 4 ≤ y3_167) (hn3t : 0 ≤ y3_167 ∧ y3_167 < 4) (hm3t : 0 ≤ S.1 37 (Int32.toNatClampNeg y3_167) ∧ S.1 37 (Int32.toNatClampNeg y3_167) ≤ 60) (c13 : ¬ (S.1 26 (Int32.toNatClampNeg y3_167)) = 0) (hi4 : 0 ≤ y4_240) (c15 : ¬ 4 ≤ y4_240) (c16 : ¬ (S.1 37 (Int32.toNatClampNeg y3_167)) = 0) : 0 ≤ ((((240 * y3_167) + (4 * (S.1 37 (Int32.toNatClampNeg y3_167)))) - 4) + y4_240) ∧ ((((240 * y3_167) + (4 * (S.1 37 (Int32.toNatClampNeg y3_167)))) - 4) + y4_240) < 960 := by 
  clear hI
  try simp only [i_le, i_lt, i_eq, Int32.reduceToInt] at *
  first | (have e_0 := m32 (x := 240) (y := y3_167) (by (try simp only [Int32.reduceToInt]); omega); (try simp only [Int32.reduceToInt] at e_0)) | skip
  first | (have e_1 := m32 (x := 4) (y := (S.1 37 (Int32.toNatClampNeg y3_167))) (by (try simp only [Int32.reduceToInt]); omega); (try simp only [Int32.reduceToInt] at e_1)) | skip
  first | (have e_2 := a32 (x := (240 * y3_167)) (y := (4 * (S.1 37 (Int32.toNatClampNeg y3_167)))) (by (try simp only [Int32.reduceToInt]); omega); (try simp only [Int32.reduceToInt] at e_2)) | skip
  first | (have e_3 := s32 (x := ((240 * y3_167) + (4 * (S.1 37 (Int32.toNatClampNeg y3_167))))) (y := 4) (by (try simp only [Int32.reduceToInt]); omega); (try simp only [Int32.reduceToInt] at e_3)) | skip
  first | (have e_4 := a32 (x := (((240 * y3_167) + (4 * (S.1 37 (Int32.toNatClampNeg y3_167)))) - 4)) (y := y4_240) (by (try simp only [Int32.reduceToInt]); omega); (try simp only [Int32.reduceToInt] at e_4)) | skip
  try simp only [Int32.reduceToInt] at *
  omega
def m_digest_j288_s0 (S : MS) (y3_167 : Int32) (y4_240 : Int32) : Int32 := (if (S.1 37 (Int32.toNatClampNeg y3_167)) = 0 then 0 else (S.1 38 (Int32.toNatClampNeg ((((240 * y3_167) + (4 * (S.1 37 (Int32.toNatClampNeg y3_167)))) - 4) + y4_240))))
def m_digest_v290 (S : MS) (y3_167 : Int32) (y1_240 : Int64) (y4_240 : Int32) : Int64 := ((31 * y1_240) + (Int32.toInt64 (m_digest_j288_s0 S y3_167 y4_240)))
def m_digest_L240 (S : MS) (y3_167 : Int32) : Nat → Int64 → Int32 → Int64 × Int32
  | 0, y1_240, y4_240 => (y1_240, y4_240)
  | f240 + 1, y1_240, y4_240 => (if 4 ≤ y4_240 then (y1_240, y4_240) else (m_digest_L240 S y3_167 f240 (m_digest_v290 S y3_167 y1_240 y4_240) (y4_240 + 1)))
theorem m_digest_L240_s (S : MS) (y3_167 : Int32) (f240 : Nat) (y1_240 : Int64) (y4_240 : Int32) : m_digest_L240 S y3_167 (f240 + 1) y1_240 y4_240 = (if 4 ≤ y4_240 then (y1_240, y4_240) else (m_digest_L240 S y3_167 f240 (m_digest_v290 S y3_167 y1_240 y4_240) (y4_240 + 1))) := rfl
def m_digest_R240 (S : MS) (y1_167 : Int64) (y3_167 : Int32) : Int64 × Int32 := m_digest_L240 S y3_167 ((4 - 0 : Int32).toNatClampNeg + 1) (m_digest_v236 S y1_167 y3_167) 0
def m_digest_j297_1 (S : MS) (y1_167 : Int64) (y3_167 : Int32) : Int64 := (if (S.1 26 (Int32.toNatClampNeg y3_167)) = 0 then ((31 * y1_167) - 1) else (m_digest_R240 S y1_167 y3_167).1)
def m_digest_L167 (S : MS) : Nat → Int64 → Int32 → Int64 × Int32
  | 0, y1_167, y3_167 => (y1_167, y3_167)
  | f167 + 1, y1_167, y3_167 => (if 4 ≤ y3_167 then (y1_167, y3_167) else (m_digest_L167 S f167 (m_digest_j297_1 S y1_167 y3_167) (y3_167 + 1)))
theorem m_digest_L167_s (S : MS) (f167 : Nat) (y1_167 : Int64) (y3_167 : Int32) : m_digest_L167 S (f167 + 1) y1_167 y3_167 = (if 4 ≤ y3_167 then (y1_167, y3_167) else (m_digest_L167 S f167 (m_digest_j297_1 S y1_167 y3_167) (y3_167 + 1))) := rfl
def m_digest_R167 (S : MS) : Int64 × Int32 := m_digest_L167 S ((4 - 0 : Int32).toNatClampNeg + 1) ((m_digest_R12 S).1) 0
theorem m_digest_o23 (S : MS) (y3_305 : Int32) (hI : MInv S) (ht_ : 0 ≤ S.1 10 0 ∧ S.1 10 0 ≤ 16) (hi3 : 0 ≤ y3_305) (c22 : ¬ 8 ≤ y3_305) : 0 ≤ y3_305 ∧ y3_305 < 8 := by 
  clear hI
  try simp only [i_le, i_lt, i_eq, Int32.reduceToInt] at *
  try simp only [Int32.reduceToInt] at *
  omega
def m_digest_j335_s0 (S : MS) (y3_305 : Int32) : Int32 := (if 0 ≤ (S.1 7 (Int32.toNatClampNeg y3_305)) then (S.1 7 (Int32.toNatClampNeg y3_305)) else (-1))
def m_digest_v337 (S : MS) (y1_305 : Int64) (y3_305 : Int32) : Int64 := ((31 * y1_305) + (Int32.toInt64 (m_digest_j335_s0 S y3_305)))
theorem m_digest_o28 (S : MS) (y3_305 : Int32) (y4_341 : Int32) (hI : MInv S) (ht_ : 0 ≤ S.1 10 0 ∧ S.1 10 0 ≤ 16) (hi3 : 0 ≤ y3_305) (c22 : ¬ 8 ≤ y3_305) (hn3r : 0 ≤ y3_305 ∧ y3_305 < 8) (hm3r : S.1 7 (Int32.toNatClampNeg y3_305) ≤ 48) (hi4 : 0 ≤ y4_341) (c27 : ¬ (S.1 7 (Int32.toNatClampNeg y3_305)) ≤ y4_341) : 0 ≤ ((48 * y3_305) + y4_341) ∧ ((48 * y3_305) + y4_341) < 384 := by 
  clear hI
  try simp only [i_le, i_lt, i_eq, Int32.reduceToInt] at *
  first | (have e_0 := m32 (x := 48) (y := y3_305) (by (try simp only [Int32.reduceToInt]); omega); (try simp only [Int32.reduceToInt] at e_0)) | skip
  first | (have e_1 := a32 (x := (48 * y3_305)) (y := y4_341) (by (try simp only [Int32.reduceToInt]); omega); (try simp only [Int32.reduceToInt] at e_1)) | skip
  try simp only [Int32.reduceToInt] at *
  omega
def m_digest_v371 (S : MS) (y3_305 : Int32) (y1_341 : Int64) (y4_341 : Int32) : Int64 := ((31 * y1_341) + (Int32.toInt64 (S.1 8 (Int32.toNatClampNeg ((48 * y3_305) + y4_341)))))
def m_digest_L341 (S : MS) (y3_305 : Int32) : Nat → Int64 → Int32 → Int64 × Int32
  | 0, y1_341, y4_341 => (y1_341, y4_341)
  | f341 + 1, y1_341, y4_341 => (if (S.1 7 (Int32.toNatClampNeg y3_305)) ≤ y4_341 then (y1_341, y4_341) else (m_digest_L341 S y3_305 f341 (m_digest_v371 S y3_305 y1_341 y4_341) (y4_341 + 1)))
theorem m_digest_L341_s (S : MS) (y3_305 : Int32) (f341 : Nat) (y1_341 : Int64) (y4_341 : Int32) : m_digest_L341 S y3_305 (f341 + 1) y1_341 y4_341 = (if (S.1 7 (Int32.toNatClampNeg y3_305)) ≤ y4_341 then (y1_341, y4_341) else (m_digest_L341 S y3_305 f341 (m_digest_v371 S y3_305 y1_341 y4_341) (y4_341 + 1))) := rfl
def m_digest_R341 (S : MS) (y1_305 : Int64) (y3_305 : Int32) : Int64 × Int32 := m_digest_L341 S y3_305 ((S.1 7 (Int32.toNatClampNeg y3_305) - 0 : Int32).toNatClampNeg + 1) (m_digest_v337 S y1_305 y3_305) 0
def m_digest_L305 (S : MS) : Nat → Int64 → Int32 → Int64 × Int32
  | 0, y1_305, y3_305 => (y1_305, y3_305)
  | f305 + 1, y1_305, y3_305 => (if 8 ≤ y3_305 then (y1_305, y3_305) else (m_digest_L305 S f305 ((m_digest_R341 S y1_305 y3_305).1) (y3_305 + 1)))
theorem m_digest_L305_s (S : MS) (f305 : Nat) (y1_305 : Int64) (y3_305 : Int32) : m_digest_L305 S (f305 + 1) y1_305 y3_305 = (if 8 ≤ y3_305 then (y1_305, y3_305) else (m_digest_L305 S f305 ((m_digest_R341 S y1_305 y3_305).1) (y3_305 + 1))) := rfl
def m_digest_R305 (S : MS) : Int64 × Int32 := m_digest_L305 S ((8 - 0 : Int32).toNatClampNeg + 1) ((m_digest_R167 S).1) 0
theorem m_digest_o29 (S : MS) (y3_305 : Int32) (hI : MInv S) (ht_ : 0 ≤ S.1 10 0 ∧ S.1 10 0 ≤ 16) (hi3 : 0 ≤ y3_305) (c22 : ¬ 8 ≤ y3_305) (hn3r : 0 ≤ y3_305 ∧ y3_305 < 8) (hm3r : S.1 7 (Int32.toNatClampNeg y3_305) ≤ 48) : 0 ≤ (y3_305 + 1) := by 
  clear hI
  try simp only [i_le, i_lt, i_eq, Int32.reduceToInt] at *
  first | (have e_0 := a32 (x := y3_305) (y := 1) (by (try simp only [Int32.reduceToInt]); omega); (try simp only [Int32.reduceToInt] at e_0)) | skip
  try simp only [Int32.reduceToInt] at *
  omega
theorem m_digest_o30 (S : MS) (y3_305 : Int32) (hI : MInv S) (ht_ : 0 ≤ S.1 10 0 ∧ S.1 10 0 ≤ 16) (hi3 : 0 ≤ y3_305) (c22 : ¬ 8 ≤ y3_305) (hn3r : 0 ≤ y3_305 ∧ y3_305 < 8) (hm3r : S.1 7 (Int32.toNatClampNeg y3_305) ≤ 48) : y3_305 < 8 := by 
  clear hI
  try simp only [i_le, i_lt, i_eq, Int32.reduceToInt] at *
  try simp only [Int32.reduceToInt] at *
  omega
theorem m_digest_o31 (S : MS) (y3_305 : Int32) (y4_341 : Int32) (hI : MInv S) (ht_ : 0 ≤ S.1 10 0 ∧ S.1 10 0 ≤ 16) (hi3 : 0 ≤ y3_305) (c22 : ¬ 8 ≤ y3_305) (hn3r : 0 ≤ y3_305 ∧ y3_305 < 8) (hm3r : S.1 7 (Int32.toNatClampNeg y3_305) ≤ 48) (hi4 : 0 ≤ y4_341) (c27 : ¬ (S.1 7 (Int32.toNatClampNeg y3_305)) ≤ y4_341) : 0 ≤ (y4_341 + 1) := by 
  clear hI
  try simp only [i_le, i_lt, i_eq, Int32.reduceToInt] at *
  first | (have e_0 := a32 (x := y4_341) (y := 1) (by (try simp only [Int32.reduceToInt]); omega); (try simp only [Int32.reduceToInt] at e_0)) | skip
  try simp only [Int32.reduceToInt] at *
  omega
theorem m_digest_o32 (S : MS) (y3_305 : Int32) (y4_341 : Int32) (hI : MInv S) (ht_ : 0 ≤ S.1 10 0 ∧ S.1 10 0 ≤ 16) (hi3 : 0 ≤ y3_305) (c22 : ¬ 8 ≤ y3_305) (hn3r : 0 ≤ y3_305 ∧ y3_305 < 8) (hm3r : S.1 7 (Int32.toNatClampNeg y3_305) ≤ 48) (hi4 : 0 ≤ y4_341) (c27 : ¬ (S.1 7 (Int32.toNatClampNeg y3_305)) ≤ y4_341) : y4_341 < S.1 7 (Int32.toNatClampNeg y3_305) := by 
  clear hI
  try simp only [i_le, i_lt, i_eq, Int32.reduceToInt] at *
  try simp only [Int32.reduceToInt] at *
  omega
theorem m_digest_o33 (S : MS) (y3_167 : Int32) (hI : MInv S) (ht_ : 0 ≤ S.1 10 0 ∧ S.1 10 0 ≤ 16) (hi3 : 0 ≤ y3_167) (c11 : ¬ 4 ≤ y3_167) (hn3t : 0 ≤ y3_167 ∧ y3_167 < 4) (hm3t : 0 ≤ S.1 37 (Int32.toNatClampNeg y3_167) ∧ S.1 37 (Int32.toNatClampNeg y3_167) ≤ 60) : 0 ≤ (y3_167 + 1) := by 
  clear hI
  try simp only [i_le, i_lt, i_eq, Int32.reduceToInt] at *
  first | (have e_0 := a32 (x := y3_167) (y := 1) (by (try simp only [Int32.reduceToInt]); omega); (try simp only [Int32.reduceToInt] at e_0)) | skip
  try simp only [Int32.reduceToInt] at *
  omega
theorem m_digest_o34 (S : MS) (y3_167 : Int32) (hI : MInv S) (ht_ : 0 ≤ S.1 10 0 ∧ S.1 10 0 ≤ 16) (hi3 : 0 ≤ y3_167) (c11 : ¬ 4 ≤ y3_167) (hn3t : 0 ≤ y3_167 ∧ y3_167 < 4) (hm3t : 0 ≤ S.1 37 (Int32.toNatClampNeg y3_167) ∧ S.1 37 (Int32.toNatClampNeg y3_167) ≤ 60) : y3_167 < 4 := by 
  clear hI
  try simp only [i_le, i_lt, i_eq, Int32.reduceToInt] at *
  try simp only [Int32.reduceToInt] at *
  omega
theorem m_digest_o35 (S : MS) (y3_167 : Int32) (y4_240 : Int32) (hI : MInv S) (ht_ : 0 ≤ S.1 10 0 ∧ S.1 10 0 ≤ 16) (hi3 : 0 ≤ y3_167) (c11 : ¬ 4 ≤ y3_167) (hn3t : 0 ≤ y3_167 ∧ y3_167 < 4) (hm3t : 0 ≤ S.1 37 (Int32.toNatClampNeg y3_167) ∧ S.1 37 (Int32.toNatClampNeg y3_167) ≤ 60) (c13 : ¬ (S.1 26 (Int32.toNatClampNeg y3_167)) = 0) (hi4 : 0 ≤ y4_240) (c15 : ¬ 4 ≤ y4_240) : 0 ≤ (y4_240 + 1) := by 
  clear hI
  try simp only [i_le, i_lt, i_eq, Int32.reduceToInt] at *
  first | (have e_0 := a32 (x := y4_240) (y := 1) (by (try simp only [Int32.reduceToInt]); omega); (try simp only [Int32.reduceToInt] at e_0)) | skip
  try simp only [Int32.reduceToInt] at *
  omega
theorem m_digest_o36 (S : MS) (y3_167 : Int32) (y4_240 : Int32) (hI : MInv S) (ht_ : 0 ≤ S.1 10 0 ∧ S.1 10 0 ≤ 16) (hi3 : 0 ≤ y3_167) (c11 : ¬ 4 ≤ y3_167) (hn3t : 0 ≤ y3_167 ∧ y3_167 < 4) (hm3t : 0 ≤ S.1 37 (Int32.toNatClampNeg y3_167) ∧ S.1 37 (Int32.toNatClampNeg y3_167) ≤ 60) (c13 : ¬ (S.1 26 (Int32.toNatClampNeg y3_167)) = 0) (hi4 : 0 ≤ y4_240) (c15 : ¬ 4 ≤ y4_240) : y4_240 < 4 := by 
  clear hI
  try simp only [i_le, i_lt, i_eq, Int32.reduceToInt] at *
  try simp only [Int32.reduceToInt] at *
  omega
theorem m_digest_o37 (S : MS) (y3_167 : Int32) (y4_195 : Int32) (hI : MInv S) (ht_ : 0 ≤ S.1 10 0 ∧ S.1 10 0 ≤ 16) (hi3 : 0 ≤ y3_167) (c11 : ¬ 4 ≤ y3_167) (hn3t : 0 ≤ y3_167 ∧ y3_167 < 4) (hm3t : 0 ≤ S.1 37 (Int32.toNatClampNeg y3_167) ∧ S.1 37 (Int32.toNatClampNeg y3_167) ≤ 60) (c13 : ¬ (S.1 26 (Int32.toNatClampNeg y3_167)) = 0) (hi4 : 0 ≤ y4_195) (c14 : ¬ 8 < y4_195) : 0 ≤ (y4_195 + 1) := by 
  clear hI
  try simp only [i_le, i_lt, i_eq, Int32.reduceToInt] at *
  first | (have e_0 := a32 (x := y4_195) (y := 1) (by (try simp only [Int32.reduceToInt]); omega); (try simp only [Int32.reduceToInt] at e_0)) | skip
  try simp only [Int32.reduceToInt] at *
  omega
theorem m_digest_o38 (S : MS) (y3_167 : Int32) (y4_195 : Int32) (hI : MInv S) (ht_ : 0 ≤ S.1 10 0 ∧ S.1 10 0 ≤ 16) (hi3 : 0 ≤ y3_167) (c11 : ¬ 4 ≤ y3_167) (hn3t : 0 ≤ y3_167 ∧ y3_167 < 4) (hm3t : 0 ≤ S.1 37 (Int32.toNatClampNeg y3_167) ∧ S.1 37 (Int32.toNatClampNeg y3_167) ≤ 60) (c13 : ¬ (S.1 26 (Int32.toNatClampNeg y3_167)) = 0) (hi4 : 0 ≤ y4_195) (c14 : ¬ 8 < y4_195) : y4_195 < 9 := by 
  clear hI
  try simp only [i_le, i_lt, i_eq, Int32.reduceToInt] at *
  try simp only [Int32.reduceToInt] at *
  omega
theorem m_digest_o39 (S : MS) (y3_12 : Int32) (hI : MInv S) (ht_ : 0 ≤ S.1 10 0 ∧ S.1 10 0 ≤ 16) (hi3 : 0 ≤ y3_12) (c1 : ¬ (S.1 10 0) ≤ y3_12) (hn3 : 0 ≤ y3_12 ∧ y3_12 < 16) (hm3 : 0 ≤ S.1 11 (Int32.toNatClampNeg y3_12) ∧ S.1 11 (Int32.toNatClampNeg y3_12) ≤ 3 ∧ 0 ≤ S.1 12 (Int32.toNatClampNeg y3_12) ∧ S.1 12 (Int32.toNatClampNeg y3_12) ≤ 24 ∧ (S.1 11 (Int32.toNatClampNeg y3_12) = 0 ∨ 1 ≤ S.1 12 (Int32.toNatClampNeg y3_12)) ∧ 0 ≤ S.1 14 (Int32.toNatClampNeg y3_12) ∧ (S.1 14 (Int32.toNatClampNeg y3_12) < S.1 12 (Int32.toNatClampNeg y3_12) ∨ S.1 14 (Int32.toNatClampNeg y3_12) = 0)) (hp3 : 0 ≤ S.1 15 (Int32.toNatClampNeg y3_12) ∧ S.1 15 (Int32.toNatClampNeg y3_12) ≤ 48 ∧ 0 ≤ S.1 17 (Int32.toNatClampNeg y3_12) ∧ (S.1 11 (Int32.toNatClampNeg y3_12) = 3 → S.1 17 (Int32.toNatClampNeg y3_12) < S.1 15 (Int32.toNatClampNeg y3_12))) : 0 ≤ (y3_12 + 1) := by 
  clear hI
  try simp only [i_le, i_lt, i_eq, Int32.reduceToInt] at *
  first | (have e_0 := a32 (x := y3_12) (y := 1) (by (try simp only [Int32.reduceToInt]); omega); (try simp only [Int32.reduceToInt] at e_0)) | skip
  try simp only [Int32.reduceToInt] at *
  omega
theorem m_digest_o40 (S : MS) (y3_12 : Int32) (hI : MInv S) (ht_ : 0 ≤ S.1 10 0 ∧ S.1 10 0 ≤ 16) (hi3 : 0 ≤ y3_12) (c1 : ¬ (S.1 10 0) ≤ y3_12) (hn3 : 0 ≤ y3_12 ∧ y3_12 < 16) (hm3 : 0 ≤ S.1 11 (Int32.toNatClampNeg y3_12) ∧ S.1 11 (Int32.toNatClampNeg y3_12) ≤ 3 ∧ 0 ≤ S.1 12 (Int32.toNatClampNeg y3_12) ∧ S.1 12 (Int32.toNatClampNeg y3_12) ≤ 24 ∧ (S.1 11 (Int32.toNatClampNeg y3_12) = 0 ∨ 1 ≤ S.1 12 (Int32.toNatClampNeg y3_12)) ∧ 0 ≤ S.1 14 (Int32.toNatClampNeg y3_12) ∧ (S.1 14 (Int32.toNatClampNeg y3_12) < S.1 12 (Int32.toNatClampNeg y3_12) ∨ S.1 14 (Int32.toNatClampNeg y3_12) = 0)) (hp3 : 0 ≤ S.1 15 (Int32.toNatClampNeg y3_12) ∧ S.1 15 (Int32.toNatClampNeg y3_12) ≤ 48 ∧ 0 ≤ S.1 17 (Int32.toNatClampNeg y3_12) ∧ (S.1 11 (Int32.toNatClampNeg y3_12) = 3 → S.1 17 (Int32.toNatClampNeg y3_12) < S.1 15 (Int32.toNatClampNeg y3_12))) : y3_12 < S.1 10 0 := by 
  clear hI
  try simp only [i_le, i_lt, i_eq, Int32.reduceToInt] at *
  try simp only [Int32.reduceToInt] at *
  omega
theorem m_digest_o41 (S : MS) (y3_12 : Int32) (y4_94 : Int32) (hI : MInv S) (ht_ : 0 ≤ S.1 10 0 ∧ S.1 10 0 ≤ 16) (hi3 : 0 ≤ y3_12) (c1 : ¬ (S.1 10 0) ≤ y3_12) (hn3 : 0 ≤ y3_12 ∧ y3_12 < 16) (hm3 : 0 ≤ S.1 11 (Int32.toNatClampNeg y3_12) ∧ S.1 11 (Int32.toNatClampNeg y3_12) ≤ 3 ∧ 0 ≤ S.1 12 (Int32.toNatClampNeg y3_12) ∧ S.1 12 (Int32.toNatClampNeg y3_12) ≤ 24 ∧ (S.1 11 (Int32.toNatClampNeg y3_12) = 0 ∨ 1 ≤ S.1 12 (Int32.toNatClampNeg y3_12)) ∧ 0 ≤ S.1 14 (Int32.toNatClampNeg y3_12) ∧ (S.1 14 (Int32.toNatClampNeg y3_12) < S.1 12 (Int32.toNatClampNeg y3_12) ∨ S.1 14 (Int32.toNatClampNeg y3_12) = 0)) (hp3 : 0 ≤ S.1 15 (Int32.toNatClampNeg y3_12) ∧ S.1 15 (Int32.toNatClampNeg y3_12) ≤ 48 ∧ 0 ≤ S.1 17 (Int32.toNatClampNeg y3_12) ∧ (S.1 11 (Int32.toNatClampNeg y3_12) = 3 → S.1 17 (Int32.toNatClampNeg y3_12) < S.1 15 (Int32.toNatClampNeg y3_12))) (hi4 : 0 ≤ y4_94) (c6 : ¬ (S.1 15 (Int32.toNatClampNeg y3_12)) ≤ y4_94) : 0 ≤ (y4_94 + 1) := by 
  clear hI
  try simp only [i_le, i_lt, i_eq, Int32.reduceToInt] at *
  first | (have e_0 := a32 (x := y4_94) (y := 1) (by (try simp only [Int32.reduceToInt]); omega); (try simp only [Int32.reduceToInt] at e_0)) | skip
  try simp only [Int32.reduceToInt] at *
  omega
theorem m_digest_o42 (S : MS) (y3_12 : Int32) (y4_94 : Int32) (hI : MInv S) (ht_ : 0 ≤ S.1 10 0 ∧ S.1 10 0 ≤ 16) (hi3 : 0 ≤ y3_12) (c1 : ¬ (S.1 10 0) ≤ y3_12) (hn3 : 0 ≤ y3_12 ∧ y3_12 < 16) (hm3 : 0 ≤ S.1 11 (Int32.toNatClampNeg y3_12) ∧ S.1 11 (Int32.toNatClampNeg y3_12) ≤ 3 ∧ 0 ≤ S.1 12 (Int32.toNatClampNeg y3_12) ∧ S.1 12 (Int32.toNatClampNeg y3_12) ≤ 24 ∧ (S.1 11 (Int32.toNatClampNeg y3_12) = 0 ∨ 1 ≤ S.1 12 (Int32.toNatClampNeg y3_12)) ∧ 0 ≤ S.1 14 (Int32.toNatClampNeg y3_12) ∧ (S.1 14 (Int32.toNatClampNeg y3_12) < S.1 12 (Int32.toNatClampNeg y3_12) ∨ S.1 14 (Int32.toNatClampNeg y3_12) = 0)) (hp3 : 0 ≤ S.1 15 (Int32.toNatClampNeg y3_12) ∧ S.1 15 (Int32.toNatClampNeg y3_12) ≤ 48 ∧ 0 ≤ S.1 17 (Int32.toNatClampNeg y3_12) ∧ (S.1 11 (Int32.toNatClampNeg y3_12) = 3 → S.1 17 (Int32.toNatClampNeg y3_12) < S.1 15 (Int32.toNatClampNeg y3_12))) (hi4 : 0 ≤ y4_94) (c6 : ¬ (S.1 15 (Int32.toNatClampNeg y3_12)) ≤ y4_94) : y4_94 < S.1 15 (Int32.toNatClampNeg y3_12) := by 
  clear hI
  try simp only [i_le, i_lt, i_eq, Int32.reduceToInt] at *
  try simp only [Int32.reduceToInt] at *
  omega
theorem m_digest_o43 (S : MS) (y3_12 : Int32) (y4_54 : Int32) (hI : MInv S) (ht_ : 0 ≤ S.1 10 0 ∧ S.1 10 0 ≤ 16) (hi3 : 0 ≤ y3_12) (c1 : ¬ (S.1 10 0) ≤ y3_12) (hn3 : 0 ≤ y3_12 ∧ y3_12 < 16) (hm3 : 0 ≤ S.1 11 (Int32.toNatClampNeg y3_12) ∧ S.1 11 (Int32.toNatClampNeg y3_12) ≤ 3 ∧ 0 ≤ S.1 12 (Int32.toNatClampNeg y3_12) ∧ S.1 12 (Int32.toNatClampNeg y3_12) ≤ 24 ∧ (S.1 11 (Int32.toNatClampNeg y3_12) = 0 ∨ 1 ≤ S.1 12 (Int32.toNatClampNeg y3_12)) ∧ 0 ≤ S.1 14 (Int32.toNatClampNeg y3_12) ∧ (S.1 14 (Int32.toNatClampNeg y3_12) < S.1 12 (Int32.toNatClampNeg y3_12) ∨ S.1 14 (Int32.toNatClampNeg y3_12) = 0)) (hp3 : 0 ≤ S.1 15 (Int32.toNatClampNeg y3_12) ∧ S.1 15 (Int32.toNatClampNeg y3_12) ≤ 48 ∧ 0 ≤ S.1 17 (Int32.toNatClampNeg y3_12) ∧ (S.1 11 (Int32.toNatClampNeg y3_12) = 3 → S.1 17 (Int32.toNatClampNeg y3_12) < S.1 15 (Int32.toNatClampNeg y3_12))) (hi4 : 0 ≤ y4_54) (c4 : ¬ (S.1 12 (Int32.toNatClampNeg y3_12)) ≤ y4_54) : 0 ≤ (y4_54 + 1) := by 
  clear hI
  try simp only [i_le, i_lt, i_eq, Int32.reduceToInt] at *
  first | (have e_0 := a32 (x := y4_54) (y := 1) (by (try simp only [Int32.reduceToInt]); omega); (try simp only [Int32.reduceToInt] at e_0)) | skip
  try simp only [Int32.reduceToInt] at *
  omega
theorem m_digest_o44 (S : MS) (y3_12 : Int32) (y4_54 : Int32) (hI : MInv S) (ht_ : 0 ≤ S.1 10 0 ∧ S.1 10 0 ≤ 16) (hi3 : 0 ≤ y3_12) (c1 : ¬ (S.1 10 0) ≤ y3_12) (hn3 : 0 ≤ y3_12 ∧ y3_12 < 16) (hm3 : 0 ≤ S.1 11 (Int32.toNatClampNeg y3_12) ∧ S.1 11 (Int32.toNatClampNeg y3_12) ≤ 3 ∧ 0 ≤ S.1 12 (Int32.toNatClampNeg y3_12) ∧ S.1 12 (Int32.toNatClampNeg y3_12) ≤ 24 ∧ (S.1 11 (Int32.toNatClampNeg y3_12) = 0 ∨ 1 ≤ S.1 12 (Int32.toNatClampNeg y3_12)) ∧ 0 ≤ S.1 14 (Int32.toNatClampNeg y3_12) ∧ (S.1 14 (Int32.toNatClampNeg y3_12) < S.1 12 (Int32.toNatClampNeg y3_12) ∨ S.1 14 (Int32.toNatClampNeg y3_12) = 0)) (hp3 : 0 ≤ S.1 15 (Int32.toNatClampNeg y3_12) ∧ S.1 15 (Int32.toNatClampNeg y3_12) ≤ 48 ∧ 0 ≤ S.1 17 (Int32.toNatClampNeg y3_12) ∧ (S.1 11 (Int32.toNatClampNeg y3_12) = 3 → S.1 17 (Int32.toNatClampNeg y3_12) < S.1 15 (Int32.toNatClampNeg y3_12))) (hi4 : 0 ≤ y4_54) (c4 : ¬ (S.1 12 (Int32.toNatClampNeg y3_12)) ≤ y4_54) : y4_54 < S.1 12 (Int32.toNatClampNeg y3_12) := by 
  clear hI
  try simp only [i_le, i_lt, i_eq, Int32.reduceToInt] at *
  try simp only [Int32.reduceToInt] at *
  omega
theorem m_digest_o45 (S : MS) (y3_12 : Int32) (y4_23 : Int32) (hI : MInv S) (ht_ : 0 ≤ S.1 10 0 ∧ S.1 10 0 ≤ 16) (hi3 : 0 ≤ y3_12) (c1 : ¬ (S.1 10 0) ≤ y3_12) (hn3 : 0 ≤ y3_12 ∧ y3_12 < 16) (hm3 : 0 ≤ S.1 11 (Int32.toNatClampNeg y3_12) ∧ S.1 11 (Int32.toNatClampNeg y3_12) ≤ 3 ∧ 0 ≤ S.1 12 (Int32.toNatClampNeg y3_12) ∧ S.1 12 (Int32.toNatClampNeg y3_12) ≤ 24 ∧ (S.1 11 (Int32.toNatClampNeg y3_12) = 0 ∨ 1 ≤ S.1 12 (Int32.toNatClampNeg y3_12)) ∧ 0 ≤ S.1 14 (Int32.toNatClampNeg y3_12) ∧ (S.1 14 (Int32.toNatClampNeg y3_12) < S.1 12 (Int32.toNatClampNeg y3_12) ∨ S.1 14 (Int32.toNatClampNeg y3_12) = 0)) (hp3 : 0 ≤ S.1 15 (Int32.toNatClampNeg y3_12) ∧ S.1 15 (Int32.toNatClampNeg y3_12) ≤ 48 ∧ 0 ≤ S.1 17 (Int32.toNatClampNeg y3_12) ∧ (S.1 11 (Int32.toNatClampNeg y3_12) = 3 → S.1 17 (Int32.toNatClampNeg y3_12) < S.1 15 (Int32.toNatClampNeg y3_12))) (hi4 : 0 ≤ y4_23) (c3 : ¬ 7 < y4_23) : 0 ≤ (y4_23 + 1) := by 
  clear hI
  try simp only [i_le, i_lt, i_eq, Int32.reduceToInt] at *
  first | (have e_0 := a32 (x := y4_23) (y := 1) (by (try simp only [Int32.reduceToInt]); omega); (try simp only [Int32.reduceToInt] at e_0)) | skip
  try simp only [Int32.reduceToInt] at *
  omega
theorem m_digest_o46 (S : MS) (y3_12 : Int32) (y4_23 : Int32) (hI : MInv S) (ht_ : 0 ≤ S.1 10 0 ∧ S.1 10 0 ≤ 16) (hi3 : 0 ≤ y3_12) (c1 : ¬ (S.1 10 0) ≤ y3_12) (hn3 : 0 ≤ y3_12 ∧ y3_12 < 16) (hm3 : 0 ≤ S.1 11 (Int32.toNatClampNeg y3_12) ∧ S.1 11 (Int32.toNatClampNeg y3_12) ≤ 3 ∧ 0 ≤ S.1 12 (Int32.toNatClampNeg y3_12) ∧ S.1 12 (Int32.toNatClampNeg y3_12) ≤ 24 ∧ (S.1 11 (Int32.toNatClampNeg y3_12) = 0 ∨ 1 ≤ S.1 12 (Int32.toNatClampNeg y3_12)) ∧ 0 ≤ S.1 14 (Int32.toNatClampNeg y3_12) ∧ (S.1 14 (Int32.toNatClampNeg y3_12) < S.1 12 (Int32.toNatClampNeg y3_12) ∨ S.1 14 (Int32.toNatClampNeg y3_12) = 0)) (hp3 : 0 ≤ S.1 15 (Int32.toNatClampNeg y3_12) ∧ S.1 15 (Int32.toNatClampNeg y3_12) ≤ 48 ∧ 0 ≤ S.1 17 (Int32.toNatClampNeg y3_12) ∧ (S.1 11 (Int32.toNatClampNeg y3_12) = 3 → S.1 17 (Int32.toNatClampNeg y3_12) < S.1 15 (Int32.toNatClampNeg y3_12))) (hi4 : 0 ≤ y4_23) (c3 : ¬ 7 < y4_23) : y4_23 < 8 := by 
  clear hI
  try simp only [i_le, i_lt, i_eq, Int32.reduceToInt] at *
  try simp only [Int32.reduceToInt] at *
  omega
def m_digest (S : MS) : Int64 := (m_digest_R305 S).1
set_option maxHeartbeats 4000000 in
theorem mt_digest (l : Launch) (D : va_G) (d : Nat → ClassId) (A : Nat → Prop) (a : Nat → Nat) (S : MS) (hI : MInv S) : ML l yX1_digest cX1_digest 5 (rm_ 2) D d A a S [] ((m_digest S), S) := by
  refine m_startL rfl (Nat.le_of_ble_eq_true rfl) ?_
  intro p e s m av below meth c ls Q X hrt hlk hl hR hQ
  have hx := X.1.1
  have hb := X.1.2.1
  have hown := X.1.2.2.2.1
  have hts := X.1.2.2.2.2
  have hS : va_S A s.heap s.heap [] := va_S.rf
  have hl : lv_has ls 5 [(0, .ref (a 0))] := hl
  have ht_ : 0 ≤ S.1 10 0 ∧ S.1 10 0 ≤ 16 := mi_tr hI
  refine lv_ldc2 hx hb hown (hts _ q1715) dX1_digest_0 ?_
  refine lv_aload_n hx hb dX1_digest_3 rfl (lv_at hl 0 rfl) ?_
  refine mg_i X hR 5 (by decide) rfl q1142 rfl dX1_digest_4 ?_
  refine lv_i2l hx hb dX1_digest_7 rfl ?_
  refine lv_ladd hx hb dX1_digest_8 ?_
  refine lv_lstore_n (lv' := [(1, .long (m_digest_v9 S)), (0, .ref (a 0))]) hx hb dX1_digest_9 rfl hl (by decide) rfl (fun ls hl => ?_)
  refine lv_iconst (v := 0) hx hb dX1_digest_10 (by decide) ?_
  refine lv_istore_n (lv' := [(3, .int 0), (1, .long (m_digest_v9 S)), (0, .ref (a 0))]) hx hb dX1_digest_11 rfl hl (by decide) rfl (fun ls hl => ?_)
  have K12 : ∀ (H : Heap) (locs : List Loc) (ls : Array Slot), MR D d A a S H → va_S A s.heap H locs → lv_has ls 5 [(3, .int ((m_digest_R12 S).2)), (1, .long ((m_digest_R12 S).1)), (0, .ref (a 0))] → W p l e (rm_ 2) s m av below meth c H locs 0 0 Q (F0 m 165 ls []) := by
    intro H locs ls hR hS hl
    refine lv_iconst (v := 0) hx hb dX1_digest_165 (by decide) ?_
    refine lv_istore_n (lv' := [(3, .int 0), (1, .long ((m_digest_R12 S).1)), (0, .ref (a 0))]) hx hb dX1_digest_166 rfl hl (by decide) rfl (fun ls hl => ?_)
    have K167 : ∀ (H : Heap) (locs : List Loc) (ls : Array Slot), MR D d A a S H → va_S A s.heap H locs → lv_has ls 5 [(3, .int ((m_digest_R167 S).2)), (1, .long ((m_digest_R167 S).1)), (0, .ref (a 0))] → W p l e (rm_ 2) s m av below meth c H locs 0 0 Q (F0 m 303 ls []) := by
      intro H locs ls hR hS hl
      refine lv_iconst (v := 0) hx hb dX1_digest_303 (by decide) ?_
      refine lv_istore_n (lv' := [(3, .int 0), (1, .long ((m_digest_R167 S).1)), (0, .ref (a 0))]) hx hb dX1_digest_304 rfl hl (by decide) rfl (fun ls hl => ?_)
      have K305 : ∀ (H : Heap) (locs : List Loc) (ls : Array Slot), MR D d A a S H → va_S A s.heap H locs → lv_has ls 5 [(3, .int ((m_digest_R305 S).2)), (1, .long ((m_digest_R305 S).1)), (0, .ref (a 0))] → W p l e (rm_ 2) s m av below meth c H locs 0 0 Q (F0 m 384 ls []) := by
        intro H locs ls hR hS hl
        refine lv_lload_n hx hb dX1_digest_384 rfl (lv_at hl 1 rfl) ?_
        exact m_rl hx hb hrt hlk hR hS hQ (hF1 rfl) dX1_digest_385
      have L305 : ∀ (f305 : Nat) (y1_305 : Int64) (y3_305 : Int32) (H : Heap) (locs : List Loc) (ls : Array Slot), (8 - y3_305 : Int32).toNatClampNeg < f305 → 0 ≤ y3_305 → m_digest_L305 S (f305) y1_305 y3_305 = (m_digest_R305 S) → MR D d A a S H → va_S A s.heap H locs → lv_has ls 5 [(3, .int y3_305), (1, .long y1_305), (0, .ref (a 0))] → W p l e (rm_ 2) s m av below meth c H locs 0 0 Q (F0 m 305 ls []) := by
        intro f305
        induction f305 with
        | zero => intro y1_305 y3_305 H locs ls hf; exact absurd hf (Nat.not_lt_zero _)
        | succ f305 ih =>
          intro y1_305 y3_305 H locs ls hf hi3 hE hR hS hl
          refine lv_iload_n hx hb dX1_digest_305 rfl (lv_at hl 0 rfl) ?_
          refine lv_bipush (v := 8) hx hb dX1_digest_306 (by decide) ?_
          refine lv_icmp_ge (tgt := 384) hx hb dX1_digest_308 (by decide) (fun c22 => ?_) (fun c22 => ?_)
          · have e0 : (m_digest_R305 S) = (y1_305, y3_305) := Eq.trans (Eq.symm hE) (Eq.trans (m_digest_L305_s _ _ _ _) (if_pos c22))
            exact K305 _ _ _ hR hS (by rw [e0]; exact lv_sub hl [0, 1, 2] rfl)
          · have hn3r : 0 ≤ y3_305 ∧ y3_305 < 8 := m_digest_o23 S y3_305 hI ht_ hi3 c22
            have hm3r : S.1 7 (Int32.toNatClampNeg y3_305) ≤ 48 := mi_sz hI hn3r
            refine lv_ldc2 hx hb hown (hts _ q1716) dX1_digest_311 ?_
            refine lv_lload_n hx hb dX1_digest_314 rfl (lv_at hl 1 rfl) ?_
            refine lv_lmul hx hb dX1_digest_315 ?_
            refine lv_aload_n hx hb dX1_digest_316 rfl (lv_at hl 2 rfl) ?_
            refine mg_a X hR 7 (by decide) (by decide) q1144 dX1_digest_317 ?_
            refine lv_iload_n hx hb dX1_digest_320 rfl (lv_at hl 0 rfl) ?_
            refine m_ld X hR ⟨by decide, rfl, by decide⟩ (ixl 8 8 (by decide) rfl (hn3r)) (v := S.1 7 (Int32.toNatClampNeg y3_305)) rfl dX1_digest_321 ?_
            have J26 : ∀ (w25 : Int32) (H : Heap) (locs : List Loc) (ls : Array Slot), w25 = (m_digest_j335_s0 S y3_305) → MR D d A a S H → va_S A s.heap H locs → lv_has ls 5 [(3, .int y3_305), (1, .long y1_305), (0, .ref (a 0))] → W p l e (rm_ 2) s m av below meth c H locs 0 0 Q (F0 m 335 ls [.int w25, .long (31 * y1_305)]) := by
              intro w25 H locs ls ew25 hR hS hl
              subst ew25
              refine lv_i2l hx hb dX1_digest_335 rfl ?_
              refine lv_ladd hx hb dX1_digest_336 ?_
              refine lv_lstore_n (lv' := [(1, .long (m_digest_v337 S y1_305 y3_305)), (3, .int y3_305), (0, .ref (a 0))]) hx hb dX1_digest_337 rfl hl (by decide) rfl (fun ls hl => ?_)
              refine lv_iconst (v := 0) hx hb dX1_digest_338 (by decide) ?_
              refine lv_istore (lv' := [(4, .int 0), (1, .long (m_digest_v337 S y1_305 y3_305)), (3, .int y3_305), (0, .ref (a 0))]) hx hb dX1_digest_339 hl (by decide) rfl (fun ls hl => ?_)
              have K341 : ∀ (H : Heap) (locs : List Loc) (ls : Array Slot), MR D d A a S H → va_S A s.heap H locs → lv_has ls 5 [(4, .int ((m_digest_R341 S y1_305 y3_305).2)), (1, .long ((m_digest_R341 S y1_305 y3_305).1)), (3, .int y3_305), (0, .ref (a 0))] → W p l e (rm_ 2) s m av below meth c H locs 0 0 Q (F0 m 378 ls []) := by
                intro H locs ls hR hS hl
                refine lv_iinc (v := (y3_305 + 1)) (lv' := [(3, .int (y3_305 + 1)), (4, .int ((m_digest_R341 S y1_305 y3_305).2)), (1, .long ((m_digest_R341 S y1_305 y3_305).1)), (0, .ref (a 0))]) hx hb dX1_digest_378 hl (k := 2) rfl rfl (by decide) rfl (fun ls hl => ?_)
                refine lv_goto (tgt := 305) hx hb dX1_digest_381 (by decide) ?_
                exact ih ((m_digest_R341 S y1_305 y3_305).1) (y3_305 + 1) _ _  _ (Nat.lt_of_lt_of_le (up_ hi3 (m_digest_o30 S y3_305 hI ht_ hi3 c22 hn3r hm3r)) (Nat.le_of_lt_succ hf)) (m_digest_o29 S y3_305 hI ht_ hi3 c22 hn3r hm3r) (Eq.trans (Eq.symm (Eq.trans (m_digest_L305_s _ _ _ _) (if_neg c22))) hE) hR hS (lv_sub hl [0, 2, 3] rfl)
              have L341 : ∀ (f341 : Nat) (y1_341 : Int64) (y4_341 : Int32) (H : Heap) (locs : List Loc) (ls : Array Slot), (S.1 7 (Int32.toNatClampNeg y3_305) - y4_341 : Int32).toNatClampNeg < f341 → 0 ≤ y4_341 → m_digest_L341 S y3_305 (f341) y1_341 y4_341 = (m_digest_R341 S y1_305 y3_305) → MR D d A a S H → va_S A s.heap H locs → lv_has ls 5 [(4, .int y4_341), (1, .long y1_341), (3, .int y3_305), (0, .ref (a 0))] → W p l e (rm_ 2) s m av below meth c H locs 0 0 Q (F0 m 341 ls []) := by
                intro f341
                induction f341 with
                | zero => intro y1_341 y4_341 H locs ls hf; exact absurd hf (Nat.not_lt_zero _)
                | succ f341 ih =>
                  intro y1_341 y4_341 H locs ls hf hi4 hE hR hS hl
                  refine lv_iload hx hb dX1_digest_341 (lv_at hl 0 rfl) ?_
                  refine lv_aload_n hx hb dX1_digest_343 rfl (lv_at hl 3 rfl) ?_
                  refine mg_a X hR 7 (by decide) (by decide) q1144 dX1_digest_344 ?_
                  refine lv_iload_n hx hb dX1_digest_347 rfl (lv_at hl 2 rfl) ?_
                  refine m_ld X hR ⟨by decide, rfl, by decide⟩ (ixl 8 8 (by decide) rfl (hn3r)) (v := S.1 7 (Int32.toNatClampNeg y3_305)) rfl dX1_digest_348 ?_
                  refine lv_icmp_ge (tgt := 378) hx hb dX1_digest_349 (by decide) (fun c27 => ?_) (fun c27 => ?_)
                  · have e0 : (m_digest_R341 S y1_305 y3_305) = (y1_341, y4_341) := Eq.trans (Eq.symm hE) (Eq.trans (m_digest_L341_s _ _ _ _ _) (if_pos c27))
                    exact K341 _ _ _ hR hS (by rw [e0]; exact lv_sub hl [0, 1, 2, 3] rfl)
                  · refine lv_ldc2 hx hb hown (hts _ q1716) dX1_digest_352 ?_
                    refine lv_lload_n hx hb dX1_digest_355 rfl (lv_at hl 1 rfl) ?_
                    refine lv_lmul hx hb dX1_digest_356 ?_
                    refine lv_aload_n hx hb dX1_digest_357 rfl (lv_at hl 3 rfl) ?_
                    refine mg_a X hR 8 (by decide) (by decide) q1145 dX1_digest_358 ?_
                    refine lv_bipush (v := 48) hx hb dX1_digest_361 (by decide) ?_
                    refine lv_iload_n hx hb dX1_digest_363 rfl (lv_at hl 2 rfl) ?_
                    refine lv_imul hx hb dX1_digest_364 ?_
                    refine lv_iload hx hb dX1_digest_365 (lv_at hl 0 rfl) ?_
                    refine lv_iadd hx hb dX1_digest_367 ?_
                    refine m_ld X hR ⟨by decide, rfl, by decide⟩ (ixl 384 384 (by decide) rfl (m_digest_o28 S y3_305 y4_341 hI ht_ hi3 c22 hn3r hm3r hi4 c27)) (v := S.1 8 (Int32.toNatClampNeg ((48 * y3_305) + y4_341))) rfl dX1_digest_368 ?_
                    refine lv_i2l hx hb dX1_digest_369 rfl ?_
                    refine lv_ladd hx hb dX1_digest_370 ?_
                    refine lv_lstore_n (lv' := [(1, .long (m_digest_v371 S y3_305 y1_341 y4_341)), (4, .int y4_341), (3, .int y3_305), (0, .ref (a 0))]) hx hb dX1_digest_371 rfl hl (by decide) rfl (fun ls hl => ?_)
                    refine lv_iinc (v := (y4_341 + 1)) (lv' := [(4, .int (y4_341 + 1)), (1, .long (m_digest_v371 S y3_305 y1_341 y4_341)), (3, .int y3_305), (0, .ref (a 0))]) hx hb dX1_digest_372 hl (k := 1) rfl rfl (by decide) rfl (fun ls hl => ?_)
                    refine lv_goto (tgt := 341) hx hb dX1_digest_375 (by decide) ?_
                    exact ih (m_digest_v371 S y3_305 y1_341 y4_341) (y4_341 + 1) _ _  _ (Nat.lt_of_lt_of_le (up_ hi4 (m_digest_o32 S y3_305 y4_341 hI ht_ hi3 c22 hn3r hm3r hi4 c27)) (Nat.le_of_lt_succ hf)) (m_digest_o31 S y3_305 y4_341 hI ht_ hi3 c22 hn3r hm3r hi4 c27) (Eq.trans (Eq.symm (Eq.trans (m_digest_L341_s _ _ _ _ _) (if_neg c27))) hE) hR hS (lv_sub hl [0, 1, 2, 3] rfl)
              exact L341 _ (m_digest_v337 S y1_305 y3_305) 0 _ _  _ (Nat.lt_succ_self _) (by decide) rfl hR hS (lv_sub hl [0, 1, 2, 3] rfl)
            refine lv_if_ge (tgt := 329) hx hb dX1_digest_322 (by decide) (fun c24 => ?_) (fun c24 => ?_)
            · refine lv_aload_n hx hb dX1_digest_329 rfl (lv_at hl 2 rfl) ?_
              refine mg_a X hR 7 (by decide) (by decide) q1144 dX1_digest_330 ?_
              refine lv_iload_n hx hb dX1_digest_333 rfl (lv_at hl 0 rfl) ?_
              refine m_ld X hR ⟨by decide, rfl, by decide⟩ (ixl 8 8 (by decide) rfl (hn3r)) (v := S.1 7 (Int32.toNatClampNeg y3_305)) rfl dX1_digest_334 ?_
              exact J26 _ _ _  _ (Eq.symm (if_pos c24)) hR hS  (lv_sub hl [0, 1, 2] rfl)
            · refine lv_iconst (v := (-1)) hx hb dX1_digest_325 (by decide) ?_
              refine lv_goto (tgt := 335) hx hb dX1_digest_326 (by decide) ?_
              exact J26 _ _ _  _ (Eq.symm (if_neg c24)) hR hS  (lv_sub hl [0, 1, 2] rfl)
      exact L305 _ ((m_digest_R167 S).1) 0 _ _  _ (Nat.lt_succ_self _) (by decide) rfl hR hS (lv_sub hl [0, 1, 2] rfl)
    have L167 : ∀ (f167 : Nat) (y1_167 : Int64) (y3_167 : Int32) (H : Heap) (locs : List Loc) (ls : Array Slot), (4 - y3_167 : Int32).toNatClampNeg < f167 → 0 ≤ y3_167 → m_digest_L167 S (f167) y1_167 y3_167 = (m_digest_R167 S) → MR D d A a S H → va_S A s.heap H locs → lv_has ls 5 [(3, .int y3_167), (1, .long y1_167), (0, .ref (a 0))] → W p l e (rm_ 2) s m av below meth c H locs 0 0 Q (F0 m 167 ls []) := by
      intro f167
      induction f167 with
      | zero => intro y1_167 y3_167 H locs ls hf; exact absurd hf (Nat.not_lt_zero _)
      | succ f167 ih =>
        intro y1_167 y3_167 H locs ls hf hi3 hE hR hS hl
        refine lv_iload_n hx hb dX1_digest_167 rfl (lv_at hl 0 rfl) ?_
        refine lv_iconst (v := 4) hx hb dX1_digest_168 (by decide) ?_
        refine lv_icmp_ge (tgt := 303) hx hb dX1_digest_169 (by decide) (fun c11 => ?_) (fun c11 => ?_)
        · have e0 : (m_digest_R167 S) = (y1_167, y3_167) := Eq.trans (Eq.symm hE) (Eq.trans (m_digest_L167_s _ _ _ _) (if_pos c11))
          exact K167 _ _ _ hR hS (by rw [e0]; exact lv_sub hl [0, 1, 2] rfl)
        · have hn3t : 0 ≤ y3_167 ∧ y3_167 < 4 := m_digest_o12 S y3_167 hI ht_ hi3 c11
          have hm3t : 0 ≤ S.1 37 (Int32.toNatClampNeg y3_167) ∧ S.1 37 (Int32.toNatClampNeg y3_167) ≤ 60 := (mi_t hI hn3t).2.2.2.2.2.2
          refine lv_aload_n hx hb dX1_digest_172 rfl (lv_at hl 2 rfl) ?_
          refine mg_a X hR 26 (by decide) (by decide) q1163 dX1_digest_173 ?_
          refine lv_iload_n hx hb dX1_digest_176 rfl (lv_at hl 0 rfl) ?_
          refine m_zld X hR ⟨by decide, rfl, by decide⟩ (ixl 4 4 (by decide) rfl (hn3t)) (v := S.1 26 (Int32.toNatClampNeg y3_167)) rfl dX1_digest_177 ?_
          have J21 : ∀ (w20 : Int64) (H : Heap) (locs : List Loc) (ls : Array Slot), w20 = (m_digest_j297_1 S y1_167 y3_167) → MR D d A a S H → va_S A s.heap H locs → lv_has ls 5 [(1, .long w20), (3, .int y3_167), (0, .ref (a 0))] → W p l e (rm_ 2) s m av below meth c H locs 0 0 Q (F0 m 297 ls []) := by
            intro w20 H locs ls ew20 hR hS hl
            subst ew20
            refine lv_iinc (v := (y3_167 + 1)) (lv' := [(3, .int (y3_167 + 1)), (1, .long (m_digest_j297_1 S y1_167 y3_167)), (0, .ref (a 0))]) hx hb dX1_digest_297 hl (k := 1) rfl rfl (by decide) rfl (fun ls hl => ?_)
            refine lv_goto (tgt := 167) hx hb dX1_digest_300 (by decide) ?_
            exact ih (m_digest_j297_1 S y1_167 y3_167) (y3_167 + 1) _ _  _ (Nat.lt_of_lt_of_le (up_ hi3 (m_digest_o34 S y3_167 hI ht_ hi3 c11 hn3t hm3t)) (Nat.le_of_lt_succ hf)) (m_digest_o33 S y3_167 hI ht_ hi3 c11 hn3t hm3t) (Eq.trans (Eq.symm (Eq.trans (m_digest_L167_s _ _ _ _) (if_neg c11))) hE) hR hS (lv_sub hl [0, 1, 2] rfl)
          refine lv_if_ne (tgt := 192) hx hb dX1_digest_178 (by decide) (fun c13 => ?_) (fun c13 => ?_)
          · refine lv_iconst (v := 0) hx hb dX1_digest_192 (by decide) ?_
            refine lv_istore (lv' := [(4, .int 0), (3, .int y3_167), (1, .long y1_167), (0, .ref (a 0))]) hx hb dX1_digest_193 hl (by decide) rfl (fun ls hl => ?_)
            have K195 : ∀ (H : Heap) (locs : List Loc) (ls : Array Slot), MR D d A a S H → va_S A s.heap H locs → lv_has ls 5 [(4, .int ((m_digest_R195 S y1_167 y3_167).2)), (3, .int y3_167), (1, .long ((m_digest_R195 S y1_167 y3_167).1)), (0, .ref (a 0))] → W p l e (rm_ 2) s m av below meth c H locs 0 0 Q (F0 m 223 ls []) := by
              intro H locs ls hR hS hl
              refine lv_ldc2 hx hb hown (hts _ q1716) dX1_digest_223 ?_
              refine lv_lload_n hx hb dX1_digest_226 rfl (lv_at hl 2 rfl) ?_
              refine lv_lmul hx hb dX1_digest_227 ?_
              refine lv_aload_n hx hb dX1_digest_228 rfl (lv_at hl 3 rfl) ?_
              refine mg_a X hR 37 (by decide) (by decide) q1174 dX1_digest_229 ?_
              refine lv_iload_n hx hb dX1_digest_232 rfl (lv_at hl 1 rfl) ?_
              refine m_ld X hR ⟨by decide, rfl, by decide⟩ (ixl 4 4 (by decide) rfl (hn3t)) (v := S.1 37 (Int32.toNatClampNeg y3_167)) rfl dX1_digest_233 ?_
              refine lv_i2l hx hb dX1_digest_234 rfl ?_
              refine lv_ladd hx hb dX1_digest_235 ?_
              refine lv_lstore_n (lv' := [(1, .long (m_digest_v236 S y1_167 y3_167)), (4, .int ((m_digest_R195 S y1_167 y3_167).2)), (3, .int y3_167), (0, .ref (a 0))]) hx hb dX1_digest_236 rfl hl (by decide) rfl (fun ls hl => ?_)
              refine lv_iconst (v := 0) hx hb dX1_digest_237 (by decide) ?_
              refine lv_istore (lv' := [(4, .int 0), (1, .long (m_digest_v236 S y1_167 y3_167)), (3, .int y3_167), (0, .ref (a 0))]) hx hb dX1_digest_238 hl (by decide) rfl (fun ls hl => ?_)
              have K240 : ∀ (H : Heap) (locs : List Loc) (ls : Array Slot), MR D d A a S H → va_S A s.heap H locs → lv_has ls 5 [(4, .int ((m_digest_R240 S y1_167 y3_167).2)), (1, .long ((m_digest_R240 S y1_167 y3_167).1)), (3, .int y3_167), (0, .ref (a 0))] → W p l e (rm_ 2) s m av below meth c H locs 0 0 Q (F0 m 297 ls []) := by
                intro H locs ls hR hS hl
                exact J21 _ _ _  _ (Eq.symm (if_neg c13)) hR hS  (lv_sub hl [1, 2, 3] rfl)
              have L240 : ∀ (f240 : Nat) (y1_240 : Int64) (y4_240 : Int32) (H : Heap) (locs : List Loc) (ls : Array Slot), (4 - y4_240 : Int32).toNatClampNeg < f240 → 0 ≤ y4_240 → m_digest_L240 S y3_167 (f240) y1_240 y4_240 = (m_digest_R240 S y1_167 y3_167) → MR D d A a S H → va_S A s.heap H locs → lv_has ls 5 [(4, .int y4_240), (1, .long y1_240), (3, .int y3_167), (0, .ref (a 0))] → W p l e (rm_ 2) s m av below meth c H locs 0 0 Q (F0 m 240 ls []) := by
                intro f240
                induction f240 with
                | zero => intro y1_240 y4_240 H locs ls hf; exact absurd hf (Nat.not_lt_zero _)
                | succ f240 ih =>
                  intro y1_240 y4_240 H locs ls hf hi4 hE hR hS hl
                  refine lv_iload hx hb dX1_digest_240 (lv_at hl 0 rfl) ?_
                  refine lv_iconst (v := 4) hx hb dX1_digest_242 (by decide) ?_
                  refine lv_icmp_ge (tgt := 297) hx hb dX1_digest_243 (by decide) (fun c15 => ?_) (fun c15 => ?_)
                  · have e0 : (m_digest_R240 S y1_167 y3_167) = (y1_240, y4_240) := Eq.trans (Eq.symm hE) (Eq.trans (m_digest_L240_s _ _ _ _ _) (if_pos c15))
                    exact K240 _ _ _ hR hS (by rw [e0]; exact lv_sub hl [0, 1, 2, 3] rfl)
                  · refine lv_ldc2 hx hb hown (hts _ q1716) dX1_digest_246 ?_
                    refine lv_lload_n hx hb dX1_digest_249 rfl (lv_at hl 1 rfl) ?_
                    refine lv_lmul hx hb dX1_digest_250 ?_
                    refine lv_aload_n hx hb dX1_digest_251 rfl (lv_at hl 3 rfl) ?_
                    refine mg_a X hR 37 (by decide) (by decide) q1174 dX1_digest_252 ?_
                    refine lv_iload_n hx hb dX1_digest_255 rfl (lv_at hl 2 rfl) ?_
                    refine m_ld X hR ⟨by decide, rfl, by decide⟩ (ixl 4 4 (by decide) rfl (hn3t)) (v := S.1 37 (Int32.toNatClampNeg y3_167)) rfl dX1_digest_256 ?_
                    have J19 : ∀ (w18 : Int32) (H : Heap) (locs : List Loc) (ls : Array Slot), w18 = (m_digest_j288_s0 S y3_167 y4_240) → MR D d A a S H → va_S A s.heap H locs → lv_has ls 5 [(4, .int y4_240), (1, .long y1_240), (3, .int y3_167), (0, .ref (a 0))] → W p l e (rm_ 2) s m av below meth c H locs 0 0 Q (F0 m 288 ls [.int w18, .long (31 * y1_240)]) := by
                      intro w18 H locs ls ew18 hR hS hl
                      subst ew18
                      refine lv_i2l hx hb dX1_digest_288 rfl ?_
                      refine lv_ladd hx hb dX1_digest_289 ?_
                      refine lv_lstore_n (lv' := [(1, .long (m_digest_v290 S y3_167 y1_240 y4_240)), (4, .int y4_240), (3, .int y3_167), (0, .ref (a 0))]) hx hb dX1_digest_290 rfl hl (by decide) rfl (fun ls hl => ?_)
                      refine lv_iinc (v := (y4_240 + 1)) (lv' := [(4, .int (y4_240 + 1)), (1, .long (m_digest_v290 S y3_167 y1_240 y4_240)), (3, .int y3_167), (0, .ref (a 0))]) hx hb dX1_digest_291 hl (k := 1) rfl rfl (by decide) rfl (fun ls hl => ?_)
                      refine lv_goto (tgt := 240) hx hb dX1_digest_294 (by decide) ?_
                      exact ih (m_digest_v290 S y3_167 y1_240 y4_240) (y4_240 + 1) _ _  _ (Nat.lt_of_lt_of_le (up_ hi4 (m_digest_o36 S y3_167 y4_240 hI ht_ hi3 c11 hn3t hm3t c13 hi4 c15)) (Nat.le_of_lt_succ hf)) (m_digest_o35 S y3_167 y4_240 hI ht_ hi3 c11 hn3t hm3t c13 hi4 c15) (Eq.trans (Eq.symm (Eq.trans (m_digest_L240_s _ _ _ _ _) (if_neg c15))) hE) hR hS (lv_sub hl [0, 1, 2, 3] rfl)
                    refine lv_if_ne (tgt := 264) hx hb dX1_digest_257 (by decide) (fun c16 => ?_) (fun c16 => ?_)
                    · refine lv_aload_n hx hb dX1_digest_264 rfl (lv_at hl 3 rfl) ?_
                      refine mg_a X hR 38 (by decide) (by decide) q1175 dX1_digest_265 ?_
                      refine lv_sipush (v := 240) hx hb dX1_digest_268 (by decide) ?_
                      refine lv_iload_n hx hb dX1_digest_271 rfl (lv_at hl 2 rfl) ?_
                      refine lv_imul hx hb dX1_digest_272 ?_
                      refine lv_iconst (v := 4) hx hb dX1_digest_273 (by decide) ?_
                      refine lv_aload_n hx hb dX1_digest_274 rfl (lv_at hl 3 rfl) ?_
                      refine mg_a X hR 37 (by decide) (by decide) q1174 dX1_digest_275 ?_
                      refine lv_iload_n hx hb dX1_digest_278 rfl (lv_at hl 2 rfl) ?_
                      refine m_ld X hR ⟨by decide, rfl, by decide⟩ (ixl 4 4 (by decide) rfl (hn3t)) (v := S.1 37 (Int32.toNatClampNeg y3_167)) rfl dX1_digest_279 ?_
                      refine lv_imul hx hb dX1_digest_280 ?_
                      refine lv_iadd hx hb dX1_digest_281 ?_
                      refine lv_iconst (v := 4) hx hb dX1_digest_282 (by decide) ?_
                      refine lv_isub hx hb dX1_digest_283 ?_
                      refine lv_iload hx hb dX1_digest_284 (lv_at hl 0 rfl) ?_
                      refine lv_iadd hx hb dX1_digest_286 ?_
                      refine m_ld X hR ⟨by decide, rfl, by decide⟩ (ixl 960 960 (by decide) rfl (m_digest_o17 S y3_167 y4_240 hI ht_ hi3 c11 hn3t hm3t c13 hi4 c15 c16)) (v := S.1 38 (Int32.toNatClampNeg ((((240 * y3_167) + (4 * (S.1 37 (Int32.toNatClampNeg y3_167)))) - 4) + y4_240))) rfl dX1_digest_287 ?_
                      exact J19 _ _ _  _ (Eq.symm (if_neg c16)) hR hS  (lv_sub hl [0, 1, 2, 3] rfl)
                    · refine lv_iconst (v := 0) hx hb dX1_digest_260 (by decide) ?_
                      refine lv_goto (tgt := 288) hx hb dX1_digest_261 (by decide) ?_
                      exact J19 _ _ _  _ (Eq.symm (if_pos c16)) hR hS  (lv_sub hl [0, 1, 2, 3] rfl)
              exact L240 _ (m_digest_v236 S y1_167 y3_167) 0 _ _  _ (Nat.lt_succ_self _) (by decide) rfl hR hS (lv_sub hl [0, 1, 2, 3] rfl)
            have L195 : ∀ (f195 : Nat) (y1_195 : Int64) (y4_195 : Int32) (H : Heap) (locs : List Loc) (ls : Array Slot), (9 - y4_195 : Int32).toNatClampNeg < f195 → 0 ≤ y4_195 → m_digest_L195 S y3_167 (f195) y1_195 y4_195 = (m_digest_R195 S y1_167 y3_167) → MR D d A a S H → va_S A s.heap H locs → lv_has ls 5 [(4, .int y4_195), (3, .int y3_167), (1, .long y1_195), (0, .ref (a 0))] → W p l e (rm_ 2) s m av below meth c H locs 0 0 Q (F0 m 195 ls []) := by
              intro f195
              induction f195 with
              | zero => intro y1_195 y4_195 H locs ls hf; exact absurd hf (Nat.not_lt_zero _)
              | succ f195 ih =>
                intro y1_195 y4_195 H locs ls hf hi4 hE hR hS hl
                refine lv_iload hx hb dX1_digest_195 (lv_at hl 0 rfl) ?_
                refine lv_bipush (v := 8) hx hb dX1_digest_197 (by decide) ?_
                refine lv_icmp_gt (tgt := 223) hx hb dX1_digest_199 (by decide) (fun c14 => ?_) (fun c14 => ?_)
                · have e0 : (m_digest_R195 S y1_167 y3_167) = (y1_195, y4_195) := Eq.trans (Eq.symm hE) (Eq.trans (m_digest_L195_s _ _ _ _ _) (if_pos c14))
                  exact K195 _ _ _ hR hS (by rw [e0]; exact lv_sub hl [0, 1, 2, 3] rfl)
                · refine lv_ldc2 hx hb hown (hts _ q1716) dX1_digest_202 ?_
                  refine lv_lload_n hx hb dX1_digest_205 rfl (lv_at hl 2 rfl) ?_
                  refine lv_lmul hx hb dX1_digest_206 ?_
                  refine lv_aload_n hx hb dX1_digest_207 rfl (lv_at hl 3 rfl) ?_
                  refine lv_iload_n hx hb dX1_digest_208 rfl (lv_at hl 1 rfl) ?_
                  refine lv_iload hx hb dX1_digest_209 (lv_at hl 0 rfl) ?_
                  refine m_cr X hR hS (mt_towerTells l D d A a S y3_167 y4_195 (hn3t)) 2 (lw_V q1542 q1544 qs45 q59 q1545) ⟨rfl, rfl⟩ (by decide +kernel) ⟨by decide, by decide⟩ ⟨by decide, by decide⟩ rfl hl.1 rfl (Nat.le_of_ble_eq_true rfl) dX1_digest_211 (fun H locs hR hS => ?_)
                  refine lv_i2l hx hb dX1_digest_214 rfl ?_
                  refine lv_ladd hx hb dX1_digest_215 ?_
                  refine lv_lstore_n (lv' := [(1, .long (m_digest_v216 S y3_167 y1_195 y4_195)), (4, .int y4_195), (3, .int y3_167), (0, .ref (a 0))]) hx hb dX1_digest_216 rfl hl (by decide) rfl (fun ls hl => ?_)
                  refine lv_iinc (v := (y4_195 + 1)) (lv' := [(4, .int (y4_195 + 1)), (1, .long (m_digest_v216 S y3_167 y1_195 y4_195)), (3, .int y3_167), (0, .ref (a 0))]) hx hb dX1_digest_217 hl (k := 1) rfl rfl (by decide) rfl (fun ls hl => ?_)
                  refine lv_goto (tgt := 195) hx hb dX1_digest_220 (by decide) ?_
                  exact ih (m_digest_v216 S y3_167 y1_195 y4_195) (y4_195 + 1) _ _  _ (Nat.lt_of_lt_of_le (up_ hi4 (m_digest_o38 S y3_167 y4_195 hI ht_ hi3 c11 hn3t hm3t c13 hi4 c14)) (Nat.le_of_lt_succ hf)) (m_digest_o37 S y3_167 y4_195 hI ht_ hi3 c11 hn3t hm3t c13 hi4 c14) (Eq.trans (Eq.symm (Eq.trans (m_digest_L195_s _ _ _ _ _) (if_neg c14))) hE) hR hS (lv_sub hl [0, 2, 1, 3] rfl)
            exact L195 _ y1_167 0 _ _  _ (Nat.lt_succ_self _) (by decide) rfl hR hS (lv_sub hl [0, 1, 2, 3] rfl)
          · refine lv_ldc2 hx hb hown (hts _ q1716) dX1_digest_181 ?_
            refine lv_lload_n hx hb dX1_digest_184 rfl (lv_at hl 1 rfl) ?_
            refine lv_lmul hx hb dX1_digest_185 ?_
            refine lv_lconst (v := 1) hx hb dX1_digest_186 (by decide) ?_
            refine lv_lsub hx hb dX1_digest_187 ?_
            refine lv_lstore_n (lv' := [(1, .long ((31 * y1_167) - 1)), (3, .int y3_167), (0, .ref (a 0))]) hx hb dX1_digest_188 rfl hl (by decide) rfl (fun ls hl => ?_)
            refine lv_goto (tgt := 297) hx hb dX1_digest_189 (by decide) ?_
            exact J21 _ _ _  _ (Eq.symm (if_pos c13)) hR hS  (lv_sub hl [0, 1, 2] rfl)
    exact L167 _ ((m_digest_R12 S).1) 0 _ _  _ (Nat.lt_succ_self _) (by decide) rfl hR hS (lv_sub hl [0, 1, 2] rfl)
  have L12 : ∀ (f12 : Nat) (y1_12 : Int64) (y3_12 : Int32) (H : Heap) (locs : List Loc) (ls : Array Slot), (S.1 10 0 - y3_12 : Int32).toNatClampNeg < f12 → 0 ≤ y3_12 → m_digest_L12 S (f12) y1_12 y3_12 = (m_digest_R12 S) → MR D d A a S H → va_S A s.heap H locs → lv_has ls 5 [(3, .int y3_12), (1, .long y1_12), (0, .ref (a 0))] → W p l e (rm_ 2) s m av below meth c H locs 0 0 Q (F0 m 12 ls []) := by
    intro f12
    induction f12 with
    | zero => intro y1_12 y3_12 H locs ls hf; exact absurd hf (Nat.not_lt_zero _)
    | succ f12 ih =>
      intro y1_12 y3_12 H locs ls hf hi3 hE hR hS hl
      refine lv_iload_n hx hb dX1_digest_12 rfl (lv_at hl 0 rfl) ?_
      refine lv_aload_n hx hb dX1_digest_13 rfl (lv_at hl 2 rfl) ?_
      refine mg_i X hR 10 (by decide) rfl q1147 rfl dX1_digest_14 ?_
      refine lv_icmp_ge (tgt := 165) hx hb dX1_digest_17 (by decide) (fun c1 => ?_) (fun c1 => ?_)
      · have e0 : (m_digest_R12 S) = (y1_12, y3_12) := Eq.trans (Eq.symm hE) (Eq.trans (m_digest_L12_s _ _ _ _) (if_pos c1))
        exact K12 _ _ _ hR hS (by rw [e0]; exact lv_sub hl [0, 1, 2] rfl)
      · have hn3 : 0 ≤ y3_12 ∧ y3_12 < 16 := m_digest_o2 S y3_12 hI ht_ hi3 c1
        have hm3 : 0 ≤ S.1 11 (Int32.toNatClampNeg y3_12) ∧ S.1 11 (Int32.toNatClampNeg y3_12) ≤ 3 ∧ 0 ≤ S.1 12 (Int32.toNatClampNeg y3_12) ∧ S.1 12 (Int32.toNatClampNeg y3_12) ≤ 24 ∧ (S.1 11 (Int32.toNatClampNeg y3_12) = 0 ∨ 1 ≤ S.1 12 (Int32.toNatClampNeg y3_12)) ∧ 0 ≤ S.1 14 (Int32.toNatClampNeg y3_12) ∧ (S.1 14 (Int32.toNatClampNeg y3_12) < S.1 12 (Int32.toNatClampNeg y3_12) ∨ S.1 14 (Int32.toNatClampNeg y3_12) = 0) := mi_n hI hn3
        have hp3 : 0 ≤ S.1 15 (Int32.toNatClampNeg y3_12) ∧ S.1 15 (Int32.toNatClampNeg y3_12) ≤ 48 ∧ 0 ≤ S.1 17 (Int32.toNatClampNeg y3_12) ∧ (S.1 11 (Int32.toNatClampNeg y3_12) = 3 → S.1 17 (Int32.toNatClampNeg y3_12) < S.1 15 (Int32.toNatClampNeg y3_12)) := mi_p hI hn3
        refine lv_iconst (v := 0) hx hb dX1_digest_20 (by decide) ?_
        refine lv_istore (lv' := [(4, .int 0), (3, .int y3_12), (1, .long y1_12), (0, .ref (a 0))]) hx hb dX1_digest_21 hl (by decide) rfl (fun ls hl => ?_)
        have K23 : ∀ (H : Heap) (locs : List Loc) (ls : Array Slot), MR D d A a S H → va_S A s.heap H locs → lv_has ls 5 [(4, .int ((m_digest_R23 S y1_12 y3_12).2)), (3, .int y3_12), (1, .long ((m_digest_R23 S y1_12 y3_12).1)), (0, .ref (a 0))] → W p l e (rm_ 2) s m av below meth c H locs 0 0 Q (F0 m 51 ls []) := by
          intro H locs ls hR hS hl
          refine lv_iconst (v := 0) hx hb dX1_digest_51 (by decide) ?_
          refine lv_istore (lv' := [(4, .int 0), (3, .int y3_12), (1, .long ((m_digest_R23 S y1_12 y3_12).1)), (0, .ref (a 0))]) hx hb dX1_digest_52 hl (by decide) rfl (fun ls hl => ?_)
          have K54 : ∀ (H : Heap) (locs : List Loc) (ls : Array Slot), MR D d A a S H → va_S A s.heap H locs → lv_has ls 5 [(4, .int ((m_digest_R54 S y1_12 y3_12).2)), (3, .int y3_12), (1, .long ((m_digest_R54 S y1_12 y3_12).1)), (0, .ref (a 0))] → W p l e (rm_ 2) s m av below meth c H locs 0 0 Q (F0 m 91 ls []) := by
            intro H locs ls hR hS hl
            refine lv_iconst (v := 0) hx hb dX1_digest_91 (by decide) ?_
            refine lv_istore (lv' := [(4, .int 0), (3, .int y3_12), (1, .long ((m_digest_R54 S y1_12 y3_12).1)), (0, .ref (a 0))]) hx hb dX1_digest_92 hl (by decide) rfl (fun ls hl => ?_)
            have K94 : ∀ (H : Heap) (locs : List Loc) (ls : Array Slot), MR D d A a S H → va_S A s.heap H locs → lv_has ls 5 [(4, .int ((m_digest_R94 S y1_12 y3_12).2)), (3, .int y3_12), (1, .long ((m_digest_R94 S y1_12 y3_12).1)), (0, .ref (a 0))] → W p l e (rm_ 2) s m av below meth c H locs 0 0 Q (F0 m 131 ls []) := by
              intro H locs ls hR hS hl
              refine lv_aload_n hx hb dX1_digest_131 rfl (lv_at hl 3 rfl) ?_
              refine mg_a X hR 11 (by decide) (by decide) q1148 dX1_digest_132 ?_
              refine lv_iload_n hx hb dX1_digest_135 rfl (lv_at hl 1 rfl) ?_
              refine m_ld X hR ⟨by decide, rfl, by decide⟩ (ixl 16 16 (by decide) rfl (hn3)) (v := S.1 11 (Int32.toNatClampNeg y3_12)) rfl dX1_digest_136 ?_
              refine lv_iconst (v := 3) hx hb dX1_digest_137 (by decide) ?_
              have J10 : ∀ (w9 : Int64) (H : Heap) (locs : List Loc) (ls : Array Slot), w9 = (m_digest_j158_s0 S y1_12 y3_12) → MR D d A a S H → va_S A s.heap H locs → lv_has ls 5 [(4, .int ((m_digest_R94 S y1_12 y3_12).2)), (3, .int y3_12), (1, .long ((m_digest_R94 S y1_12 y3_12).1)), (0, .ref (a 0))] → W p l e (rm_ 2) s m av below meth c H locs 0 0 Q (F0 m 158 ls [.long w9]) := by
                intro w9 H locs ls ew9 hR hS hl
                subst ew9
                refine lv_lstore_n (lv' := [(1, .long (m_digest_j158_s0 S y1_12 y3_12)), (4, .int ((m_digest_R94 S y1_12 y3_12).2)), (3, .int y3_12), (0, .ref (a 0))]) hx hb dX1_digest_158 rfl hl (by decide) rfl (fun ls hl => ?_)
                refine lv_iinc (v := (y3_12 + 1)) (lv' := [(3, .int (y3_12 + 1)), (1, .long (m_digest_j158_s0 S y1_12 y3_12)), (4, .int ((m_digest_R94 S y1_12 y3_12).2)), (0, .ref (a 0))]) hx hb dX1_digest_159 hl (k := 2) rfl rfl (by decide) rfl (fun ls hl => ?_)
                refine lv_goto (tgt := 12) hx hb dX1_digest_162 (by decide) ?_
                exact ih (m_digest_j158_s0 S y1_12 y3_12) (y3_12 + 1) _ _  _ (Nat.lt_of_lt_of_le (up_ hi3 (m_digest_o40 S y3_12 hI ht_ hi3 c1 hn3 hm3 hp3)) (Nat.le_of_lt_succ hf)) (m_digest_o39 S y3_12 hI ht_ hi3 c1 hn3 hm3 hp3) (Eq.trans (Eq.symm (Eq.trans (m_digest_L12_s _ _ _ _) (if_neg c1))) hE) hR hS (lv_sub hl [0, 1, 3] rfl)
              refine lv_icmp_ne (tgt := 157) hx hb dX1_digest_138 (by decide) (fun c8 => ?_) (fun c8 => ?_)
              · refine lv_lload_n hx hb dX1_digest_157 rfl (lv_at hl 2 rfl) ?_
                exact J10 _ _ _  _ (Eq.symm (if_neg c8)) hR hS  (lv_sub hl [0, 1, 2, 3] rfl)
              · refine lv_ldc2 hx hb hown (hts _ q1716) dX1_digest_141 ?_
                refine lv_lload_n hx hb dX1_digest_144 rfl (lv_at hl 2 rfl) ?_
                refine lv_lmul hx hb dX1_digest_145 ?_
                refine lv_aload_n hx hb dX1_digest_146 rfl (lv_at hl 3 rfl) ?_
                refine mg_a X hR 17 (by decide) (by decide) q1154 dX1_digest_147 ?_
                refine lv_iload_n hx hb dX1_digest_150 rfl (lv_at hl 1 rfl) ?_
                refine m_ld X hR ⟨by decide, rfl, by decide⟩ (ixl 16 16 (by decide) rfl (hn3)) (v := S.1 17 (Int32.toNatClampNeg y3_12)) rfl dX1_digest_151 ?_
                refine lv_i2l hx hb dX1_digest_152 rfl ?_
                refine lv_ladd hx hb dX1_digest_153 ?_
                refine lv_goto (tgt := 158) hx hb dX1_digest_154 (by decide) ?_
                exact J10 _ _ _  _ (Eq.symm (if_pos c8)) hR hS  (lv_sub hl [0, 1, 2, 3] rfl)
            have L94 : ∀ (f94 : Nat) (y1_94 : Int64) (y4_94 : Int32) (H : Heap) (locs : List Loc) (ls : Array Slot), (S.1 15 (Int32.toNatClampNeg y3_12) - y4_94 : Int32).toNatClampNeg < f94 → 0 ≤ y4_94 → m_digest_L94 S y3_12 (f94) y1_94 y4_94 = (m_digest_R94 S y1_12 y3_12) → MR D d A a S H → va_S A s.heap H locs → lv_has ls 5 [(4, .int y4_94), (3, .int y3_12), (1, .long y1_94), (0, .ref (a 0))] → W p l e (rm_ 2) s m av below meth c H locs 0 0 Q (F0 m 94 ls []) := by
              intro f94
              induction f94 with
              | zero => intro y1_94 y4_94 H locs ls hf; exact absurd hf (Nat.not_lt_zero _)
              | succ f94 ih =>
                intro y1_94 y4_94 H locs ls hf hi4 hE hR hS hl
                refine lv_iload hx hb dX1_digest_94 (lv_at hl 0 rfl) ?_
                refine lv_aload_n hx hb dX1_digest_96 rfl (lv_at hl 3 rfl) ?_
                refine mg_a X hR 15 (by decide) (by decide) q1152 dX1_digest_97 ?_
                refine lv_iload_n hx hb dX1_digest_100 rfl (lv_at hl 1 rfl) ?_
                refine m_ld X hR ⟨by decide, rfl, by decide⟩ (ixl 16 16 (by decide) rfl (hn3)) (v := S.1 15 (Int32.toNatClampNeg y3_12)) rfl dX1_digest_101 ?_
                refine lv_icmp_ge (tgt := 131) hx hb dX1_digest_102 (by decide) (fun c6 => ?_) (fun c6 => ?_)
                · have e0 : (m_digest_R94 S y1_12 y3_12) = (y1_94, y4_94) := Eq.trans (Eq.symm hE) (Eq.trans (m_digest_L94_s _ _ _ _ _) (if_pos c6))
                  exact K94 _ _ _ hR hS (by rw [e0]; exact lv_sub hl [0, 1, 2, 3] rfl)
                · refine lv_ldc2 hx hb hown (hts _ q1716) dX1_digest_105 ?_
                  refine lv_lload_n hx hb dX1_digest_108 rfl (lv_at hl 2 rfl) ?_
                  refine lv_lmul hx hb dX1_digest_109 ?_
                  refine lv_aload_n hx hb dX1_digest_110 rfl (lv_at hl 3 rfl) ?_
                  refine mg_a X hR 16 (by decide) (by decide) q1153 dX1_digest_111 ?_
                  refine lv_bipush (v := 48) hx hb dX1_digest_114 (by decide) ?_
                  refine lv_iload_n hx hb dX1_digest_116 rfl (lv_at hl 1 rfl) ?_
                  refine lv_imul hx hb dX1_digest_117 ?_
                  refine lv_iload hx hb dX1_digest_118 (lv_at hl 0 rfl) ?_
                  refine lv_iadd hx hb dX1_digest_120 ?_
                  refine m_ld X hR ⟨by decide, rfl, by decide⟩ (ixl 768 768 (by decide) rfl (m_digest_o7 S y3_12 y4_94 hI ht_ hi3 c1 hn3 hm3 hp3 hi4 c6)) (v := S.1 16 (Int32.toNatClampNeg ((48 * y3_12) + y4_94))) rfl dX1_digest_121 ?_
                  refine lv_i2l hx hb dX1_digest_122 rfl ?_
                  refine lv_ladd hx hb dX1_digest_123 ?_
                  refine lv_lstore_n (lv' := [(1, .long (m_digest_v124 S y3_12 y1_94 y4_94)), (4, .int y4_94), (3, .int y3_12), (0, .ref (a 0))]) hx hb dX1_digest_124 rfl hl (by decide) rfl (fun ls hl => ?_)
                  refine lv_iinc (v := (y4_94 + 1)) (lv' := [(4, .int (y4_94 + 1)), (1, .long (m_digest_v124 S y3_12 y1_94 y4_94)), (3, .int y3_12), (0, .ref (a 0))]) hx hb dX1_digest_125 hl (k := 1) rfl rfl (by decide) rfl (fun ls hl => ?_)
                  refine lv_goto (tgt := 94) hx hb dX1_digest_128 (by decide) ?_
                  exact ih (m_digest_v124 S y3_12 y1_94 y4_94) (y4_94 + 1) _ _  _ (Nat.lt_of_lt_of_le (up_ hi4 (m_digest_o42 S y3_12 y4_94 hI ht_ hi3 c1 hn3 hm3 hp3 hi4 c6)) (Nat.le_of_lt_succ hf)) (m_digest_o41 S y3_12 y4_94 hI ht_ hi3 c1 hn3 hm3 hp3 hi4 c6) (Eq.trans (Eq.symm (Eq.trans (m_digest_L94_s _ _ _ _ _) (if_neg c6))) hE) hR hS (lv_sub hl [0, 2, 1, 3] rfl)
            exact L94 _ ((m_digest_R54 S y1_12 y3_12).1) 0 _ _  _ (Nat.lt_succ_self _) (by decide) rfl hR hS (lv_sub hl [0, 1, 2, 3] rfl)
          have L54 : ∀ (f54 : Nat) (y1_54 : Int64) (y4_54 : Int32) (H : Heap) (locs : List Loc) (ls : Array Slot), (S.1 12 (Int32.toNatClampNeg y3_12) - y4_54 : Int32).toNatClampNeg < f54 → 0 ≤ y4_54 → m_digest_L54 S y3_12 (f54) y1_54 y4_54 = (m_digest_R54 S y1_12 y3_12) → MR D d A a S H → va_S A s.heap H locs → lv_has ls 5 [(4, .int y4_54), (3, .int y3_12), (1, .long y1_54), (0, .ref (a 0))] → W p l e (rm_ 2) s m av below meth c H locs 0 0 Q (F0 m 54 ls []) := by
            intro f54
            induction f54 with
            | zero => intro y1_54 y4_54 H locs ls hf; exact absurd hf (Nat.not_lt_zero _)
            | succ f54 ih =>
              intro y1_54 y4_54 H locs ls hf hi4 hE hR hS hl
              refine lv_iload hx hb dX1_digest_54 (lv_at hl 0 rfl) ?_
              refine lv_aload_n hx hb dX1_digest_56 rfl (lv_at hl 3 rfl) ?_
              refine mg_a X hR 12 (by decide) (by decide) q1149 dX1_digest_57 ?_
              refine lv_iload_n hx hb dX1_digest_60 rfl (lv_at hl 1 rfl) ?_
              refine m_ld X hR ⟨by decide, rfl, by decide⟩ (ixl 16 16 (by decide) rfl (hn3)) (v := S.1 12 (Int32.toNatClampNeg y3_12)) rfl dX1_digest_61 ?_
              refine lv_icmp_ge (tgt := 91) hx hb dX1_digest_62 (by decide) (fun c4 => ?_) (fun c4 => ?_)
              · have e0 : (m_digest_R54 S y1_12 y3_12) = (y1_54, y4_54) := Eq.trans (Eq.symm hE) (Eq.trans (m_digest_L54_s _ _ _ _ _) (if_pos c4))
                exact K54 _ _ _ hR hS (by rw [e0]; exact lv_sub hl [0, 1, 2, 3] rfl)
              · refine lv_ldc2 hx hb hown (hts _ q1716) dX1_digest_65 ?_
                refine lv_lload_n hx hb dX1_digest_68 rfl (lv_at hl 2 rfl) ?_
                refine lv_lmul hx hb dX1_digest_69 ?_
                refine lv_aload_n hx hb dX1_digest_70 rfl (lv_at hl 3 rfl) ?_
                refine mg_a X hR 13 (by decide) (by decide) q1150 dX1_digest_71 ?_
                refine lv_bipush (v := 24) hx hb dX1_digest_74 (by decide) ?_
                refine lv_iload_n hx hb dX1_digest_76 rfl (lv_at hl 1 rfl) ?_
                refine lv_imul hx hb dX1_digest_77 ?_
                refine lv_iload hx hb dX1_digest_78 (lv_at hl 0 rfl) ?_
                refine lv_iadd hx hb dX1_digest_80 ?_
                refine m_ld X hR ⟨by decide, rfl, by decide⟩ (ixl 384 384 (by decide) rfl (m_digest_o5 S y3_12 y4_54 hI ht_ hi3 c1 hn3 hm3 hp3 hi4 c4)) (v := S.1 13 (Int32.toNatClampNeg ((24 * y3_12) + y4_54))) rfl dX1_digest_81 ?_
                refine lv_i2l hx hb dX1_digest_82 rfl ?_
                refine lv_ladd hx hb dX1_digest_83 ?_
                refine lv_lstore_n (lv' := [(1, .long (m_digest_v84 S y3_12 y1_54 y4_54)), (4, .int y4_54), (3, .int y3_12), (0, .ref (a 0))]) hx hb dX1_digest_84 rfl hl (by decide) rfl (fun ls hl => ?_)
                refine lv_iinc (v := (y4_54 + 1)) (lv' := [(4, .int (y4_54 + 1)), (1, .long (m_digest_v84 S y3_12 y1_54 y4_54)), (3, .int y3_12), (0, .ref (a 0))]) hx hb dX1_digest_85 hl (k := 1) rfl rfl (by decide) rfl (fun ls hl => ?_)
                refine lv_goto (tgt := 54) hx hb dX1_digest_88 (by decide) ?_
                exact ih (m_digest_v84 S y3_12 y1_54 y4_54) (y4_54 + 1) _ _  _ (Nat.lt_of_lt_of_le (up_ hi4 (m_digest_o44 S y3_12 y4_54 hI ht_ hi3 c1 hn3 hm3 hp3 hi4 c4)) (Nat.le_of_lt_succ hf)) (m_digest_o43 S y3_12 y4_54 hI ht_ hi3 c1 hn3 hm3 hp3 hi4 c4) (Eq.trans (Eq.symm (Eq.trans (m_digest_L54_s _ _ _ _ _) (if_neg c4))) hE) hR hS (lv_sub hl [0, 2, 1, 3] rfl)
          exact L54 _ ((m_digest_R23 S y1_12 y3_12).1) 0 _ _  _ (Nat.lt_succ_self _) (by decide) rfl hR hS (lv_sub hl [0, 1, 2, 3] rfl)
        have L23 : ∀ (f23 : Nat) (y1_23 : Int64) (y4_23 : Int32) (H : Heap) (locs : List Loc) (ls : Array Slot), (8 - y4_23 : Int32).toNatClampNeg < f23 → 0 ≤ y4_23 → m_digest_L23 S y3_12 (f23) y1_23 y4_23 = (m_digest_R23 S y1_12 y3_12) → MR D d A a S H → va_S A s.heap H locs → lv_has ls 5 [(4, .int y4_23), (3, .int y3_12), (1, .long y1_23), (0, .ref (a 0))] → W p l e (rm_ 2) s m av below meth c H locs 0 0 Q (F0 m 23 ls []) := by
          intro f23
          induction f23 with
          | zero => intro y1_23 y4_23 H locs ls hf; exact absurd hf (Nat.not_lt_zero _)
          | succ f23 ih =>
            intro y1_23 y4_23 H locs ls hf hi4 hE hR hS hl
            refine lv_iload hx hb dX1_digest_23 (lv_at hl 0 rfl) ?_
            refine lv_bipush (v := 7) hx hb dX1_digest_25 (by decide) ?_
            refine lv_icmp_gt (tgt := 51) hx hb dX1_digest_27 (by decide) (fun c3 => ?_) (fun c3 => ?_)
            · have e0 : (m_digest_R23 S y1_12 y3_12) = (y1_23, y4_23) := Eq.trans (Eq.symm hE) (Eq.trans (m_digest_L23_s _ _ _ _ _) (if_pos c3))
              exact K23 _ _ _ hR hS (by rw [e0]; exact lv_sub hl [0, 1, 2, 3] rfl)
            · refine lv_ldc2 hx hb hown (hts _ q1716) dX1_digest_30 ?_
              refine lv_lload_n hx hb dX1_digest_33 rfl (lv_at hl 2 rfl) ?_
              refine lv_lmul hx hb dX1_digest_34 ?_
              refine lv_aload_n hx hb dX1_digest_35 rfl (lv_at hl 3 rfl) ?_
              refine lv_iload_n hx hb dX1_digest_36 rfl (lv_at hl 1 rfl) ?_
              refine lv_iload hx hb dX1_digest_37 (lv_at hl 0 rfl) ?_
              refine m_cr X hR hS (mt_trainTells l D d A a S y3_12 y4_23 (hn3)) 2 (lw_V q1390 q1392 qs29 q59 q1393) ⟨rfl, rfl⟩ (by decide +kernel) ⟨by decide, by decide⟩ ⟨by decide, by decide⟩ rfl hl.1 rfl (Nat.le_of_ble_eq_true rfl) dX1_digest_39 (fun H locs hR hS => ?_)
              refine lv_i2l hx hb dX1_digest_42 rfl ?_
              refine lv_ladd hx hb dX1_digest_43 ?_
              refine lv_lstore_n (lv' := [(1, .long (m_digest_v44 S y3_12 y1_23 y4_23)), (4, .int y4_23), (3, .int y3_12), (0, .ref (a 0))]) hx hb dX1_digest_44 rfl hl (by decide) rfl (fun ls hl => ?_)
              refine lv_iinc (v := (y4_23 + 1)) (lv' := [(4, .int (y4_23 + 1)), (1, .long (m_digest_v44 S y3_12 y1_23 y4_23)), (3, .int y3_12), (0, .ref (a 0))]) hx hb dX1_digest_45 hl (k := 1) rfl rfl (by decide) rfl (fun ls hl => ?_)
              refine lv_goto (tgt := 23) hx hb dX1_digest_48 (by decide) ?_
              exact ih (m_digest_v44 S y3_12 y1_23 y4_23) (y4_23 + 1) _ _  _ (Nat.lt_of_lt_of_le (up_ hi4 (m_digest_o46 S y3_12 y4_23 hI ht_ hi3 c1 hn3 hm3 hp3 hi4 c3)) (Nat.le_of_lt_succ hf)) (m_digest_o45 S y3_12 y4_23 hI ht_ hi3 c1 hn3 hm3 hp3 hi4 c3) (Eq.trans (Eq.symm (Eq.trans (m_digest_L23_s _ _ _ _ _) (if_neg c3))) hE) hR hS (lv_sub hl [0, 2, 1, 3] rfl)
        exact L23 _ y1_12 0 _ _  _ (Nat.lt_succ_self _) (by decide) rfl hR hS (lv_sub hl [0, 1, 2, 3] rfl)
  exact L12 _ (m_digest_v9 S) 0 _ _  _ (Nat.lt_succ_self _) (by decide) rfl hR hS (lv_sub hl [0, 1, 2] rfl)
