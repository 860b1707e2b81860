/-! PRINTED by gen/run_m8.py -/
set_option maxRecDepth 100000
theorem m_pass_o5 (S : MS) (x1 : Int32) (y2_29 : Int32) (S_29 : MS) (y3_36 : Int32) (S_36 : MS) (hI : MInv S) (c1 : ¬ (m_in x1 0 3000) = 0) (c2 : ((S.1 5 0) + x1) ≤ 1000000) (hi2 : 0 ≤ y2_29) (hJ : MInv S_29) (c3 : ¬ x1 ≤ y2_29) (hi3 : 0 ≤ y3_36) (hJ3 : MInv S_36) (c4 : ¬ 4 ≤ y3_36) : 0 ≤ y3_36 ∧ y3_36 < 4 := by 
  clear hI hJ hJ3
  try simp only [m_in_eq] at *
  try simp only [i_le, i_lt, i_eq, Int32.reduceToInt] at *
  first | (have e_0 := a32 (x := (S.1 5 0)) (y := x1) (by (try simp only [Int32.reduceToInt]); omega); (try simp only [Int32.reduceToInt] at e_0)) | skip
  try simp only [Int32.reduceToInt] at *
  omega
def m_pass_j55_S (y3_36 : Int32) (S_36 : MS) : MS := (if (S_36.1 26 (Int32.toNatClampNeg y3_36)) = 0 then S_36 else (m_minuteOf S_36 y3_36))
def m_pass_L36 : Nat → Int32 → MS → Int32 × MS
  | 0, y3_36, S_36 => (y3_36, S_36)
  | f36 + 1, y3_36, S_36 => (if 4 ≤ y3_36 then (y3_36, S_36) else (m_pass_L36 f36 (y3_36 + 1) (m_pass_j55_S y3_36 S_36)))
theorem m_pass_L36_s (f36 : Nat) (y3_36 : Int32) (S_36 : MS) : m_pass_L36 (f36 + 1) y3_36 S_36 = (if 4 ≤ y3_36 then (y3_36, S_36) else (m_pass_L36 f36 (y3_36 + 1) (m_pass_j55_S y3_36 S_36))) := rfl
def m_pass_R36 (S_29 : MS) : Int32 × MS := m_pass_L36 ((4 - 0 : Int32).toNatClampNeg + 1) 0 S_29
def m_pass_L29 (x1 : Int32) : Nat → Int32 → MS → Int32 × MS
  | 0, y2_29, S_29 => (y2_29, S_29)
  | f29 + 1, y2_29, S_29 => (if x1 ≤ y2_29 then (y2_29, S_29) else (m_pass_L29 x1 f29 (y2_29 + 1) (mu (m_pass_R36 S_29).2 5 0 (((m_pass_R36 S_29).2.1 5 0) + 1))))
theorem m_pass_L29_s (x1 : Int32) (f29 : Nat) (y2_29 : Int32) (S_29 : MS) : m_pass_L29 x1 (f29 + 1) y2_29 S_29 = (if x1 ≤ y2_29 then (y2_29, S_29) else (m_pass_L29 x1 f29 (y2_29 + 1) (mu (m_pass_R36 S_29).2 5 0 (((m_pass_R36 S_29).2.1 5 0) + 1)))) := rfl
def m_pass_R29 (S : MS) (x1 : Int32) : Int32 × MS := m_pass_L29 x1 ((x1 - 0 : Int32).toNatClampNeg + 1) 0 S
theorem m_pass_o9 (S : MS) (x1 : Int32) (y2_29 : Int32) (S_29 : MS) (hI : MInv S) (c1 : ¬ (m_in x1 0 3000) = 0) (c2 : ((S.1 5 0) + x1) ≤ 1000000) (hi2 : 0 ≤ y2_29) (hJ : MInv S_29) (c3 : ¬ x1 ≤ y2_29) (hJ3 : MInv (m_pass_R36 S_29).2) : 0 ≤ (y2_29 + 1) := by 
  clear hI hJ hJ3
  try simp only [m_in_eq] at *
  try simp only [i_le, i_lt, i_eq, Int32.reduceToInt] at *
  first | (have e_0 := a32 (x := (S.1 5 0)) (y := x1) (by (try simp only [Int32.reduceToInt]); omega); (try simp only [Int32.reduceToInt] at e_0)) | skip
  first | (have e_1 := a32 (x := y2_29) (y := 1) (by (try simp only [Int32.reduceToInt]); omega); (try simp only [Int32.reduceToInt] at e_1)) | skip
  try simp only [Int32.reduceToInt] at *
  omega
theorem m_pass_o10 (S : MS) (x1 : Int32) (y2_29 : Int32) (S_29 : MS) (hI : MInv S) (c1 : ¬ (m_in x1 0 3000) = 0) (c2 : ((S.1 5 0) + x1) ≤ 1000000) (hi2 : 0 ≤ y2_29) (hJ : MInv S_29) (c3 : ¬ x1 ≤ y2_29) (hJ3 : MInv (m_pass_R36 S_29).2) : y2_29 < x1 := by 
  clear hI hJ hJ3
  try simp only [m_in_eq] at *
  try simp only [i_le, i_lt, i_eq, Int32.reduceToInt] at *
  first | (have e_0 := a32 (x := (S.1 5 0)) (y := x1) (by (try simp only [Int32.reduceToInt]); omega); (try simp only [Int32.reduceToInt] at e_0)) | skip
  try simp only [Int32.reduceToInt] at *
  omega
theorem m_pass_o11 (S : MS) (x1 : Int32) (y2_29 : Int32) (S_29 : MS) (y3_36 : Int32) (S_36 : MS) (hI : MInv S) (c1 : ¬ (m_in x1 0 3000) = 0) (c2 : ((S.1 5 0) + x1) ≤ 1000000) (hi2 : 0 ≤ y2_29) (hJ : MInv S_29) (c3 : ¬ x1 ≤ y2_29) (hi3 : 0 ≤ y3_36) (hJ3 : MInv S_36) (c4 : ¬ 4 ≤ y3_36) (ht3 : 0 ≤ y3_36 ∧ y3_36 < 4) : 0 ≤ (y3_36 + 1) := by 
  clear hI hJ hJ3
  try simp only [m_in_eq] at *
  try simp only [i_le, i_lt, i_eq, Int32.reduceToInt] at *
  first | (have e_0 := a32 (x := (S.1 5 0)) (y := x1) (by (try simp only [Int32.reduceToInt]); omega); (try simp only [Int32.reduceToInt] at e_0)) | skip
  first | (have e_1 := a32 (x := y3_36) (y := 1) (by (try simp only [Int32.reduceToInt]); omega); (try simp only [Int32.reduceToInt] at e_1)) | skip
  try simp only [Int32.reduceToInt] at *
  omega
theorem m_pass_o12 (S : MS) (x1 : Int32) (y2_29 : Int32) (S_29 : MS) (y3_36 : Int32) (S_36 : MS) (hI : MInv S) (c1 : ¬ (m_in x1 0 3000) = 0) (c2 : ((S.1 5 0) + x1) ≤ 1000000) (hi2 : 0 ≤ y2_29) (hJ : MInv S_29) (c3 : ¬ x1 ≤ y2_29) (hi3 : 0 ≤ y3_36) (hJ3 : MInv S_36) (c4 : ¬ 4 ≤ y3_36) (ht3 : 0 ≤ y3_36 ∧ y3_36 < 4) : y3_36 < 4 := by 
  clear hI hJ hJ3
  try simp only [m_in_eq] at *
  try simp only [i_le, i_lt, i_eq, Int32.reduceToInt] at *
  first | (have e_0 := a32 (x := (S.1 5 0)) (y := x1) (by (try simp only [Int32.reduceToInt]); omega); (try simp only [Int32.reduceToInt] at e_0)) | skip
  try simp only [Int32.reduceToInt] at *
  omega
theorem m_pass_55 (t : Int32) (S : MS) (ht : 0 ≤ t ∧ t < 4) (hI : MInv S) : MInv (m_pass_j55_S t S) := by
  unfold m_pass_j55_S
  split
  · exact hI
  · exact m_minuteOf_inv S t ht hI
def m_pass (S : MS) (x1 : Int32) : Int32 × MS := (if (m_in x1 0 3000) = 0 then ((-1), S) else (if ((S.1 5 0) + x1) ≤ 1000000 then (((m_pass_R29 S x1).2.1 5 0), (m_pass_R29 S x1).2) else ((-2), S)))
set_option maxHeartbeats 4000000 in
theorem mt_pass (l : Launch) (D : va_G) (d : Nat → ClassId) (A : Nat → Prop) (a : Nat → Nat) (S : MS) (x1 : Int32) (hI : MInv S) : MI l yX1_pass cX1_pass 4 .int (rm_ 6) D d A a S [.int x1] (m_pass S x1) := by
  refine m_startI rfl (Nat.le_of_ble_eq_true rfl) ?_
  intro p e s m av below meth c ls Q X hrt hlk hl hR hQ
  have hx := X.1.1
  have hb := X.1.2.1
  have hown := X.1.2.2.2.1
  have hts := X.1.2.2.2.2
  have hS : va_S A s.heap s.heap [] := va_S.rf
  have hl : lv_has ls 4 [(0, .ref (a 0)), (1, .int x1)] := hl
  refine lv_iload_n hx hb dX1_pass_0 rfl (lv_at hl 1 rfl) ?_
  refine lv_iconst (v := 0) hx hb dX1_pass_1 (by decide) ?_
  refine lv_sipush (v := 3000) hx hb dX1_pass_2 (by decide) ?_
  refine s_ci X.1 (st_m_in l x1 0 3000) 3 (lw_S q1314 q1315 q59 q1316) ⟨rfl, rfl⟩ (by decide +kernel) ⟨by decide, by decide⟩ ⟨by decide, by decide⟩ rfl hl.1 rfl (Nat.le_of_ble_eq_true rfl) dX1_pass_5 ?_
  refine lv_if_ne (tgt := 13) hx hb dX1_pass_8 (by decide) (fun c1 => ?_) (fun c1 => ?_)
  · refine lv_aload_n hx hb dX1_pass_13 rfl (lv_at hl 0 rfl) ?_
    refine mg_i X hR 5 (by decide) rfl q1142 rfl dX1_pass_14 ?_
    refine lv_iload_n hx hb dX1_pass_17 rfl (lv_at hl 1 rfl) ?_
    refine lv_iadd hx hb dX1_pass_18 ?_
    refine lv_ldc hx hb hown (hts _ q1532) dX1_pass_19 ?_
    refine lv_icmp_le (tgt := 27) hx hb dX1_pass_21 (by decide) (fun c2 => ?_) (fun c2 => ?_)
    · refine lv_iconst (v := 0) hx hb dX1_pass_27 (by decide) ?_
      refine lv_istore_n (lv' := [(2, .int 0), (0, .ref (a 0)), (1, .int x1)]) hx hb dX1_pass_28 rfl hl (by decide) rfl (fun ls hl => ?_)
      have K29 : ∀ (H : Heap) (locs : List Loc) (ls : Array Slot), MR D d A a (m_pass_R29 S x1).2 H → va_S A s.heap H locs → lv_has ls 4 [(2, .int ((m_pass_R29 S x1).1)), (0, .ref (a 0)), (1, .int x1)] → W p l e (rm_ 6) s m av below meth c H locs 0 0 Q (F0 m 77 ls []) := by
        intro H locs ls hR hS hl
        refine lv_aload_n hx hb dX1_pass_77 rfl (lv_at hl 1 rfl) ?_
        refine mg_i X hR 5 (by decide) rfl q1142 rfl dX1_pass_78 ?_
        exact m_ri hx hb hrt (rfl) hlk hR hS hQ (Eq.trans (if_neg c1) (if_pos c2)) dX1_pass_81
      have L29 : ∀ (f29 : Nat) (y2_29 : Int32) (S_29 : MS) (H : Heap) (locs : List Loc) (ls : Array Slot), (x1 - y2_29 : Int32).toNatClampNeg < f29 → 0 ≤ y2_29 → MInv S_29 → m_pass_L29 x1 (f29) y2_29 S_29 = (m_pass_R29 S x1) → MR D d A a S_29 H → va_S A s.heap H locs → lv_has ls 4 [(2, .int y2_29), (0, .ref (a 0)), (1, .int x1)] → W p l e (rm_ 6) s m av below meth c H locs 0 0 Q (F0 m 29 ls []) := by
        intro f29
        induction f29 with
        | zero => intro y2_29 S_29 H locs ls hf; exact absurd hf (Nat.not_lt_zero _)
        | succ f29 ih =>
          intro y2_29 S_29 H locs ls hf hi2 hJ hE hR hS hl
          refine lv_iload_n hx hb dX1_pass_29 rfl (lv_at hl 0 rfl) ?_
          refine lv_iload_n hx hb dX1_pass_30 rfl (lv_at hl 2 rfl) ?_
          refine lv_icmp_ge (tgt := 77) hx hb dX1_pass_31 (by decide) (fun c3 => ?_) (fun c3 => ?_)
          · have e0 : (m_pass_R29 S x1) = (y2_29, S_29) := Eq.trans (Eq.symm hE) (Eq.trans (m_pass_L29_s _ _ _ _) (if_pos c3))
            exact K29 _ _ _ (by rw [e0]; exact hR) hS (by rw [e0]; exact lv_sub hl [0, 1, 2] rfl)
          · refine lv_iconst (v := 0) hx hb dX1_pass_34 (by decide) ?_
            refine lv_istore_n (lv' := [(3, .int 0), (2, .int y2_29), (0, .ref (a 0)), (1, .int x1)]) hx hb dX1_pass_35 rfl hl (by decide) rfl (fun ls hl => ?_)
            have K36 : ∀ (H : Heap) (locs : List Loc) (ls : Array Slot), (MInv (m_pass_R36 S_29).2) → MR D d A a (m_pass_R36 S_29).2 H → va_S A s.heap H locs → lv_has ls 4 [(3, .int ((m_pass_R36 S_29).1)), (2, .int y2_29), (0, .ref (a 0)), (1, .int x1)] → W p l e (rm_ 6) s m av below meth c H locs 0 0 Q (F0 m 61 ls []) := by
              intro H locs ls hJ3 hR hS hl
              refine lv_aload_n hx hb dX1_pass_61 rfl (lv_at hl 2 rfl) ?_
              refine lv_dup hx hb dX1_pass_62 rfl ?_
              refine mg_i X hR 5 (by decide) rfl q1142 rfl dX1_pass_63 ?_
              refine lv_iconst (v := 1) hx hb dX1_pass_66 (by decide) ?_
              refine lv_iadd hx hb dX1_pass_67 ?_
              refine mp_i X hR hS 5 (by decide) rfl rfl rfl q1142 dX1_pass_68 (fun H locs hR hS => ?_)
              refine lv_iinc (v := (y2_29 + 1)) (lv' := [(2, .int (y2_29 + 1)), (3, .int ((m_pass_R36 S_29).1)), (0, .ref (a 0)), (1, .int x1)]) hx hb dX1_pass_71 hl (k := 1) rfl rfl (by decide) rfl (fun ls hl => ?_)
              refine lv_goto (tgt := 29) hx hb dX1_pass_74 (by decide) ?_
              exact ih (y2_29 + 1) (mu (m_pass_R36 S_29).2 5 0 (((m_pass_R36 S_29).2.1 5 0) + 1)) _ _  _ (Nat.lt_of_lt_of_le (up_ hi2 (m_pass_o10 S x1 y2_29 S_29 hI c1 c2 hi2 hJ c3 hJ3)) (Nat.le_of_lt_succ hf)) (m_pass_o9 S x1 y2_29 S_29 hI c1 c2 hi2 hJ c3 hJ3) (MInv_mu hJ3 _ _ _ (by decide)) (Eq.trans (Eq.symm (Eq.trans (m_pass_L29_s _ _ _ _) (if_neg c3))) hE) hR hS (lv_sub hl [0, 2, 3] rfl)
            have L36 : ∀ (f36 : Nat) (y3_36 : Int32) (S_36 : MS) (H : Heap) (locs : List Loc) (ls : Array Slot), (4 - y3_36 : Int32).toNatClampNeg < f36 → 0 ≤ y3_36 → MInv S_36 → m_pass_L36 (f36) y3_36 S_36 = (m_pass_R36 S_29) → MR D d A a S_36 H → va_S A s.heap H locs → lv_has ls 4 [(3, .int y3_36), (2, .int y2_29), (0, .ref (a 0)), (1, .int x1)] → W p l e (rm_ 6) s m av below meth c H locs 0 0 Q (F0 m 36 ls []) := by
              intro f36
              induction f36 with
              | zero => intro y3_36 S_36 H locs ls hf; exact absurd hf (Nat.not_lt_zero _)
              | succ f36 ih =>
                intro y3_36 S_36 H locs ls hf hi3 hJ3 hE hR hS hl
                refine lv_iload_n hx hb dX1_pass_36 rfl (lv_at hl 0 rfl) ?_
                refine lv_iconst (v := 4) hx hb dX1_pass_37 (by decide) ?_
                refine lv_icmp_ge (tgt := 61) hx hb dX1_pass_38 (by decide) (fun c4 => ?_) (fun c4 => ?_)
                · have e0 : (m_pass_R36 S_29) = (y3_36, S_36) := Eq.trans (Eq.symm hE) (Eq.trans (m_pass_L36_s _ _ _) (if_pos c4))
                  exact K36 _ _ _ (by rw [e0]; exact hJ3) (by rw [e0]; exact hR) hS (by rw [e0]; exact lv_sub hl [0, 1, 2, 3] rfl)
                · have ht3 : 0 ≤ y3_36 ∧ y3_36 < 4 := m_pass_o5 S x1 y2_29 S_29 y3_36 S_36 hI c1 c2 hi2 hJ c3 hi3 hJ3 c4
                  refine lv_aload_n hx hb dX1_pass_41 rfl (lv_at hl 2 rfl) ?_
                  refine mg_a X hR 26 (by decide) (by decide) q1163 dX1_pass_42 ?_
                  refine lv_iload_n hx hb dX1_pass_45 rfl (lv_at hl 0 rfl) ?_
                  refine m_zld X hR ⟨by decide, rfl, by decide⟩ (ixl 4 4 (by decide) rfl (ht3)) (v := S_36.1 26 (Int32.toNatClampNeg y3_36)) rfl dX1_pass_46 ?_
                  have J8 : ∀ (w7 : MS) (H : Heap) (locs : List Loc) (ls : Array Slot), w7 = (m_pass_j55_S y3_36 S_36) → MR D d A a w7 H → va_S A s.heap H locs → lv_has ls 4 [(3, .int y3_36), (2, .int y2_29), (0, .ref (a 0)), (1, .int x1)] → W p l e (rm_ 6) s m av below meth c H locs 0 0 Q (F0 m 55 ls []) := by
                    intro w7 H locs ls ew7 hR hS hl
                    subst ew7
                    refine lv_iinc (v := (y3_36 + 1)) (lv' := [(3, .int (y3_36 + 1)), (2, .int y2_29), (0, .ref (a 0)), (1, .int x1)]) hx hb dX1_pass_55 hl (k := 0) rfl rfl (by decide) rfl (fun ls hl => ?_)
                    refine lv_goto (tgt := 36) hx hb dX1_pass_58 (by decide) ?_
                    exact ih (y3_36 + 1) (m_pass_j55_S y3_36 S_36) _ _  _ (Nat.lt_of_lt_of_le (up_ hi3 (m_pass_o12 S x1 y2_29 S_29 y3_36 S_36 hI c1 c2 hi2 hJ c3 hi3 hJ3 c4 ht3)) (Nat.le_of_lt_succ hf)) (m_pass_o11 S x1 y2_29 S_29 y3_36 S_36 hI c1 c2 hi2 hJ c3 hi3 hJ3 c4 ht3) (m_pass_55 _ _ ht3 hJ3) (Eq.trans (Eq.symm (Eq.trans (m_pass_L36_s _ _ _) (if_neg c4))) hE) hR hS (lv_sub hl [0, 1, 2, 3] rfl)
                  refine lv_if_eq (tgt := 55) hx hb dX1_pass_47 (by decide) (fun c6 => ?_) (fun c6 => ?_)
                  · exact J8 _ _ _  _ (Eq.symm (if_pos c6)) hR hS  (lv_sub hl [0, 1, 2, 3] rfl)
                  · refine lv_aload_n hx hb dX1_pass_50 rfl (lv_at hl 2 rfl) ?_
                    refine lv_iload_n hx hb dX1_pass_51 rfl (lv_at hl 0 rfl) ?_
                    refine m_cv X hR hS (mt_minuteOf l D d A a S_36 y3_36 (ht3) (hJ3)) 1 (lw_V q1533 q1535 qs44 q59 q1536) ⟨rfl, rfl⟩ (by decide +kernel) ⟨by decide, by decide⟩ ⟨by decide, by decide⟩ rfl hl.1 rfl (Nat.le_of_ble_eq_true rfl) dX1_pass_52 (fun H locs hR hS => ?_)
                    exact J8 _ _ _  _ (Eq.symm (if_neg c6)) hR hS  (lv_sub hl [0, 1, 2, 3] rfl)
            exact L36 _ 0 S_29 _ _  _ (Nat.lt_succ_self _) (by decide) (hJ) rfl hR hS (lv_sub hl [0, 1, 2, 3] rfl)
      exact L29 _ 0 S _ _  _ (Nat.lt_succ_self _) (by decide) (hI) rfl hR hS (lv_sub hl [0, 1, 2] rfl)
    · refine lv_bipush (v := (-2)) hx hb dX1_pass_24 (by decide) ?_
      exact m_ri hx hb hrt (rfl) hlk hR hS hQ (Eq.trans (if_neg c1) (if_neg c2)) dX1_pass_26
  · refine lv_iconst (v := (-1)) hx hb dX1_pass_11 (by decide) ?_
    exact m_ri hx hb hrt (rfl) hlk hR hS hQ (if_pos c1) dX1_pass_12
