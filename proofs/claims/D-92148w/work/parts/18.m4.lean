/-! PRINTED by gen/run_m3.py -/
set_option maxRecDepth 100000
theorem m_cutOf_o1 (S : MS) (x1 : Int32) (hT : 0 ≤ S.1 10 0 ∧ S.1 10 0 < 16) (hr : 0 ≤ x1 ∧ x1 < 8) (hz : S.1 7 (Int32.toNatClampNeg x1) ≤ 24) : 0 ≤ (S.1 10 0) ∧ (S.1 10 0) < 16 := by 
  try simp only [i_le, i_lt, i_eq, Int32.reduceToInt] at *
  try simp only [Int32.reduceToInt] at *
  omega
theorem m_cutOf_o3 (S : MS) (x1 : Int32) (y3_17 : Int32) (S_17 : MS) (hT : 0 ≤ S.1 10 0 ∧ S.1 10 0 < 16) (hr : 0 ≤ x1 ∧ x1 < 8) (hz : S.1 7 (Int32.toNatClampNeg x1) ≤ 24) (hi3 : 0 ≤ y3_17) (kp17_0 : S_17.1 7 (Int32.toNatClampNeg x1) = S.1 7 (Int32.toNatClampNeg x1)) (kp17_1 : S_17.1 10 0 = S.1 10 0) (c2 : ¬ (S_17.1 7 (Int32.toNatClampNeg x1)) ≤ y3_17) : 0 ≤ ((48 * x1) + y3_17) ∧ ((48 * x1) + y3_17) < 384 := by 
  try simp only [i_le, i_lt, i_eq, Int32.reduceToInt] at *
  first | (have e_0 := m32 (x := 48) (y := x1) (by (try simp only [Int32.reduceToInt]); omega); (try simp only [Int32.reduceToInt] at e_0)) | skip
  first | (have e_1 := a32 (x := (48 * x1)) (y := y3_17) (by (try simp only [Int32.reduceToInt]); omega); (try simp only [Int32.reduceToInt] at e_1)) | skip
  try simp only [Int32.reduceToInt] at *
  omega
theorem m_cutOf_o4 (S : MS) (x1 : Int32) (y3_17 : Int32) (S_17 : MS) (hT : 0 ≤ S.1 10 0 ∧ S.1 10 0 < 16) (hr : 0 ≤ x1 ∧ x1 < 8) (hz : S.1 7 (Int32.toNatClampNeg x1) ≤ 24) (hi3 : 0 ≤ y3_17) (kp17_0 : S_17.1 7 (Int32.toNatClampNeg x1) = S.1 7 (Int32.toNatClampNeg x1)) (kp17_1 : S_17.1 10 0 = S.1 10 0) (c2 : ¬ (S_17.1 7 (Int32.toNatClampNeg x1)) ≤ y3_17) : 0 ≤ ((24 * (S_17.1 10 0)) + y3_17) ∧ ((24 * (S_17.1 10 0)) + y3_17) < 384 := by 
  try simp only [i_le, i_lt, i_eq, Int32.reduceToInt] at *
  first | (have e_0 := m32 (x := 24) (y := (S_17.1 10 0)) (by (try simp only [Int32.reduceToInt]); omega); (try simp only [Int32.reduceToInt] at e_0)) | skip
  first | (have e_1 := a32 (x := (24 * (S_17.1 10 0))) (y := y3_17) (by (try simp only [Int32.reduceToInt]); omega); (try simp only [Int32.reduceToInt] at e_1)) | skip
  try simp only [Int32.reduceToInt] at *
  omega
def m_cutOf_L17 (x1 : Int32) : Nat → Int32 → MS → Int32 × MS
  | 0, y3_17, S_17 => (y3_17, S_17)
  | f17 + 1, y3_17, S_17 => (if (S_17.1 7 (Int32.toNatClampNeg x1)) ≤ y3_17 then (y3_17, S_17) else (m_cutOf_L17 x1 f17 (y3_17 + 1) (mu S_17 13 (Int32.toNatClampNeg ((24 * (S_17.1 10 0)) + y3_17)) (S_17.1 8 (Int32.toNatClampNeg ((48 * x1) + y3_17))))))
theorem m_cutOf_L17_s (x1 : Int32) (f17 : Nat) (y3_17 : Int32) (S_17 : MS) : m_cutOf_L17 x1 (f17 + 1) y3_17 S_17 = (if (S_17.1 7 (Int32.toNatClampNeg x1)) ≤ y3_17 then (y3_17, S_17) else (m_cutOf_L17 x1 f17 (y3_17 + 1) (mu S_17 13 (Int32.toNatClampNeg ((24 * (S_17.1 10 0)) + y3_17)) (S_17.1 8 (Int32.toNatClampNeg ((48 * x1) + y3_17)))))) := rfl
def m_cutOf_R17 (S : MS) (x1 : Int32) : Int32 × MS := m_cutOf_L17 x1 ((S.1 7 (Int32.toNatClampNeg x1) - 0 : Int32).toNatClampNeg + 1) 0 (mu S 12 (Int32.toNatClampNeg (S.1 10 0)) (S.1 7 (Int32.toNatClampNeg x1)))
theorem m_cutOf_o5 (S : MS) (x1 : Int32) (hT : 0 ≤ S.1 10 0 ∧ S.1 10 0 < 16) (hr : 0 ≤ x1 ∧ x1 < 8) (hz : S.1 7 (Int32.toNatClampNeg x1) ≤ 24) (kp17_0 : (m_cutOf_R17 S x1).2.1 7 (Int32.toNatClampNeg x1) = S.1 7 (Int32.toNatClampNeg x1)) (kp17_1 : (m_cutOf_R17 S x1).2.1 10 0 = S.1 10 0) : 0 ≤ ((m_cutOf_R17 S x1).2).1 10 0 ∧ ((m_cutOf_R17 S x1).2).1 10 0 < 16 := by 
  try simp only [i_le, i_lt, i_eq, Int32.reduceToInt] at *
  try simp only [Int32.reduceToInt] at *
  omega
theorem m_cutOf_o6 (S : MS) (x1 : Int32) (y3_17 : Int32) (S_17 : MS) (hT : 0 ≤ S.1 10 0 ∧ S.1 10 0 < 16) (hr : 0 ≤ x1 ∧ x1 < 8) (hz : S.1 7 (Int32.toNatClampNeg x1) ≤ 24) (hi3 : 0 ≤ y3_17) (kp17_0 : S_17.1 7 (Int32.toNatClampNeg x1) = S.1 7 (Int32.toNatClampNeg x1)) (kp17_1 : S_17.1 10 0 = S.1 10 0) (c2 : ¬ (S_17.1 7 (Int32.toNatClampNeg x1)) ≤ y3_17) : 0 ≤ (y3_17 + 1) := by 
  try simp only [i_le, i_lt, i_eq, Int32.reduceToInt] at *
  first | (have e_0 := a32 (x := y3_17) (y := 1) (by (try simp only [Int32.reduceToInt]); omega); (try simp only [Int32.reduceToInt] at e_0)) | skip
  try simp only [Int32.reduceToInt] at *
  omega
theorem m_cutOf_o7 (S : MS) (x1 : Int32) (y3_17 : Int32) (S_17 : MS) (hT : 0 ≤ S.1 10 0 ∧ S.1 10 0 < 16) (hr : 0 ≤ x1 ∧ x1 < 8) (hz : S.1 7 (Int32.toNatClampNeg x1) ≤ 24) (hi3 : 0 ≤ y3_17) (kp17_0 : S_17.1 7 (Int32.toNatClampNeg x1) = S.1 7 (Int32.toNatClampNeg x1)) (kp17_1 : S_17.1 10 0 = S.1 10 0) (c2 : ¬ (S_17.1 7 (Int32.toNatClampNeg x1)) ≤ y3_17) : y3_17 < S.1 7 (Int32.toNatClampNeg x1) := by 
  try simp only [i_le, i_lt, i_eq, Int32.reduceToInt] at *
  try simp only [Int32.reduceToInt] at *
  omega
def m_cutOf (S : MS) (x1 : Int32) (x2 : Int32) : Int32 × MS := ((m_makes (m_cutOf_R17 S x1).2 x2).1, (m_makes (m_cutOf_R17 S x1).2 x2).2)
set_option maxHeartbeats 4000000 in
theorem mt_cutOf (l : Launch) (D : va_G) (d : Nat → ClassId) (A : Nat → Prop) (a : Nat → Nat) (S : MS) (x1 : Int32) (x2 : Int32) (hT : 0 ≤ S.1 10 0 ∧ S.1 10 0 < 16) (hr : 0 ≤ x1 ∧ x1 < 8) (hz : S.1 7 (Int32.toNatClampNeg x1) ≤ 24) : MI l yX1_cutOf cX1_cutOf 4 .int (rm_ 1) D d A a S [.int x1, .int x2] (m_cutOf S x1 x2) := by
  refine m_startI rfl (Nat.le_of_ble_eq_true rfl) ?_
  intro p e s m av below meth c ls Q X hrt hlk hl hR hQ
  have hx := X.1.1
  have hb := X.1.2.1
  have hown := X.1.2.2.2.1
  have hts := X.1.2.2.2.2
  have hS : va_S A s.heap s.heap [] := va_S.rf
  have hl : lv_has ls 4 [(0, .ref (a 0)), (1, .int x1), (2, .int x2)] := hl
  refine lv_aload_n hx hb dX1_cutOf_0 rfl (lv_at hl 0 rfl) ?_
  refine mg_a X hR 12 (by decide) (by decide) q1149 dX1_cutOf_1 ?_
  refine lv_aload_n hx hb dX1_cutOf_4 rfl (lv_at hl 0 rfl) ?_
  refine mg_i X hR 10 (by decide) rfl q1147 rfl dX1_cutOf_5 ?_
  refine lv_aload_n hx hb dX1_cutOf_8 rfl (lv_at hl 0 rfl) ?_
  refine mg_a X hR 7 (by decide) (by decide) q1144 dX1_cutOf_9 ?_
  refine lv_iload_n hx hb dX1_cutOf_12 rfl (lv_at hl 1 rfl) ?_
  refine m_ld X hR ⟨by decide, rfl, by decide⟩ (ixl 8 8 (by decide) rfl (hr)) (v := S.1 7 (Int32.toNatClampNeg x1)) rfl dX1_cutOf_13 ?_
  refine m_st X hR hS ⟨by decide, rfl, by decide⟩ (ixl 16 16 (by decide) rfl (m_cutOf_o1 S x1 hT hr hz)) dX1_cutOf_14 (fun H locs hR hS => ?_)
  refine lv_iconst (v := 0) hx hb dX1_cutOf_15 (by decide) ?_
  refine lv_istore_n (lv' := [(3, .int 0), (0, .ref (a 0)), (1, .int x1), (2, .int x2)]) hx hb dX1_cutOf_16 rfl hl (by decide) rfl (fun ls hl => ?_)
  have K17 : ∀ (H : Heap) (locs : List Loc) (ls : Array Slot), ((m_cutOf_R17 S x1).2.1 7 (Int32.toNatClampNeg x1) = S.1 7 (Int32.toNatClampNeg x1)) → ((m_cutOf_R17 S x1).2.1 10 0 = S.1 10 0) → MR D d A a (m_cutOf_R17 S x1).2 H → va_S A s.heap H locs → lv_has ls 4 [(3, .int ((m_cutOf_R17 S x1).1)), (0, .ref (a 0)), (1, .int x1), (2, .int x2)] → W p l e (rm_ 1) s m av below meth c H locs 0 0 Q (F0 m 58 ls []) := by
    intro H locs ls kp17_0 kp17_1 hR hS hl
    refine lv_aload_n hx hb dX1_cutOf_58 rfl (lv_at hl 1 rfl) ?_
    refine lv_iload_n hx hb dX1_cutOf_59 rfl (lv_at hl 3 rfl) ?_
    refine m_ci X hR hS (mt_makes l D d A a (m_cutOf_R17 S x1).2 x2 (m_cutOf_o5 S x1 hT hr hz kp17_0 kp17_1)) 1 (lw_V q1341 q1343 qs24 q59 q1344) ⟨rfl, rfl⟩ (by decide +kernel) ⟨by decide, by decide⟩ ⟨by decide, by decide⟩ rfl hl.1 rfl (Nat.le_of_ble_eq_true rfl) dX1_cutOf_60 (fun H locs hR hS => ?_)
    exact m_ri hx hb hrt (rfl) hlk hR hS hQ rfl dX1_cutOf_63
  have L17 : ∀ (f17 : Nat) (y3_17 : Int32) (S_17 : MS) (H : Heap) (locs : List Loc) (ls : Array Slot), (S.1 7 (Int32.toNatClampNeg x1) - y3_17 : Int32).toNatClampNeg < f17 → 0 ≤ y3_17 → S_17.1 7 (Int32.toNatClampNeg x1) = S.1 7 (Int32.toNatClampNeg x1) → S_17.1 10 0 = S.1 10 0 → m_cutOf_L17 x1 (f17) y3_17 S_17 = (m_cutOf_R17 S x1) → MR D d A a S_17 H → va_S A s.heap H locs → lv_has ls 4 [(3, .int y3_17), (0, .ref (a 0)), (1, .int x1), (2, .int x2)] → W p l e (rm_ 1) s m av below meth c H locs 0 0 Q (F0 m 17 ls []) := by
    intro f17
    induction f17 with
    | zero => intro y3_17 S_17 H locs ls hf; exact absurd hf (Nat.not_lt_zero _)
    | succ f17 ih =>
      intro y3_17 S_17 H locs ls hf hi3 kp17_0 kp17_1 hE hR hS hl
      refine lv_iload_n hx hb dX1_cutOf_17 rfl (lv_at hl 0 rfl) ?_
      refine lv_aload_n hx hb dX1_cutOf_18 rfl (lv_at hl 1 rfl) ?_
      refine mg_a X hR 7 (by decide) (by decide) q1144 dX1_cutOf_19 ?_
      refine lv_iload_n hx hb dX1_cutOf_22 rfl (lv_at hl 2 rfl) ?_
      refine m_ld X hR ⟨by decide, rfl, by decide⟩ (ixl 8 8 (by decide) rfl (hr)) (v := S_17.1 7 (Int32.toNatClampNeg x1)) rfl dX1_cutOf_23 ?_
      refine lv_icmp_ge (tgt := 58) hx hb dX1_cutOf_24 (by decide) (fun c2 => ?_) (fun c2 => ?_)
      · have e0 : (m_cutOf_R17 S x1) = (y3_17, S_17) := Eq.trans (Eq.symm hE) (Eq.trans (m_cutOf_L17_s _ _ _ _) (if_pos c2))
        exact K17 _ _ _ (by rw [e0]; exact kp17_0) (by rw [e0]; exact kp17_1) (by rw [e0]; exact hR) hS (by rw [e0]; exact lv_sub hl [0, 1, 2, 3] rfl)
      · refine lv_aload_n hx hb dX1_cutOf_27 rfl (lv_at hl 1 rfl) ?_
        refine mg_a X hR 13 (by decide) (by decide) q1150 dX1_cutOf_28 ?_
        refine lv_bipush (v := 24) hx hb dX1_cutOf_31 (by decide) ?_
        refine lv_aload_n hx hb dX1_cutOf_33 rfl (lv_at hl 1 rfl) ?_
        refine mg_i X hR 10 (by decide) rfl q1147 rfl dX1_cutOf_34 ?_
        refine lv_imul hx hb dX1_cutOf_37 ?_
        refine lv_iload_n hx hb dX1_cutOf_38 rfl (lv_at hl 0 rfl) ?_
        refine lv_iadd hx hb dX1_cutOf_39 ?_
        refine lv_aload_n hx hb dX1_cutOf_40 rfl (lv_at hl 1 rfl) ?_
        refine mg_a X hR 8 (by decide) (by decide) q1145 dX1_cutOf_41 ?_
        refine lv_bipush (v := 48) hx hb dX1_cutOf_44 (by decide) ?_
        refine lv_iload_n hx hb dX1_cutOf_46 rfl (lv_at hl 2 rfl) ?_
        refine lv_imul hx hb dX1_cutOf_47 ?_
        refine lv_iload_n hx hb dX1_cutOf_48 rfl (lv_at hl 0 rfl) ?_
        refine lv_iadd hx hb dX1_cutOf_49 ?_
        refine m_ld X hR ⟨by decide, rfl, by decide⟩ (ixl 384 384 (by decide) rfl (m_cutOf_o3 S x1 y3_17 S_17 hT hr hz hi3 kp17_0 kp17_1 c2)) (v := S_17.1 8 (Int32.toNatClampNeg ((48 * x1) + y3_17))) rfl dX1_cutOf_50 ?_
        refine m_st X hR hS ⟨by decide, rfl, by decide⟩ (ixl 384 384 (by decide) rfl (m_cutOf_o4 S x1 y3_17 S_17 hT hr hz hi3 kp17_0 kp17_1 c2)) dX1_cutOf_51 (fun H locs hR hS => ?_)
        refine lv_iinc (v := (y3_17 + 1)) (lv' := [(3, .int (y3_17 + 1)), (0, .ref (a 0)), (1, .int x1), (2, .int x2)]) hx hb dX1_cutOf_52 hl (k := 0) rfl rfl (by decide) rfl (fun ls hl => ?_)
        refine lv_goto (tgt := 17) hx hb dX1_cutOf_55 (by decide) ?_
        exact ih (y3_17 + 1) (mu S_17 13 (Int32.toNatClampNeg ((24 * (S_17.1 10 0)) + y3_17)) (S_17.1 8 (Int32.toNatClampNeg ((48 * x1) + y3_17)))) _ _  _ (Nat.lt_of_lt_of_le (up_ hi3 (m_cutOf_o7 S x1 y3_17 S_17 hT hr hz hi3 kp17_0 kp17_1 c2)) (Nat.le_of_lt_succ hf)) (m_cutOf_o6 S x1 y3_17 S_17 hT hr hz hi3 kp17_0 kp17_1 c2) (((mu_k _ (by decide) _ _ _).trans rfl).trans kp17_0) (((mu_k _ (by decide) _ _ _).trans rfl).trans kp17_1) (Eq.trans (Eq.symm (Eq.trans (m_cutOf_L17_s _ _ _ _) (if_neg c2))) hE) hR hS (lv_sub hl [0, 1, 2, 3] rfl)
  exact L17 _ 0 (mu S 12 (Int32.toNatClampNeg (S.1 10 0)) (S.1 7 (Int32.toNatClampNeg x1))) _ _  _ (Nat.lt_succ_self _) (by decide) (((mu_k _ (by decide) _ _ _).trans rfl)) (((mu_k _ (by decide) _ _ _).trans rfl)) rfl hR hS (lv_sub hl [0, 1, 2, 3] rfl)
theorem m_plateOf_o3 (S : MS) (x1 : Int32) (hI : MInv S) (ht : 0 ≤ S.1 10 0 ∧ S.1 10 0 ≤ 16) (hz1 : ¬ (m_isRow x1) = 0 → (0 ≤ x1 ∧ x1 < 8) ∧ S.1 7 (Int32.toNatClampNeg x1) ≤ 48) (hn : ¬ (m_areNotches S x1) = 0 → 1 ≤ S.1 7 (Int32.toNatClampNeg x1) ∧ S.1 7 (Int32.toNatClampNeg x1) ≤ 24) (c1 : ¬ (m_isRow x1) = 0) (c2 : ¬ (S.1 10 0) = 16) : 0 ≤ x1 ∧ x1 < 8 := by 
  clear hI
  try simp only [m_in_eq, m_isRow_eq] at *
  try simp only [i_le, i_lt, i_eq, Int32.reduceToInt] at *
  try simp only [Int32.reduceToInt] at *
  omega
theorem m_plateOf_o5 (S : MS) (x1 : Int32) (hI : MInv S) (ht : 0 ≤ S.1 10 0 ∧ S.1 10 0 ≤ 16) (hz1 : ¬ (m_isRow x1) = 0 → (0 ≤ x1 ∧ x1 < 8) ∧ S.1 7 (Int32.toNatClampNeg x1) ≤ 48) (hn : ¬ (m_areNotches S x1) = 0 → 1 ≤ S.1 7 (Int32.toNatClampNeg x1) ∧ S.1 7 (Int32.toNatClampNeg x1) ≤ 24) (c1 : ¬ (m_isRow x1) = 0) (c2 : ¬ (S.1 10 0) = 16) (c4 : 0 ≤ (S.1 7 (Int32.toNatClampNeg x1))) : 0 ≤ x1 ∧ x1 < 8 := by 
  clear hI
  try simp only [m_in_eq, m_isRow_eq] at *
  try simp only [i_le, i_lt, i_eq, Int32.reduceToInt] at *
  try simp only [Int32.reduceToInt] at *
  omega
theorem m_plateOf_o6 (S : MS) (x1 : Int32) (hI : MInv S) (ht : 0 ≤ S.1 10 0 ∧ S.1 10 0 ≤ 16) (hz1 : ¬ (m_isRow x1) = 0 → (0 ≤ x1 ∧ x1 < 8) ∧ S.1 7 (Int32.toNatClampNeg x1) ≤ 48) (hn : ¬ (m_areNotches S x1) = 0 → 1 ≤ S.1 7 (Int32.toNatClampNeg x1) ∧ S.1 7 (Int32.toNatClampNeg x1) ≤ 24) (c1 : ¬ (m_isRow x1) = 0) (c2 : ¬ (S.1 10 0) = 16) (c4 : 0 ≤ (S.1 7 (Int32.toNatClampNeg x1))) : S.1 7 (Int32.toNatClampNeg x1) ≤ 48 := by 
  clear hI
  try simp only [m_in_eq, m_isRow_eq] at *
  try simp only [i_le, i_lt, i_eq, Int32.reduceToInt] at *
  try simp only [Int32.reduceToInt] at *
  omega
theorem m_plateOf_o8 (S : MS) (x1 : Int32) (hI : MInv S) (ht : 0 ≤ S.1 10 0 ∧ S.1 10 0 ≤ 16) (hz1 : ¬ (m_isRow x1) = 0 → (0 ≤ x1 ∧ x1 < 8) ∧ S.1 7 (Int32.toNatClampNeg x1) ≤ 48) (hn : ¬ (m_areNotches S x1) = 0 → 1 ≤ S.1 7 (Int32.toNatClampNeg x1) ∧ S.1 7 (Int32.toNatClampNeg x1) ≤ 24) (c1 : ¬ (m_isRow x1) = 0) (c2 : ¬ (S.1 10 0) = 16) (c4 : 0 ≤ (S.1 7 (Int32.toNatClampNeg x1))) (c7 : ¬ (m_areNotches S x1) = 0) : 0 ≤ S.1 10 0 ∧ S.1 10 0 < 16 := by 
  clear hI
  try simp only [m_in_eq, m_isRow_eq] at *
  try simp only [i_le, i_lt, i_eq, Int32.reduceToInt] at *
  try simp only [Int32.reduceToInt] at *
  omega
theorem m_plateOf_o9 (S : MS) (x1 : Int32) (hI : MInv S) (ht : 0 ≤ S.1 10 0 ∧ S.1 10 0 ≤ 16) (hz1 : ¬ (m_isRow x1) = 0 → (0 ≤ x1 ∧ x1 < 8) ∧ S.1 7 (Int32.toNatClampNeg x1) ≤ 48) (hn : ¬ (m_areNotches S x1) = 0 → 1 ≤ S.1 7 (Int32.toNatClampNeg x1) ∧ S.1 7 (Int32.toNatClampNeg x1) ≤ 24) (c1 : ¬ (m_isRow x1) = 0) (c2 : ¬ (S.1 10 0) = 16) (c4 : 0 ≤ (S.1 7 (Int32.toNatClampNeg x1))) (c7 : ¬ (m_areNotches S x1) = 0) : 0 ≤ x1 ∧ x1 < 8 := by 
  clear hI
  try simp only [m_in_eq, m_isRow_eq] at *
  try simp only [i_le, i_lt, i_eq, Int32.reduceToInt] at *
  try simp only [Int32.reduceToInt] at *
  omega
theorem m_plateOf_o10 (S : MS) (x1 : Int32) (hI : MInv S) (ht : 0 ≤ S.1 10 0 ∧ S.1 10 0 ≤ 16) (hz1 : ¬ (m_isRow x1) = 0 → (0 ≤ x1 ∧ x1 < 8) ∧ S.1 7 (Int32.toNatClampNeg x1) ≤ 48) (hn : ¬ (m_areNotches S x1) = 0 → 1 ≤ S.1 7 (Int32.toNatClampNeg x1) ∧ S.1 7 (Int32.toNatClampNeg x1) ≤ 24) (c1 : ¬ (m_isRow x1) = 0) (c2 : ¬ (S.1 10 0) = 16) (c4 : 0 ≤ (S.1 7 (Int32.toNatClampNeg x1))) (c7 : ¬ (m_areNotches S x1) = 0) : S.1 7 (Int32.toNatClampNeg x1) ≤ 24 := by 
  clear hI
  try simp only [m_in_eq, m_isRow_eq] at *
  try simp only [i_le, i_lt, i_eq, Int32.reduceToInt] at *
  try simp only [Int32.reduceToInt] at *
  omega
def m_plateOf (S : MS) (x1 : Int32) (x2 : Int32) : Int32 × MS := (if (m_isRow x1) = 0 then ((-1), S) else (if (S.1 10 0) = 16 then ((-2), S) else (if 0 ≤ (S.1 7 (Int32.toNatClampNeg x1)) then (if (m_areNotches S x1) = 0 then ((m_meets S 5).1, (m_meets S 5).2) else ((m_cutOf S x1 x2).1, (m_cutOf S x1 x2).2)) else ((m_meets S 1).1, (m_meets S 1).2))))
set_option maxHeartbeats 4000000 in
theorem mt_plateOf (l : Launch) (D : va_G) (d : Nat → ClassId) (A : Nat → Prop) (a : Nat → Nat) (S : MS) (x1 : Int32) (x2 : Int32) (hI : MInv S) : MI l yX1_plateOf cX1_plateOf 3 .int (rm_ 2) D d A a S [.int x1, .int x2] (m_plateOf S x1 x2) := by
  refine m_startI rfl (Nat.le_of_ble_eq_true rfl) ?_
  intro p e s m av below meth c ls Q X hrt hlk hl hR hQ
  have hx := X.1.1
  have hb := X.1.2.1
  have hown := X.1.2.2.2.1
  have hts := X.1.2.2.2.2
  have hS : va_S A s.heap s.heap [] := va_S.rf
  have hl : lv_has ls 3 [(0, .ref (a 0)), (1, .int x1), (2, .int x2)] := hl
  have ht : 0 ≤ S.1 10 0 ∧ S.1 10 0 ≤ 16 := mi_tr hI
  have hz1 : ¬ (m_isRow x1) = 0 → (0 ≤ x1 ∧ x1 < 8) ∧ S.1 7 (Int32.toNatClampNeg x1) ≤ 48 := fun h => ⟨isRow_ok h, mi_sz hI (isRow_ok h)⟩
  have hn : ¬ (m_areNotches S x1) = 0 → 1 ≤ S.1 7 (Int32.toNatClampNeg x1) ∧ S.1 7 (Int32.toNatClampNeg x1) ≤ 24 := m_areNotches_le S x1
  refine lv_iload_n hx hb dX1_plateOf_0 rfl (lv_at hl 1 rfl) ?_
  refine s_ci X.1 (st_m_isRow l x1) 1 (lw_S q1311 q1312 q59 q1313) ⟨rfl, rfl⟩ (by decide +kernel) ⟨by decide, by decide⟩ ⟨by decide, by decide⟩ rfl hl.1 rfl (Nat.le_of_ble_eq_true rfl) dX1_plateOf_1 ?_
  refine lv_if_ne (tgt := 9) hx hb dX1_plateOf_4 (by decide) (fun c1 => ?_) (fun c1 => ?_)
  · refine lv_aload_n hx hb dX1_plateOf_9 rfl (lv_at hl 0 rfl) ?_
    refine mg_i X hR 10 (by decide) rfl q1147 rfl dX1_plateOf_10 ?_
    refine lv_bipush (v := 16) hx hb dX1_plateOf_13 (by decide) ?_
    refine lv_icmp_ne (tgt := 21) hx hb dX1_plateOf_15 (by decide) (fun c2 => ?_) (fun c2 => ?_)
    · refine lv_aload_n hx hb dX1_plateOf_21 rfl (lv_at hl 0 rfl) ?_
      refine mg_a X hR 7 (by decide) (by decide) q1144 dX1_plateOf_22 ?_
      refine lv_iload_n hx hb dX1_plateOf_25 rfl (lv_at hl 1 rfl) ?_
      refine m_ld X hR ⟨by decide, rfl, by decide⟩ (ixl 8 8 (by decide) rfl (m_plateOf_o3 S x1 hI ht hz1 hn c1 c2)) (v := S.1 7 (Int32.toNatClampNeg x1)) rfl dX1_plateOf_26 ?_
      refine lv_if_ge (tgt := 38) hx hb dX1_plateOf_27 (by decide) (fun c4 => ?_) (fun c4 => ?_)
      · refine lv_aload_n hx hb dX1_plateOf_38 rfl (lv_at hl 0 rfl) ?_
        refine lv_iload_n hx hb dX1_plateOf_39 rfl (lv_at hl 1 rfl) ?_
        refine m_cr X hR hS (mt_areNotches l D d A a S x1 (m_plateOf_o5 S x1 hI ht hz1 hn c1 c2 c4) (m_plateOf_o6 S x1 hI ht hz1 hn c1 c2 c4)) 1 (lw_V q1353 q1355 qs26 q59 q1356) ⟨rfl, rfl⟩ (by decide +kernel) ⟨by decide, by decide⟩ ⟨by decide, by decide⟩ rfl hl.1 rfl (Nat.le_of_ble_eq_true rfl) dX1_plateOf_40 (fun H locs hR hS => ?_)
        refine lv_if_eq (tgt := 55) hx hb dX1_plateOf_43 (by decide) (fun c7 => ?_) (fun c7 => ?_)
        · refine lv_aload_n hx hb dX1_plateOf_55 rfl (lv_at hl 0 rfl) ?_
          refine lv_iconst (v := 5) hx hb dX1_plateOf_56 (by decide) ?_
          refine m_ci X hR hS (mt_meets l D d A a S 5 (by decide)) 1 (lw_V q1317 q1319 qs22 q59 q1320) ⟨rfl, rfl⟩ (by decide +kernel) ⟨by decide, by decide⟩ ⟨by decide, by decide⟩ rfl hl.1 rfl (Nat.le_of_ble_eq_true rfl) dX1_plateOf_57 (fun H locs hR hS => ?_)
          exact m_ri hx hb hrt (rfl) hlk hR hS hQ (Eq.trans (if_neg c1) (Eq.trans (if_neg c2) (Eq.trans (if_pos c4) (if_pos c7)))) dX1_plateOf_60
        · refine lv_aload_n hx hb dX1_plateOf_46 rfl (lv_at hl 0 rfl) ?_
          refine lv_iload_n hx hb dX1_plateOf_47 rfl (lv_at hl 1 rfl) ?_
          refine lv_iload_n hx hb dX1_plateOf_48 rfl (lv_at hl 2 rfl) ?_
          refine m_ci X hR hS (mt_cutOf l D d A a S x1 x2 (m_plateOf_o8 S x1 hI ht hz1 hn c1 c2 c4 c7) (m_plateOf_o9 S x1 hI ht hz1 hn c1 c2 c4 c7) (m_plateOf_o10 S x1 hI ht hz1 hn c1 c2 c4 c7)) 2 (lw_V q1357 q1359 qs27 q59 q1360) ⟨rfl, rfl⟩ (by decide +kernel) ⟨by decide, by decide⟩ ⟨by decide, by decide⟩ rfl hl.1 rfl (Nat.le_of_ble_eq_true rfl) dX1_plateOf_49 (fun H locs hR hS => ?_)
          refine lv_goto (tgt := 60) hx hb dX1_plateOf_52 (by decide) ?_
          exact m_ri hx hb hrt (rfl) hlk hR hS hQ (Eq.trans (if_neg c1) (Eq.trans (if_neg c2) (Eq.trans (if_pos c4) (if_neg c7)))) dX1_plateOf_60
      · refine lv_aload_n hx hb dX1_plateOf_30 rfl (lv_at hl 0 rfl) ?_
        refine lv_iconst (v := 1) hx hb dX1_plateOf_31 (by decide) ?_
        refine m_ci X hR hS (mt_meets l D d A a S 1 (by decide)) 1 (lw_V q1317 q1319 qs22 q59 q1320) ⟨rfl, rfl⟩ (by decide +kernel) ⟨by decide, by decide⟩ ⟨by decide, by decide⟩ rfl hl.1 rfl (Nat.le_of_ble_eq_true rfl) dX1_plateOf_32 (fun H locs hR hS => ?_)
        refine lv_goto (tgt := 60) hx hb dX1_plateOf_35 (by decide) ?_
        exact m_ri hx hb hrt (rfl) hlk hR hS hQ (Eq.trans (if_neg c1) (Eq.trans (if_neg c2) (if_neg c4))) dX1_plateOf_60
    · refine lv_bipush (v := (-2)) hx hb dX1_plateOf_18 (by decide) ?_
      exact m_ri hx hb hrt (rfl) hlk hR hS hQ (Eq.trans (if_neg c1) (if_pos c2)) dX1_plateOf_20
  · refine lv_iconst (v := (-1)) hx hb dX1_plateOf_7 (by decide) ?_
    exact m_ri hx hb hrt (rfl) hlk hR hS hQ (if_pos c1) dX1_plateOf_8
def m_plate (S : MS) (x1 : Int32) : Int32 × MS := ((m_plateOf S x1 1).1, (m_plateOf S x1 1).2)
set_option maxHeartbeats 4000000 in
theorem mt_plate (l : Launch) (D : va_G) (d : Nat → ClassId) (A : Nat → Prop) (a : Nat → Nat) (S : MS) (x1 : Int32) (hI : MInv S) : MI l yX1_plate cX1_plate 2 .int (rm_ 3) D d A a S [.int x1] (m_plate S x1) := by
  refine m_startI rfl (Nat.le_of_ble_eq_true rfl) ?_
  intro p e s m av below meth c ls Q X hrt hlk hl hR hQ
  have hx := X.1.1
  have hb := X.1.2.1
  have hown := X.1.2.2.2.1
  have hts := X.1.2.2.2.2
  have hS : va_S A s.heap s.heap [] := va_S.rf
  have hl : lv_has ls 2 [(0, .ref (a 0)), (1, .int x1)] := hl
  refine lv_aload_n hx hb dX1_plate_0 rfl (lv_at hl 0 rfl) ?_
  refine lv_iload_n hx hb dX1_plate_1 rfl (lv_at hl 1 rfl) ?_
  refine lv_iconst (v := 1) hx hb dX1_plate_2 (by decide) ?_
  refine m_ci X hR hS (mt_plateOf l D d A a S x1 1 (hI)) 2 (lw_V q1349 q1351 qs25 q59 q1352) ⟨rfl, rfl⟩ (by decide +kernel) ⟨by decide, by decide⟩ ⟨by decide, by decide⟩ rfl hl.1 rfl (Nat.le_of_ble_eq_true rfl) dX1_plate_3 (fun H locs hR hS => ?_)
  exact m_ri hx hb hrt (rfl) hlk hR hS hQ rfl dX1_plate_6
def m_snail (S : MS) (x1 : Int32) : Int32 × MS := ((m_plateOf S x1 2).1, (m_plateOf S x1 2).2)
set_option maxHeartbeats 4000000 in
theorem mt_snail (l : Launch) (D : va_G) (d : Nat → ClassId) (A : Nat → Prop) (a : Nat → Nat) (S : MS) (x1 : Int32) (hI : MInv S) : MI l yX1_snail cX1_snail 2 .int (rm_ 3) D d A a S [.int x1] (m_snail S x1) := by
  refine m_startI rfl (Nat.le_of_ble_eq_true rfl) ?_
  intro p e s m av below meth c ls Q X hrt hlk hl hR hQ
  have hx := X.1.1
  have hb := X.1.2.1
  have hown := X.1.2.2.2.1
  have hts := X.1.2.2.2.2
  have hS : va_S A s.heap s.heap [] := va_S.rf
  have hl : lv_has ls 2 [(0, .ref (a 0)), (1, .int x1)] := hl
  refine lv_aload_n hx hb dX1_snail_0 rfl (lv_at hl 0 rfl) ?_
  refine lv_iload_n hx hb dX1_snail_1 rfl (lv_at hl 1 rfl) ?_
  refine lv_iconst (v := 2) hx hb dX1_snail_2 (by decide) ?_
  refine m_ci X hR hS (mt_plateOf l D d A a S x1 2 (hI)) 2 (lw_V q1349 q1351 qs25 q59 q1352) ⟨rfl, rfl⟩ (by decide +kernel) ⟨by decide, by decide⟩ ⟨by decide, by decide⟩ rfl hl.1 rfl (Nat.le_of_ble_eq_true rfl) dX1_snail_3 (fun H locs hR hS => ?_)
  exact m_ri hx hb hrt (rfl) hlk hR hS hQ rfl dX1_snail_6
theorem m_barrel_o4 (S : MS) (x1 : Int32) (x2 : Int32) (hI : MInv S) (ht : 0 ≤ S.1 10 0 ∧ S.1 10 0 ≤ 16) (hz1 : ¬ (m_isRow x1) = 0 → (0 ≤ x1 ∧ x1 < 8) ∧ S.1 7 (Int32.toNatClampNeg x1) ≤ 48) (hz2 : ¬ (m_isRow x2) = 0 → (0 ≤ x2 ∧ x2 < 8) ∧ S.1 7 (Int32.toNatClampNeg x2) ≤ 48) (hn : ¬ (m_areNotches S x1) = 0 → 1 ≤ S.1 7 (Int32.toNatClampNeg x1) ∧ S.1 7 (Int32.toNatClampNeg x1) ≤ 24) (c1 : ¬ (m_isRow x1) = 0) (c2 : ¬ (m_isRow x2) = 0) (c3 : ¬ (S.1 10 0) = 16) : 0 ≤ x1 ∧ x1 < 8 := by 
  clear hI
  try simp only [m_in_eq, m_isRow_eq] at *
  try simp only [i_le, i_lt, i_eq, Int32.reduceToInt] at *
  try simp only [Int32.reduceToInt] at *
  omega
theorem m_barrel_o6 (S : MS) (x1 : Int32) (x2 : Int32) (hI : MInv S) (ht : 0 ≤ S.1 10 0 ∧ S.1 10 0 ≤ 16) (hz1 : ¬ (m_isRow x1) = 0 → (0 ≤ x1 ∧ x1 < 8) ∧ S.1 7 (Int32.toNatClampNeg x1) ≤ 48) (hz2 : ¬ (m_isRow x2) = 0 → (0 ≤ x2 ∧ x2 < 8) ∧ S.1 7 (Int32.toNatClampNeg x2) ≤ 48) (hn : ¬ (m_areNotches S x1) = 0 → 1 ≤ S.1 7 (Int32.toNatClampNeg x1) ∧ S.1 7 (Int32.toNatClampNeg x1) ≤ 24) (c1 : ¬ (m_isRow x1) = 0) (c2 : ¬ (m_isRow x2) = 0) (c3 : ¬ (S.1 10 0) = 16) (c5 : ¬ (S.1 7 (Int32.toNatClampNeg x1)) < 0) : 0 ≤ x2 ∧ x2 < 8 := by 
  clear hI
  try simp only [m_in_eq, m_isRow_eq] at *
  try simp only [i_le, i_lt, i_eq, Int32.reduceToInt] at *
  try simp only [Int32.reduceToInt] at *
  omega
theorem m_barrel_o8 (S : MS) (x1 : Int32) (x2 : Int32) (hI : MInv S) (ht : 0 ≤ S.1 10 0 ∧ S.1 10 0 ≤ 16) (hz1 : ¬ (m_isRow x1) = 0 → (0 ≤ x1 ∧ x1 < 8) ∧ S.1 7 (Int32.toNatClampNeg x1) ≤ 48) (hz2 : ¬ (m_isRow x2) = 0 → (0 ≤ x2 ∧ x2 < 8) ∧ S.1 7 (Int32.toNatClampNeg x2) ≤ 48) (hn : ¬ (m_areNotches S x1) = 0 → 1 ≤ S.1 7 (Int32.toNatClampNeg x1) ∧ S.1 7 (Int32.toNatClampNeg x1) ≤ 24) (c1 : ¬ (m_isRow x1) = 0) (c2 : ¬ (m_isRow x2) = 0) (c3 : ¬ (S.1 10 0) = 16) (c5 : ¬ (S.1 7 (Int32.toNatClampNeg x1)) < 0) (c7 : 0 ≤ (S.1 7 (Int32.toNatClampNeg x2))) : 0 ≤ x1 ∧ x1 < 8 := by 
  clear hI
  try simp only [m_in_eq, m_isRow_eq] at *
  try simp only [i_le, i_lt, i_eq, Int32.reduceToInt] at *
  try simp only [Int32.reduceToInt] at *
  omega
theorem m_barrel_o9 (S : MS) (x1 : Int32) (x2 : Int32) (hI : MInv S) (ht : 0 ≤ S.1 10 0 ∧ S.1 10 0 ≤ 16) (hz1 : ¬ (m_isRow x1) = 0 → (0 ≤ x1 ∧ x1 < 8) ∧ S.1 7 (Int32.toNatClampNeg x1) ≤ 48) (hz2 : ¬ (m_isRow x2) = 0 → (0 ≤ x2 ∧ x2 < 8) ∧ S.1 7 (Int32.toNatClampNeg x2) ≤ 48) (hn : ¬ (m_areNotches S x1) = 0 → 1 ≤ S.1 7 (Int32.toNatClampNeg x1) ∧ S.1 7 (Int32.toNatClampNeg x1) ≤ 24) (c1 : ¬ (m_isRow x1) = 0) (c2 : ¬ (m_isRow x2) = 0) (c3 : ¬ (S.1 10 0) = 16) (c5 : ¬ (S.1 7 (Int32.toNatClampNeg x1)) < 0) (c7 : 0 ≤ (S.1 7 (Int32.toNatClampNeg x2))) : S.1 7 (Int32.toNatClampNeg x1) ≤ 48 := by 
  clear hI
  try simp only [m_in_eq, m_isRow_eq] at *
  try simp only [i_le, i_lt, i_eq, Int32.reduceToInt] at *
  try simp only [Int32.reduceToInt] at *
  omega
theorem m_barrel_o11 (S : MS) (x1 : Int32) (x2 : Int32) (hI : MInv S) (ht : 0 ≤ S.1 10 0 ∧ S.1 10 0 ≤ 16) (hz1 : ¬ (m_isRow x1) = 0 → (0 ≤ x1 ∧ x1 < 8) ∧ S.1 7 (Int32.toNatClampNeg x1) ≤ 48) (hz2 : ¬ (m_isRow x2) = 0 → (0 ≤ x2 ∧ x2 < 8) ∧ S.1 7 (Int32.toNatClampNeg x2) ≤ 48) (hn : ¬ (m_areNotches S x1) = 0 → 1 ≤ S.1 7 (Int32.toNatClampNeg x1) ∧ S.1 7 (Int32.toNatClampNeg x1) ≤ 24) (c1 : ¬ (m_isRow x1) = 0) (c2 : ¬ (m_isRow x2) = 0) (c3 : ¬ (S.1 10 0) = 16) (c5 : ¬ (S.1 7 (Int32.toNatClampNeg x1)) < 0) (c7 : 0 ≤ (S.1 7 (Int32.toNatClampNeg x2))) (c10 : ¬ (m_areNotches S x1) = 0) : 0 ≤ x2 ∧ x2 < 8 := by 
  clear hI
  try simp only [m_in_eq, m_isRow_eq] at *
  try simp only [i_le, i_lt, i_eq, Int32.reduceToInt] at *
  try simp only [Int32.reduceToInt] at *
  omega
theorem m_barrel_o13 (S : MS) (x1 : Int32) (x2 : Int32) (hI : MInv S) (ht : 0 ≤ S.1 10 0 ∧ S.1 10 0 ≤ 16) (hz1 : ¬ (m_isRow x1) = 0 → (0 ≤ x1 ∧ x1 < 8) ∧ S.1 7 (Int32.toNatClampNeg x1) ≤ 48) (hz2 : ¬ (m_isRow x2) = 0 → (0 ≤ x2 ∧ x2 < 8) ∧ S.1 7 (Int32.toNatClampNeg x2) ≤ 48) (hn : ¬ (m_areNotches S x1) = 0 → 1 ≤ S.1 7 (Int32.toNatClampNeg x1) ∧ S.1 7 (Int32.toNatClampNeg x1) ≤ 24) (c1 : ¬ (m_isRow x1) = 0) (c2 : ¬ (m_isRow x2) = 0) (c3 : ¬ (S.1 10 0) = 16) (c5 : ¬ (S.1 7 (Int32.toNatClampNeg x1)) < 0) (c7 : 0 ≤ (S.1 7 (Int32.toNatClampNeg x2))) (c10 : ¬ (m_areNotches S x1) = 0) (c12 : ¬ (S.1 7 (Int32.toNatClampNeg x2)) = 0) : 0 ≤ x2 ∧ x2 < 8 := by 
  clear hI
  try simp only [m_in_eq, m_isRow_eq] at *
  try simp only [i_le, i_lt, i_eq, Int32.reduceToInt] at *
  try simp only [Int32.reduceToInt] at *
  omega
theorem m_barrel_o14 (S : MS) (x1 : Int32) (x2 : Int32) (hI : MInv S) (ht : 0 ≤ S.1 10 0 ∧ S.1 10 0 ≤ 16) (hz1 : ¬ (m_isRow x1) = 0 → (0 ≤ x1 ∧ x1 < 8) ∧ S.1 7 (Int32.toNatClampNeg x1) ≤ 48) (hz2 : ¬ (m_isRow x2) = 0 → (0 ≤ x2 ∧ x2 < 8) ∧ S.1 7 (Int32.toNatClampNeg x2) ≤ 48) (hn : ¬ (m_areNotches S x1) = 0 → 1 ≤ S.1 7 (Int32.toNatClampNeg x1) ∧ S.1 7 (Int32.toNatClampNeg x1) ≤ 24) (c1 : ¬ (m_isRow x1) = 0) (c2 : ¬ (m_isRow x2) = 0) (c3 : ¬ (S.1 10 0) = 16) (c5 : ¬ (S.1 7 (Int32.toNatClampNeg x1)) < 0) (c7 : 0 ≤ (S.1 7 (Int32.toNatClampNeg x2))) (c10 : ¬ (m_areNotches S x1) = 0) (c12 : ¬ (S.1 7 (Int32.toNatClampNeg x2)) = 0) : 0 ≤ (S.1 10 0) ∧ (S.1 10 0) < 16 := by 
  clear hI
  try simp only [m_in_eq, m_isRow_eq] at *
  try simp only [i_le, i_lt, i_eq, Int32.reduceToInt] at *
  try simp only [Int32.reduceToInt] at *
  omega
theorem m_barrel_o15 (S : MS) (x1 : Int32) (x2 : Int32) (y3_92 : Int32) (S_92 : MS) (hI : MInv S) (ht : 0 ≤ S.1 10 0 ∧ S.1 10 0 ≤ 16) (hz1 : ¬ (m_isRow x1) = 0 → (0 ≤ x1 ∧ x1 < 8) ∧ S.1 7 (Int32.toNatClampNeg x1) ≤ 48) (hz2 : ¬ (m_isRow x2) = 0 → (0 ≤ x2 ∧ x2 < 8) ∧ S.1 7 (Int32.toNatClampNeg x2) ≤ 48) (hn : ¬ (m_areNotches S x1) = 0 → 1 ≤ S.1 7 (Int32.toNatClampNeg x1) ∧ S.1 7 (Int32.toNatClampNeg x1) ≤ 24) (c1 : ¬ (m_isRow x1) = 0) (c2 : ¬ (m_isRow x2) = 0) (c3 : ¬ (S.1 10 0) = 16) (c5 : ¬ (S.1 7 (Int32.toNatClampNeg x1)) < 0) (c7 : 0 ≤ (S.1 7 (Int32.toNatClampNeg x2))) (c10 : ¬ (m_areNotches S x1) = 0) (c12 : ¬ (S.1 7 (Int32.toNatClampNeg x2)) = 0) (hi3 : 0 ≤ y3_92) (kp92_0 : S_92.1 7 (Int32.toNatClampNeg x1) = S.1 7 (Int32.toNatClampNeg x1)) (kp92_1 : S_92.1 7 (Int32.toNatClampNeg x2) = S.1 7 (Int32.toNatClampNeg x2)) (kp92_2 : S_92.1 10 0 = S.1 10 0) : 0 ≤ x2 ∧ x2 < 8 := by 
  clear hI
  try simp only [m_in_eq, m_isRow_eq] at *
  try simp only [i_le, i_lt, i_eq, Int32.reduceToInt] at *
  try simp only [Int32.reduceToInt] at *
  omega
theorem m_barrel_o17 (S : MS) (x1 : Int32) (x2 : Int32) (y3_92 : Int32) (S_92 : MS) (hI : MInv S) (ht : 0 ≤ S.1 10 0 ∧ S.1 10 0 ≤ 16) (hz1 : ¬ (m_isRow x1) = 0 → (0 ≤ x1 ∧ x1 < 8) ∧ S.1 7 (Int32.toNatClampNeg x1) ≤ 48) (hz2 : ¬ (m_isRow x2) = 0 → (0 ≤ x2 ∧ x2 < 8) ∧ S.1 7 (Int32.toNatClampNeg x2) ≤ 48) (hn : ¬ (m_areNotches S x1) = 0 → 1 ≤ S.1 7 (Int32.toNatClampNeg x1) ∧ S.1 7 (Int32.toNatClampNeg x1) ≤ 24) (c1 : ¬ (m_isRow x1) = 0) (c2 : ¬ (m_isRow x2) = 0) (c3 : ¬ (S.1 10 0) = 16) (c5 : ¬ (S.1 7 (Int32.toNatClampNeg x1)) < 0) (c7 : 0 ≤ (S.1 7 (Int32.toNatClampNeg x2))) (c10 : ¬ (m_areNotches S x1) = 0) (c12 : ¬ (S.1 7 (Int32.toNatClampNeg x2)) = 0) (hi3 : 0 ≤ y3_92) (kp92_0 : S_92.1 7 (Int32.toNatClampNeg x1) = S.1 7 (Int32.toNatClampNeg x1)) (kp92_1 : S_92.1 7 (Int32.toNatClampNeg x2) = S.1 7 (Int32.toNatClampNeg x2)) (kp92_2 : S_92.1 10 0 = S.1 10 0) (c16 : ¬ (S_92.1 7 (Int32.toNatClampNeg x2)) ≤ y3_92) : 0 ≤ ((48 * x2) + y3_92) ∧ ((48 * x2) + y3_92) < 384 := by 
  clear hI
  try simp only [m_in_eq, m_isRow_eq] at *
  try simp only [i_le, i_lt, i_eq, Int32.reduceToInt] at *
  first | (have e_0 := m32 (x := 48) (y := x2) (by (try simp only [Int32.reduceToInt]); omega); (try simp only [Int32.reduceToInt] at e_0)) | skip
  first | (have e_1 := a32 (x := (48 * x2)) (y := y3_92) (by (try simp only [Int32.reduceToInt]); omega); (try simp only [Int32.reduceToInt] at e_1)) | skip
  try simp only [Int32.reduceToInt] at *
  omega
theorem m_barrel_o18 (S : MS) (x1 : Int32) (x2 : Int32) (y3_92 : Int32) (S_92 : MS) (hI : MInv S) (ht : 0 ≤ S.1 10 0 ∧ S.1 10 0 ≤ 16) (hz1 : ¬ (m_isRow x1) = 0 → (0 ≤ x1 ∧ x1 < 8) ∧ S.1 7 (Int32.toNatClampNeg x1) ≤ 48) (hz2 : ¬ (m_isRow x2) = 0 → (0 ≤ x2 ∧ x2 < 8) ∧ S.1 7 (Int32.toNatClampNeg x2) ≤ 48) (hn : ¬ (m_areNotches S x1) = 0 → 1 ≤ S.1 7 (Int32.toNatClampNeg x1) ∧ S.1 7 (Int32.toNatClampNeg x1) ≤ 24) (c1 : ¬ (m_isRow x1) = 0) (c2 : ¬ (m_isRow x2) = 0) (c3 : ¬ (S.1 10 0) = 16) (c5 : ¬ (S.1 7 (Int32.toNatClampNeg x1)) < 0) (c7 : 0 ≤ (S.1 7 (Int32.toNatClampNeg x2))) (c10 : ¬ (m_areNotches S x1) = 0) (c12 : ¬ (S.1 7 (Int32.toNatClampNeg x2)) = 0) (hi3 : 0 ≤ y3_92) (kp92_0 : S_92.1 7 (Int32.toNatClampNeg x1) = S.1 7 (Int32.toNatClampNeg x1)) (kp92_1 : S_92.1 7 (Int32.toNatClampNeg x2) = S.1 7 (Int32.toNatClampNeg x2)) (kp92_2 : S_92.1 10 0 = S.1 10 0) (c16 : ¬ (S_92.1 7 (Int32.toNatClampNeg x2)) ≤ y3_92) : 0 ≤ ((48 * (S_92.1 10 0)) + y3_92) ∧ ((48 * (S_92.1 10 0)) + y3_92) < 768 := by 
  clear hI
  try simp only [m_in_eq, m_isRow_eq] at *
  try simp only [i_le, i_lt, i_eq, Int32.reduceToInt] at *
  first | (have e_0 := m32 (x := 48) (y := (S_92.1 10 0)) (by (try simp only [Int32.reduceToInt]); omega); (try simp only [Int32.reduceToInt] at e_0)) | skip
  first | (have e_1 := a32 (x := (48 * (S_92.1 10 0))) (y := y3_92) (by (try simp only [Int32.reduceToInt]); omega); (try simp only [Int32.reduceToInt] at e_1)) | skip
  try simp only [Int32.reduceToInt] at *
  omega
def m_barrel_L92 (x2 : Int32) : Nat → Int32 → MS → Int32 × MS
  | 0, y3_92, S_92 => (y3_92, S_92)
  | f92 + 1, y3_92, S_92 => (if (S_92.1 7 (Int32.toNatClampNeg x2)) ≤ y3_92 then (y3_92, S_92) else (m_barrel_L92 x2 f92 (y3_92 + 1) (mu S_92 16 (Int32.toNatClampNeg ((48 * (S_92.1 10 0)) + y3_92)) ((S_92.1 8 (Int32.toNatClampNeg ((48 * x2) + y3_92))) &&& 255))))
theorem m_barrel_L92_s (x2 : Int32) (f92 : Nat) (y3_92 : Int32) (S_92 : MS) : m_barrel_L92 x2 (f92 + 1) y3_92 S_92 = (if (S_92.1 7 (Int32.toNatClampNeg x2)) ≤ y3_92 then (y3_92, S_92) else (m_barrel_L92 x2 f92 (y3_92 + 1) (mu S_92 16 (Int32.toNatClampNeg ((48 * (S_92.1 10 0)) + y3_92)) ((S_92.1 8 (Int32.toNatClampNeg ((48 * x2) + y3_92))) &&& 255)))) := rfl
def m_barrel_R92 (S : MS) (x2 : Int32) : Int32 × MS := m_barrel_L92 x2 ((S.1 7 (Int32.toNatClampNeg x2) - 0 : Int32).toNatClampNeg + 1) 0 (mu S 15 (Int32.toNatClampNeg (S.1 10 0)) (S.1 7 (Int32.toNatClampNeg x2)))
theorem m_barrel_o19 (S : MS) (x1 : Int32) (x2 : Int32) (hI : MInv S) (ht : 0 ≤ S.1 10 0 ∧ S.1 10 0 ≤ 16) (hz1 : ¬ (m_isRow x1) = 0 → (0 ≤ x1 ∧ x1 < 8) ∧ S.1 7 (Int32.toNatClampNeg x1) ≤ 48) (hz2 : ¬ (m_isRow x2) = 0 → (0 ≤ x2 ∧ x2 < 8) ∧ S.1 7 (Int32.toNatClampNeg x2) ≤ 48) (hn : ¬ (m_areNotches S x1) = 0 → 1 ≤ S.1 7 (Int32.toNatClampNeg x1) ∧ S.1 7 (Int32.toNatClampNeg x1) ≤ 24) (c1 : ¬ (m_isRow x1) = 0) (c2 : ¬ (m_isRow x2) = 0) (c3 : ¬ (S.1 10 0) = 16) (c5 : ¬ (S.1 7 (Int32.toNatClampNeg x1)) < 0) (c7 : 0 ≤ (S.1 7 (Int32.toNatClampNeg x2))) (c10 : ¬ (m_areNotches S x1) = 0) (c12 : ¬ (S.1 7 (Int32.toNatClampNeg x2)) = 0) (kp92_0 : (m_barrel_R92 S x2).2.1 7 (Int32.toNatClampNeg x1) = S.1 7 (Int32.toNatClampNeg x1)) (kp92_1 : (m_barrel_R92 S x2).2.1 7 (Int32.toNatClampNeg x2) = S.1 7 (Int32.toNatClampNeg x2)) (kp92_2 : (m_barrel_R92 S x2).2.1 10 0 = S.1 10 0) : 0 ≤ ((m_barrel_R92 S x2).2).1 10 0 ∧ ((m_barrel_R92 S x2).2).1 10 0 < 16 := by 
  clear hI
  try simp only [m_in_eq, m_isRow_eq] at *
  try simp only [i_le, i_lt, i_eq, Int32.reduceToInt] at *
  try simp only [Int32.reduceToInt] at *
  omega
theorem m_barrel_o20 (S : MS) (x1 : Int32) (x2 : Int32) (hI : MInv S) (ht : 0 ≤ S.1 10 0 ∧ S.1 10 0 ≤ 16) (hz1 : ¬ (m_isRow x1) = 0 → (0 ≤ x1 ∧ x1 < 8) ∧ S.1 7 (Int32.toNatClampNeg x1) ≤ 48) (hz2 : ¬ (m_isRow x2) = 0 → (0 ≤ x2 ∧ x2 < 8) ∧ S.1 7 (Int32.toNatClampNeg x2) ≤ 48) (hn : ¬ (m_areNotches S x1) = 0 → 1 ≤ S.1 7 (Int32.toNatClampNeg x1) ∧ S.1 7 (Int32.toNatClampNeg x1) ≤ 24) (c1 : ¬ (m_isRow x1) = 0) (c2 : ¬ (m_isRow x2) = 0) (c3 : ¬ (S.1 10 0) = 16) (c5 : ¬ (S.1 7 (Int32.toNatClampNeg x1)) < 0) (c7 : 0 ≤ (S.1 7 (Int32.toNatClampNeg x2))) (c10 : ¬ (m_areNotches S x1) = 0) (c12 : ¬ (S.1 7 (Int32.toNatClampNeg x2)) = 0) (kp92_0 : (m_barrel_R92 S x2).2.1 7 (Int32.toNatClampNeg x1) = S.1 7 (Int32.toNatClampNeg x1)) (kp92_1 : (m_barrel_R92 S x2).2.1 7 (Int32.toNatClampNeg x2) = S.1 7 (Int32.toNatClampNeg x2)) (kp92_2 : (m_barrel_R92 S x2).2.1 10 0 = S.1 10 0) : 0 ≤ x1 ∧ x1 < 8 := by 
  clear hI
  try simp only [m_in_eq, m_isRow_eq] at *
  try simp only [i_le, i_lt, i_eq, Int32.reduceToInt] at *
  try simp only [Int32.reduceToInt] at *
  omega
theorem m_barrel_o21 (S : MS) (x1 : Int32) (x2 : Int32) (hI : MInv S) (ht : 0 ≤ S.1 10 0 ∧ S.1 10 0 ≤ 16) (hz1 : ¬ (m_isRow x1) = 0 → (0 ≤ x1 ∧ x1 < 8) ∧ S.1 7 (Int32.toNatClampNeg x1) ≤ 48) (hz2 : ¬ (m_isRow x2) = 0 → (0 ≤ x2 ∧ x2 < 8) ∧ S.1 7 (Int32.toNatClampNeg x2) ≤ 48) (hn : ¬ (m_areNotches S x1) = 0 → 1 ≤ S.1 7 (Int32.toNatClampNeg x1) ∧ S.1 7 (Int32.toNatClampNeg x1) ≤ 24) (c1 : ¬ (m_isRow x1) = 0) (c2 : ¬ (m_isRow x2) = 0) (c3 : ¬ (S.1 10 0) = 16) (c5 : ¬ (S.1 7 (Int32.toNatClampNeg x1)) < 0) (c7 : 0 ≤ (S.1 7 (Int32.toNatClampNeg x2))) (c10 : ¬ (m_areNotches S x1) = 0) (c12 : ¬ (S.1 7 (Int32.toNatClampNeg x2)) = 0) (kp92_0 : (m_barrel_R92 S x2).2.1 7 (Int32.toNatClampNeg x1) = S.1 7 (Int32.toNatClampNeg x1)) (kp92_1 : (m_barrel_R92 S x2).2.1 7 (Int32.toNatClampNeg x2) = S.1 7 (Int32.toNatClampNeg x2)) (kp92_2 : (m_barrel_R92 S x2).2.1 10 0 = S.1 10 0) : ((m_barrel_R92 S x2).2).1 7 (Int32.toNatClampNeg x1) ≤ 24 := by 
  clear hI
  try simp only [m_in_eq, m_isRow_eq] at *
  try simp only [i_le, i_lt, i_eq, Int32.reduceToInt] at *
  try simp only [Int32.reduceToInt] at *
  omega
theorem m_barrel_o22 (S : MS) (x1 : Int32) (x2 : Int32) (y3_92 : Int32) (S_92 : MS) (hI : MInv S) (ht : 0 ≤ S.1 10 0 ∧ S.1 10 0 ≤ 16) (hz1 : ¬ (m_isRow x1) = 0 → (0 ≤ x1 ∧ x1 < 8) ∧ S.1 7 (Int32.toNatClampNeg x1) ≤ 48) (hz2 : ¬ (m_isRow x2) = 0 → (0 ≤ x2 ∧ x2 < 8) ∧ S.1 7 (Int32.toNatClampNeg x2) ≤ 48) (hn : ¬ (m_areNotches S x1) = 0 → 1 ≤ S.1 7 (Int32.toNatClampNeg x1) ∧ S.1 7 (Int32.toNatClampNeg x1) ≤ 24) (c1 : ¬ (m_isRow x1) = 0) (c2 : ¬ (m_isRow x2) = 0) (c3 : ¬ (S.1 10 0) = 16) (c5 : ¬ (S.1 7 (Int32.toNatClampNeg x1)) < 0) (c7 : 0 ≤ (S.1 7 (Int32.toNatClampNeg x2))) (c10 : ¬ (m_areNotches S x1) = 0) (c12 : ¬ (S.1 7 (Int32.toNatClampNeg x2)) = 0) (hi3 : 0 ≤ y3_92) (kp92_0 : S_92.1 7 (Int32.toNatClampNeg x1) = S.1 7 (Int32.toNatClampNeg x1)) (kp92_1 : S_92.1 7 (Int32.toNatClampNeg x2) = S.1 7 (Int32.toNatClampNeg x2)) (kp92_2 : S_92.1 10 0 = S.1 10 0) (c16 : ¬ (S_92.1 7 (Int32.toNatClampNeg x2)) ≤ y3_92) : 0 ≤ (y3_92 + 1) := by 
  clear hI
  try simp only [m_in_eq, m_isRow_eq] at *
  try simp only [i_le, i_lt, i_eq, Int32.reduceToInt] at *
  first | (have e_0 := a32 (x := y3_92) (y := 1) (by (try simp only [Int32.reduceToInt]); omega); (try simp only [Int32.reduceToInt] at e_0)) | skip
  try simp only [Int32.reduceToInt] at *
  omega
theorem m_barrel_o23 (S : MS) (x1 : Int32) (x2 : Int32) (y3_92 : Int32) (S_92 : MS) (hI : MInv S) (ht : 0 ≤ S.1 10 0 ∧ S.1 10 0 ≤ 16) (hz1 : ¬ (m_isRow x1) = 0 → (0 ≤ x1 ∧ x1 < 8) ∧ S.1 7 (Int32.toNatClampNeg x1) ≤ 48) (hz2 : ¬ (m_isRow x2) = 0 → (0 ≤ x2 ∧ x2 < 8) ∧ S.1 7 (Int32.toNatClampNeg x2) ≤ 48) (hn : ¬ (m_areNotches S x1) = 0 → 1 ≤ S.1 7 (Int32.toNatClampNeg x1) ∧ S.1 7 (Int32.toNatClampNeg x1) ≤ 24) (c1 : ¬ (m_isRow x1) = 0) (c2 : ¬ (m_isRow x2) = 0) (c3 : ¬ (S.1 10 0) = 16) (c5 : ¬ (S.1 7 (Int32.toNatClampNeg x1)) < 0) (c7 : 0 ≤ (S.1 7 (Int32.toNatClampNeg x2))) (c10 : ¬ (m_areNotches S x1) = 0) (c12 : ¬ (S.1 7 (Int32.toNatClampNeg x2)) = 0) (hi3 : 0 ≤ y3_92) (kp92_0 : S_92.1 7 (Int32.toNatClampNeg x1) = S.1 7 (Int32.toNatClampNeg x1)) (kp92_1 : S_92.1 7 (Int32.toNatClampNeg x2) = S.1 7 (Int32.toNatClampNeg x2)) (kp92_2 : S_92.1 10 0 = S.1 10 0) (c16 : ¬ (S_92.1 7 (Int32.toNatClampNeg x2)) ≤ y3_92) : y3_92 < S.1 7 (Int32.toNatClampNeg x2) := by 
  clear hI
  try simp only [m_in_eq, m_isRow_eq] at *
  try simp only [i_le, i_lt, i_eq, Int32.reduceToInt] at *
  try simp only [Int32.reduceToInt] at *
  omega
def m_barrel (S : MS) (x1 : Int32) (x2 : Int32) : Int32 × MS := (if (m_isRow x1) = 0 then ((-1), S) else (if (m_isRow x2) = 0 then ((-1), S) else (if (S.1 10 0) = 16 then ((-2), S) else (if (S.1 7 (Int32.toNatClampNeg x1)) < 0 then ((m_meets S 1).1, (m_meets S 1).2) else (if 0 ≤ (S.1 7 (Int32.toNatClampNeg x2)) then (if (m_areNotches S x1) = 0 then ((m_meets S 5).1, (m_meets S 5).2) else (if (S.1 7 (Int32.toNatClampNeg x2)) = 0 then ((m_meets S 5).1, (m_meets S 5).2) else ((m_cutOf (m_barrel_R92 S x2).2 x1 3).1, (m_cutOf (m_barrel_R92 S x2).2 x1 3).2))) else ((m_meets S 1).1, (m_meets S 1).2))))))
set_option maxHeartbeats 4000000 in
theorem mt_barrel (l : Launch) (D : va_G) (d : Nat → ClassId) (A : Nat → Prop) (a : Nat → Nat) (S : MS) (x1 : Int32) (x2 : Int32) (hI : MInv S) : MI l yX1_barrel cX1_barrel 4 .int (rm_ 2) D d A a S [.int x1, .int x2] (m_barrel S x1 x2) := by
  refine m_startI rfl (Nat.le_of_ble_eq_true rfl) ?_
  intro p e s m av below meth c ls Q X hrt hlk hl hR hQ
  have hx := X.1.1
  have hb := X.1.2.1
  have hown := X.1.2.2.2.1
  have hts := X.1.2.2.2.2
  have hS : va_S A s.heap s.heap [] := va_S.rf
  have hl : lv_has ls 4 [(0, .ref (a 0)), (1, .int x1), (2, .int x2)] := hl
  have ht : 0 ≤ S.1 10 0 ∧ S.1 10 0 ≤ 16 := mi_tr hI
  have hz1 : ¬ (m_isRow x1) = 0 → (0 ≤ x1 ∧ x1 < 8) ∧ S.1 7 (Int32.toNatClampNeg x1) ≤ 48 := fun h => ⟨isRow_ok h, mi_sz hI (isRow_ok h)⟩
  have hz2 : ¬ (m_isRow x2) = 0 → (0 ≤ x2 ∧ x2 < 8) ∧ S.1 7 (Int32.toNatClampNeg x2) ≤ 48 := fun h => ⟨isRow_ok h, mi_sz hI (isRow_ok h)⟩
  have hn : ¬ (m_areNotches S x1) = 0 → 1 ≤ S.1 7 (Int32.toNatClampNeg x1) ∧ S.1 7 (Int32.toNatClampNeg x1) ≤ 24 := m_areNotches_le S x1
  refine lv_iload_n hx hb dX1_barrel_0 rfl (lv_at hl 1 rfl) ?_
  refine s_ci X.1 (st_m_isRow l x1) 1 (lw_S q1311 q1312 q59 q1313) ⟨rfl, rfl⟩ (by decide +kernel) ⟨by decide, by decide⟩ ⟨by decide, by decide⟩ rfl hl.1 rfl (Nat.le_of_ble_eq_true rfl) dX1_barrel_1 ?_
  refine lv_if_eq (tgt := 14) hx hb dX1_barrel_4 (by decide) (fun c1 => ?_) (fun c1 => ?_)
  · refine lv_iconst (v := (-1)) hx hb dX1_barrel_14 (by decide) ?_
    exact m_ri hx hb hrt (rfl) hlk hR hS hQ (if_pos c1) dX1_barrel_15
  · refine lv_iload_n hx hb dX1_barrel_7 rfl (lv_at hl 2 rfl) ?_
    refine s_ci X.1 (st_m_isRow l x2) 1 (lw_S q1311 q1312 q59 q1313) ⟨rfl, rfl⟩ (by decide +kernel) ⟨by decide, by decide⟩ ⟨by decide, by decide⟩ rfl hl.1 rfl (Nat.le_of_ble_eq_true rfl) dX1_barrel_8 ?_
    refine lv_if_ne (tgt := 16) hx hb dX1_barrel_11 (by decide) (fun c2 => ?_) (fun c2 => ?_)
    · refine lv_aload_n hx hb dX1_barrel_16 rfl (lv_at hl 0 rfl) ?_
      refine mg_i X hR 10 (by decide) rfl q1147 rfl dX1_barrel_17 ?_
      refine lv_bipush (v := 16) hx hb dX1_barrel_20 (by decide) ?_
      refine lv_icmp_ne (tgt := 28) hx hb dX1_barrel_22 (by decide) (fun c3 => ?_) (fun c3 => ?_)
      · refine lv_aload_n hx hb dX1_barrel_28 rfl (lv_at hl 0 rfl) ?_
        refine mg_a X hR 7 (by decide) (by decide) q1144 dX1_barrel_29 ?_
        refine lv_iload_n hx hb dX1_barrel_32 rfl (lv_at hl 1 rfl) ?_
        refine m_ld X hR ⟨by decide, rfl, by decide⟩ (ixl 8 8 (by decide) rfl (m_barrel_o4 S x1 x2 hI ht hz1 hz2 hn c1 c2 c3)) (v := S.1 7 (Int32.toNatClampNeg x1)) rfl dX1_barrel_33 ?_
        refine lv_if_lt (tgt := 46) hx hb dX1_barrel_34 (by decide) (fun c5 => ?_) (fun c5 => ?_)
        · refine lv_aload_n hx hb dX1_barrel_46 rfl (lv_at hl 0 rfl) ?_
          refine lv_iconst (v := 1) hx hb dX1_barrel_47 (by decide) ?_
          refine m_ci X hR hS (mt_meets l D d A a S 1 (by decide)) 1 (lw_V q1317 q1319 qs22 q59 q1320) ⟨rfl, rfl⟩ (by decide +kernel) ⟨by decide, by decide⟩ ⟨by decide, by decide⟩ rfl hl.1 rfl (Nat.le_of_ble_eq_true rfl) dX1_barrel_48 (fun H locs hR hS => ?_)
          exact m_ri hx hb hrt (rfl) hlk hR hS hQ (Eq.trans (if_neg c1) (Eq.trans (if_neg c2) (Eq.trans (if_neg c3) (if_pos c5)))) dX1_barrel_51
        · refine lv_aload_n hx hb dX1_barrel_37 rfl (lv_at hl 0 rfl) ?_
          refine mg_a X hR 7 (by decide) (by decide) q1144 dX1_barrel_38 ?_
          refine lv_iload_n hx hb dX1_barrel_41 rfl (lv_at hl 2 rfl) ?_
          refine m_ld X hR ⟨by decide, rfl, by decide⟩ (ixl 8 8 (by decide) rfl (m_barrel_o6 S x1 x2 hI ht hz1 hz2 hn c1 c2 c3 c5)) (v := S.1 7 (Int32.toNatClampNeg x2)) rfl dX1_barrel_42 ?_
          refine lv_if_ge (tgt := 52) hx hb dX1_barrel_43 (by decide) (fun c7 => ?_) (fun c7 => ?_)
          · refine lv_aload_n hx hb dX1_barrel_52 rfl (lv_at hl 0 rfl) ?_
            refine lv_iload_n hx hb dX1_barrel_53 rfl (lv_at hl 1 rfl) ?_
            refine m_cr X hR hS (mt_areNotches l D d A a S x1 (m_barrel_o8 S x1 x2 hI ht hz1 hz2 hn c1 c2 c3 c5 c7) (m_barrel_o9 S x1 x2 hI ht hz1 hz2 hn c1 c2 c3 c5 c7)) 1 (lw_V q1353 q1355 qs26 q59 q1356) ⟨rfl, rfl⟩ (by decide +kernel) ⟨by decide, by decide⟩ ⟨by decide, by decide⟩ rfl hl.1 rfl (Nat.le_of_ble_eq_true rfl) dX1_barrel_54 (fun H locs hR hS => ?_)
            refine lv_if_eq (tgt := 69) hx hb dX1_barrel_57 (by decide) (fun c10 => ?_) (fun c10 => ?_)
            · refine lv_aload_n hx hb dX1_barrel_69 rfl (lv_at hl 0 rfl) ?_
              refine lv_iconst (v := 5) hx hb dX1_barrel_70 (by decide) ?_
              refine m_ci X hR hS (mt_meets l D d A a S 5 (by decide)) 1 (lw_V q1317 q1319 qs22 q59 q1320) ⟨rfl, rfl⟩ (by decide +kernel) ⟨by decide, by decide⟩ ⟨by decide, by decide⟩ rfl hl.1 rfl (Nat.le_of_ble_eq_true rfl) dX1_barrel_71 (fun H locs hR hS => ?_)
              exact m_ri hx hb hrt (rfl) hlk hR hS hQ (Eq.trans (if_neg c1) (Eq.trans (if_neg c2) (Eq.trans (if_neg c3) (Eq.trans (if_neg c5) (Eq.trans (if_pos c7) (if_pos c10)))))) dX1_barrel_74
            · refine lv_aload_n hx hb dX1_barrel_60 rfl (lv_at hl 0 rfl) ?_
              refine mg_a X hR 7 (by decide) (by decide) q1144 dX1_barrel_61 ?_
              refine lv_iload_n hx hb dX1_barrel_64 rfl (lv_at hl 2 rfl) ?_
              refine m_ld X hR ⟨by decide, rfl, by decide⟩ (ixl 8 8 (by decide) rfl (m_barrel_o11 S x1 x2 hI ht hz1 hz2 hn c1 c2 c3 c5 c7 c10)) (v := S.1 7 (Int32.toNatClampNeg x2)) rfl dX1_barrel_65 ?_
              refine lv_if_ne (tgt := 75) hx hb dX1_barrel_66 (by decide) (fun c12 => ?_) (fun c12 => ?_)
              · refine lv_aload_n hx hb dX1_barrel_75 rfl (lv_at hl 0 rfl) ?_
                refine mg_a X hR 15 (by decide) (by decide) q1152 dX1_barrel_76 ?_
                refine lv_aload_n hx hb dX1_barrel_79 rfl (lv_at hl 0 rfl) ?_
                refine mg_i X hR 10 (by decide) rfl q1147 rfl dX1_barrel_80 ?_
                refine lv_aload_n hx hb dX1_barrel_83 rfl (lv_at hl 0 rfl) ?_
                refine mg_a X hR 7 (by decide) (by decide) q1144 dX1_barrel_84 ?_
                refine lv_iload_n hx hb dX1_barrel_87 rfl (lv_at hl 2 rfl) ?_
                refine m_ld X hR ⟨by decide, rfl, by decide⟩ (ixl 8 8 (by decide) rfl (m_barrel_o13 S x1 x2 hI ht hz1 hz2 hn c1 c2 c3 c5 c7 c10 c12)) (v := S.1 7 (Int32.toNatClampNeg x2)) rfl dX1_barrel_88 ?_
                refine m_st X hR hS ⟨by decide, rfl, by decide⟩ (ixl 16 16 (by decide) rfl (m_barrel_o14 S x1 x2 hI ht hz1 hz2 hn c1 c2 c3 c5 c7 c10 c12)) dX1_barrel_89 (fun H locs hR hS => ?_)
                refine lv_iconst (v := 0) hx hb dX1_barrel_90 (by decide) ?_
                refine lv_istore_n (lv' := [(3, .int 0), (0, .ref (a 0)), (1, .int x1), (2, .int x2)]) hx hb dX1_barrel_91 rfl hl (by decide) rfl (fun ls hl => ?_)
                have K92 : ∀ (H : Heap) (locs : List Loc) (ls : Array Slot), ((m_barrel_R92 S x2).2.1 7 (Int32.toNatClampNeg x1) = S.1 7 (Int32.toNatClampNeg x1)) → ((m_barrel_R92 S x2).2.1 7 (Int32.toNatClampNeg x2) = S.1 7 (Int32.toNatClampNeg x2)) → ((m_barrel_R92 S x2).2.1 10 0 = S.1 10 0) → MR D d A a (m_barrel_R92 S x2).2 H → va_S A s.heap H locs → lv_has ls 4 [(3, .int ((m_barrel_R92 S x2).1)), (0, .ref (a 0)), (1, .int x1), (2, .int x2)] → W p l e (rm_ 2) s m av below meth c H locs 0 0 Q (F0 m 137 ls []) := by
                  intro H locs ls kp92_0 kp92_1 kp92_2 hR hS hl
                  refine lv_aload_n hx hb dX1_barrel_137 rfl (lv_at hl 1 rfl) ?_
                  refine lv_iload_n hx hb dX1_barrel_138 rfl (lv_at hl 2 rfl) ?_
                  refine lv_iconst (v := 3) hx hb dX1_barrel_139 (by decide) ?_
                  refine m_ci X hR hS (mt_cutOf l D d A a (m_barrel_R92 S x2).2 x1 3 (m_barrel_o19 S x1 x2 hI ht hz1 hz2 hn c1 c2 c3 c5 c7 c10 c12 kp92_0 kp92_1 kp92_2) (m_barrel_o20 S x1 x2 hI ht hz1 hz2 hn c1 c2 c3 c5 c7 c10 c12 kp92_0 kp92_1 kp92_2) (m_barrel_o21 S x1 x2 hI ht hz1 hz2 hn c1 c2 c3 c5 c7 c10 c12 kp92_0 kp92_1 kp92_2)) 2 (lw_V q1357 q1359 qs27 q59 q1360) ⟨rfl, rfl⟩ (by decide +kernel) ⟨by decide, by decide⟩ ⟨by decide, by decide⟩ rfl hl.1 rfl (Nat.le_of_ble_eq_true rfl) dX1_barrel_140 (fun H locs hR hS => ?_)
                  exact m_ri hx hb hrt (rfl) hlk hR hS hQ (Eq.trans (if_neg c1) (Eq.trans (if_neg c2) (Eq.trans (if_neg c3) (Eq.trans (if_neg c5) (Eq.trans (if_pos c7) (Eq.trans (if_neg c10) (if_neg c12))))))) dX1_barrel_143
                have L92 : ∀ (f92 : Nat) (y3_92 : Int32) (S_92 : MS) (H : Heap) (locs : List Loc) (ls : Array Slot), (S.1 7 (Int32.toNatClampNeg x2) - y3_92 : Int32).toNatClampNeg < f92 → 0 ≤ y3_92 → S_92.1 7 (Int32.toNatClampNeg x1) = S.1 7 (Int32.toNatClampNeg x1) → S_92.1 7 (Int32.toNatClampNeg x2) = S.1 7 (Int32.toNatClampNeg x2) → S_92.1 10 0 = S.1 10 0 → m_barrel_L92 x2 (f92) y3_92 S_92 = (m_barrel_R92 S x2) → MR D d A a S_92 H → va_S A s.heap H locs → lv_has ls 4 [(3, .int y3_92), (0, .ref (a 0)), (1, .int x1), (2, .int x2)] → W p l e (rm_ 2) s m av below meth c H locs 0 0 Q (F0 m 92 ls []) := by
                  intro f92
                  induction f92 with
                  | zero => intro y3_92 S_92 H locs ls hf; exact absurd hf (Nat.not_lt_zero _)
                  | succ f92 ih =>
                    intro y3_92 S_92 H locs ls hf hi3 kp92_0 kp92_1 kp92_2 hE hR hS hl
                    refine lv_iload_n hx hb dX1_barrel_92 rfl (lv_at hl 0 rfl) ?_
                    refine lv_aload_n hx hb dX1_barrel_93 rfl (lv_at hl 1 rfl) ?_
                    refine mg_a X hR 7 (by decide) (by decide) q1144 dX1_barrel_94 ?_
                    refine lv_iload_n hx hb dX1_barrel_97 rfl (lv_at hl 3 rfl) ?_
                    refine m_ld X hR ⟨by decide, rfl, by decide⟩ (ixl 8 8 (by decide) rfl (m_barrel_o15 S x1 x2 y3_92 S_92 hI ht hz1 hz2 hn c1 c2 c3 c5 c7 c10 c12 hi3 kp92_0 kp92_1 kp92_2)) (v := S_92.1 7 (Int32.toNatClampNeg x2)) rfl dX1_barrel_98 ?_
                    refine lv_icmp_ge (tgt := 137) hx hb dX1_barrel_99 (by decide) (fun c16 => ?_) (fun c16 => ?_)
                    · have e0 : (m_barrel_R92 S x2) = (y3_92, S_92) := Eq.trans (Eq.symm hE) (Eq.trans (m_barrel_L92_s _ _ _ _) (if_pos c16))
                      exact K92 _ _ _ (by rw [e0]; exact kp92_0) (by rw [e0]; exact kp92_1) (by rw [e0]; exact kp92_2) (by rw [e0]; exact hR) hS (by rw [e0]; exact lv_sub hl [0, 1, 2, 3] rfl)
                    · refine lv_aload_n hx hb dX1_barrel_102 rfl (lv_at hl 1 rfl) ?_
                      refine mg_a X hR 16 (by decide) (by decide) q1153 dX1_barrel_103 ?_
                      refine lv_bipush (v := 48) hx hb dX1_barrel_106 (by decide) ?_
                      refine lv_aload_n hx hb dX1_barrel_108 rfl (lv_at hl 1 rfl) ?_
                      refine mg_i X hR 10 (by decide) rfl q1147 rfl dX1_barrel_109 ?_
                      refine lv_imul hx hb dX1_barrel_112 ?_
                      refine lv_iload_n hx hb dX1_barrel_113 rfl (lv_at hl 0 rfl) ?_
                      refine lv_iadd hx hb dX1_barrel_114 ?_
                      refine lv_aload_n hx hb dX1_barrel_115 rfl (lv_at hl 1 rfl) ?_
                      refine mg_a X hR 8 (by decide) (by decide) q1145 dX1_barrel_116 ?_
                      refine lv_bipush (v := 48) hx hb dX1_barrel_119 (by decide) ?_
                      refine lv_iload_n hx hb dX1_barrel_121 rfl (lv_at hl 3 rfl) ?_
                      refine lv_imul hx hb dX1_barrel_122 ?_
                      refine lv_iload_n hx hb dX1_barrel_123 rfl (lv_at hl 0 rfl) ?_
                      refine lv_iadd hx hb dX1_barrel_124 ?_
                      refine m_ld X hR ⟨by decide, rfl, by decide⟩ (ixl 384 384 (by decide) rfl (m_barrel_o17 S x1 x2 y3_92 S_92 hI ht hz1 hz2 hn c1 c2 c3 c5 c7 c10 c12 hi3 kp92_0 kp92_1 kp92_2 c16)) (v := S_92.1 8 (Int32.toNatClampNeg ((48 * x2) + y3_92))) rfl dX1_barrel_125 ?_
                      refine lv_sipush (v := 255) hx hb dX1_barrel_126 (by decide) ?_
                      refine lv_iand hx hb dX1_barrel_129 ?_
                      refine m_st X hR hS ⟨by decide, rfl, by decide⟩ (ixl 768 768 (by decide) rfl (m_barrel_o18 S x1 x2 y3_92 S_92 hI ht hz1 hz2 hn c1 c2 c3 c5 c7 c10 c12 hi3 kp92_0 kp92_1 kp92_2 c16)) dX1_barrel_130 (fun H locs hR hS => ?_)
                      refine lv_iinc (v := (y3_92 + 1)) (lv' := [(3, .int (y3_92 + 1)), (0, .ref (a 0)), (1, .int x1), (2, .int x2)]) hx hb dX1_barrel_131 hl (k := 0) rfl rfl (by decide) rfl (fun ls hl => ?_)
                      refine lv_goto (tgt := 92) hx hb dX1_barrel_134 (by decide) ?_
                      exact ih (y3_92 + 1) (mu S_92 16 (Int32.toNatClampNeg ((48 * (S_92.1 10 0)) + y3_92)) ((S_92.1 8 (Int32.toNatClampNeg ((48 * x2) + y3_92))) &&& 255)) _ _  _ (Nat.lt_of_lt_of_le (up_ hi3 (m_barrel_o23 S x1 x2 y3_92 S_92 hI ht hz1 hz2 hn c1 c2 c3 c5 c7 c10 c12 hi3 kp92_0 kp92_1 kp92_2 c16)) (Nat.le_of_lt_succ hf)) (m_barrel_o22 S x1 x2 y3_92 S_92 hI ht hz1 hz2 hn c1 c2 c3 c5 c7 c10 c12 hi3 kp92_0 kp92_1 kp92_2 c16) (((mu_k _ (by decide) _ _ _).trans rfl).trans kp92_0) (((mu_k _ (by decide) _ _ _).trans rfl).trans kp92_1) (((mu_k _ (by decide) _ _ _).trans rfl).trans kp92_2) (Eq.trans (Eq.symm (Eq.trans (m_barrel_L92_s _ _ _ _) (if_neg c16))) hE) hR hS (lv_sub hl [0, 1, 2, 3] rfl)
                exact L92 _ 0 (mu S 15 (Int32.toNatClampNeg (S.1 10 0)) (S.1 7 (Int32.toNatClampNeg x2))) _ _  _ (Nat.lt_succ_self _) (by decide) (((mu_k _ (by decide) _ _ _).trans rfl)) (((mu_k _ (by decide) _ _ _).trans rfl)) (((mu_k _ (by decide) _ _ _).trans rfl)) rfl hR hS (lv_sub hl [0, 1, 2, 3] rfl)
              · refine lv_aload_n hx hb dX1_barrel_69 rfl (lv_at hl 0 rfl) ?_
                refine lv_iconst (v := 5) hx hb dX1_barrel_70 (by decide) ?_
                refine m_ci X hR hS (mt_meets l D d A a S 5 (by decide)) 1 (lw_V q1317 q1319 qs22 q59 q1320) ⟨rfl, rfl⟩ (by decide +kernel) ⟨by decide, by decide⟩ ⟨by decide, by decide⟩ rfl hl.1 rfl (Nat.le_of_ble_eq_true rfl) dX1_barrel_71 (fun H locs hR hS => ?_)
                exact m_ri hx hb hrt (rfl) hlk hR hS hQ (Eq.trans (if_neg c1) (Eq.trans (if_neg c2) (Eq.trans (if_neg c3) (Eq.trans (if_neg c5) (Eq.trans (if_pos c7) (Eq.trans (if_neg c10) (if_pos c12))))))) dX1_barrel_74
          · refine lv_aload_n hx hb dX1_barrel_46 rfl (lv_at hl 0 rfl) ?_
            refine lv_iconst (v := 1) hx hb dX1_barrel_47 (by decide) ?_
            refine m_ci X hR hS (mt_meets l D d A a S 1 (by decide)) 1 (lw_V q1317 q1319 qs22 q59 q1320) ⟨rfl, rfl⟩ (by decide +kernel) ⟨by decide, by decide⟩ ⟨by decide, by decide⟩ rfl hl.1 rfl (Nat.le_of_ble_eq_true rfl) dX1_barrel_48 (fun H locs hR hS => ?_)
            exact m_ri hx hb hrt (rfl) hlk hR hS hQ (Eq.trans (if_neg c1) (Eq.trans (if_neg c2) (Eq.trans (if_neg c3) (Eq.trans (if_neg c5) (if_neg c7))))) dX1_barrel_51
      · refine lv_bipush (v := (-2)) hx hb dX1_barrel_25 (by decide) ?_
        exact m_ri hx hb hrt (rfl) hlk hR hS hQ (Eq.trans (if_neg c1) (Eq.trans (if_neg c2) (if_pos c3))) dX1_barrel_27
    · refine lv_iconst (v := (-1)) hx hb dX1_barrel_14 (by decide) ?_
      exact m_ri hx hb hrt (rfl) hlk hR hS hQ (Eq.trans (if_neg c1) (if_pos c2)) dX1_barrel_15
def m_isTrain (S : MS) (x1 : Int32) : Int32 := (m_in x1 0 ((S.1 10 0) - 1))
theorem m_isTrain_b (S : MS) (x1 : Int32) : m_isTrain S x1 = 0 ∨ m_isTrain S x1 = 1 := by
  grind [m_isTrain, m_in]
set_option maxHeartbeats 4000000 in
theorem mt_isTrain (l : Launch) (D : va_G) (d : Nat → ClassId) (A : Nat → Prop) (a : Nat → Nat) (S : MS) (x1 : Int32) : MI l yX1_isTrain cX1_isTrain 2 .boolean (rm_ 1) D d A a S [.int x1] ((m_isTrain S x1), S) := by
  refine m_startI rfl (Nat.le_of_ble_eq_true rfl) ?_
  intro p e s m av below meth c ls Q X hrt hlk hl hR hQ
  have hx := X.1.1
  have hb := X.1.2.1
  have hown := X.1.2.2.2.1
  have hts := X.1.2.2.2.2
  have hS : va_S A s.heap s.heap [] := va_S.rf
  have hl : lv_has ls 2 [(0, .ref (a 0)), (1, .int x1)] := hl
  refine lv_iload_n hx hb dX1_isTrain_0 rfl (lv_at hl 1 rfl) ?_
  refine lv_iconst (v := 0) hx hb dX1_isTrain_1 (by decide) ?_
  refine lv_aload_n hx hb dX1_isTrain_2 rfl (lv_at hl 0 rfl) ?_
  refine mg_i X hR 10 (by decide) rfl q1147 rfl dX1_isTrain_3 ?_
  refine lv_iconst (v := 1) hx hb dX1_isTrain_6 (by decide) ?_
  refine lv_isub hx hb dX1_isTrain_7 ?_
  refine s_ci X.1 (st_m_in l x1 0 ((S.1 10 0) - 1)) 3 (lw_S q1314 q1315 q59 q1316) ⟨rfl, rfl⟩ (by decide +kernel) ⟨by decide, by decide⟩ ⟨by decide, by decide⟩ rfl hl.1 rfl (Nat.le_of_ble_eq_true rfl) dX1_isTrain_8 ?_
  exact m_ri hx hb hrt (nz_ (m_in_b x1 0 ((S.1 10 0) - 1))) hlk hR hS hQ (hF1 rfl) dX1_isTrain_11
def m_isPlate (S : MS) (x1 : Int32) : Int32 := (if (S.1 11 (Int32.toNatClampNeg x1)) = 1 then 1 else (if (S.1 11 (Int32.toNatClampNeg x1)) = 3 then 1 else 0))
theorem m_isPlate_b (S : MS) (x1 : Int32) : m_isPlate S x1 = 0 ∨ m_isPlate S x1 = 1 := by
  grind [m_isPlate]
set_option maxHeartbeats 4000000 in
theorem mt_isPlate (l : Launch) (D : va_G) (d : Nat → ClassId) (A : Nat → Prop) (a : Nat → Nat) (S : MS) (x1 : Int32) (hn : 0 ≤ x1 ∧ x1 < 16) : MI l yX1_isPlate cX1_isPlate 2 .boolean (rm_ 0) D d A a S [.int x1] ((m_isPlate S x1), S) := by
  refine m_startI rfl (Nat.le_of_ble_eq_true rfl) ?_
  intro p e s m av below meth c ls Q X hrt hlk hl hR hQ
  have hx := X.1.1
  have hb := X.1.2.1
  have hown := X.1.2.2.2.1
  have hts := X.1.2.2.2.2
  have hS : va_S A s.heap s.heap [] := va_S.rf
  have hl : lv_has ls 2 [(0, .ref (a 0)), (1, .int x1)] := hl
  refine lv_aload_n hx hb dX1_isPlate_0 rfl (lv_at hl 0 rfl) ?_
  refine mg_a X hR 11 (by decide) (by decide) q1148 dX1_isPlate_1 ?_
  refine lv_iload_n hx hb dX1_isPlate_4 rfl (lv_at hl 1 rfl) ?_
  refine m_ld X hR ⟨by decide, rfl, by decide⟩ (ixl 16 16 (by decide) rfl (hn)) (v := S.1 11 (Int32.toNatClampNeg x1)) rfl dX1_isPlate_5 ?_
  refine lv_iconst (v := 1) hx hb dX1_isPlate_6 (by decide) ?_
  refine lv_icmp_eq (tgt := 20) hx hb dX1_isPlate_7 (by decide) (fun c1 => ?_) (fun c1 => ?_)
  · refine lv_iconst (v := 1) hx hb dX1_isPlate_20 (by decide) ?_
    refine lv_goto (tgt := 25) hx hb dX1_isPlate_21 (by decide) ?_
    exact m_ri hx hb hrt (rfl) hlk hR hS hQ (hF1 (if_pos c1)) dX1_isPlate_25
  · refine lv_aload_n hx hb dX1_isPlate_10 rfl (lv_at hl 0 rfl) ?_
    refine mg_a X hR 11 (by decide) (by decide) q1148 dX1_isPlate_11 ?_
    refine lv_iload_n hx hb dX1_isPlate_14 rfl (lv_at hl 1 rfl) ?_
    refine m_ld X hR ⟨by decide, rfl, by decide⟩ (ixl 16 16 (by decide) rfl (hn)) (v := S.1 11 (Int32.toNatClampNeg x1)) rfl dX1_isPlate_15 ?_
    refine lv_iconst (v := 3) hx hb dX1_isPlate_16 (by decide) ?_
    refine lv_icmp_ne (tgt := 24) hx hb dX1_isPlate_17 (by decide) (fun c2 => ?_) (fun c2 => ?_)
    · refine lv_iconst (v := 0) hx hb dX1_isPlate_24 (by decide) ?_
      exact m_ri hx hb hrt (rfl) hlk hR hS hQ (hF1 (Eq.trans (if_neg c1) (if_neg c2))) dX1_isPlate_25
    · refine lv_iconst (v := 1) hx hb dX1_isPlate_20 (by decide) ?_
      refine lv_goto (tgt := 25) hx hb dX1_isPlate_21 (by decide) ?_
      exact m_ri hx hb hrt (rfl) hlk hR hS hQ (hF1 (Eq.trans (if_neg c1) (if_pos c2))) dX1_isPlate_25
