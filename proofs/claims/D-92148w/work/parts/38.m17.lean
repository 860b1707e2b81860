/-! PRINTED by gen/run_m8.py -/
set_option maxRecDepth 100000
def m_minuteOf_L36 (x1 : Int32) : Nat → MS → MS
  | 0, S_36 => S_36
  | f36 + 1, S_36 => (if (S_36.1 30 (Int32.toNatClampNeg x1)) < 86400 then S_36 else (if (S_36.1 29 (Int32.toNatClampNeg x1)) ≤ 0 then S_36 else (m_minuteOf_L36 x1 f36 (m_stepOn (mu (mu S_36 30 (Int32.toNatClampNeg x1) ((S_36.1 30 (Int32.toNatClampNeg x1)) - 86400)) 29 (Int32.toNatClampNeg x1) ((S_36.1 29 (Int32.toNatClampNeg x1)) - 1)) x1))))
theorem m_minuteOf_L36_s (x1 : Int32) (f36 : Nat) (S_36 : MS) : m_minuteOf_L36 x1 (f36 + 1) S_36 = (if (S_36.1 30 (Int32.toNatClampNeg x1)) < 86400 then S_36 else (if (S_36.1 29 (Int32.toNatClampNeg x1)) ≤ 0 then S_36 else (m_minuteOf_L36 x1 f36 (m_stepOn (mu (mu S_36 30 (Int32.toNatClampNeg x1) ((S_36.1 30 (Int32.toNatClampNeg x1)) - 86400)) 29 (Int32.toNatClampNeg x1) ((S_36.1 29 (Int32.toNatClampNeg x1)) - 1)) x1)))) := rfl
def m_minuteOf_R36 (S : MS) (x1 : Int32) : MS := m_minuteOf_L36 x1 (((mu S 30 (Int32.toNatClampNeg x1) ((S.1 30 (Int32.toNatClampNeg x1)) + (86400 + (S.1 28 (Int32.toNatClampNeg x1))))).1 29 (Int32.toNatClampNeg x1)).toNatClampNeg + 1) (mu S 30 (Int32.toNatClampNeg x1) ((S.1 30 (Int32.toNatClampNeg x1)) + (86400 + (S.1 28 (Int32.toNatClampNeg x1)))))
def m_minuteOf_j85_S (S : MS) (x1 : Int32) : MS := (if (S.1 31 (Int32.toNatClampNeg x1)) = 0 then S else (if (S.1 29 (Int32.toNatClampNeg x1)) ≤ 0 then S else (m_minuteOf_R36 S x1)))
theorem m_minuteOf_o8 (S : MS) (x1 : Int32) (y2_87 : Int32) (S_87 : MS) (ht : 0 ≤ x1 ∧ x1 < 4) (hI : MInv S) (hI85 : MInv (m_minuteOf_j85_S S x1)) (hi2 : (-1) ≤ y2_87 ∧ y2_87 ≤ 1) (hJ2 : MInv S_87) (c7 : ¬ y2_87 < 0) : y2_87 = 0 ∨ y2_87 = 1 := by 
  clear hI hI85 hJ2
  try simp only [i_le, i_lt, i_eq, Int32.reduceToInt] at *
  try simp only [Int32.reduceToInt] at *
  omega
theorem m_minuteOf_o9 (S : MS) (x1 : Int32) (y2_87 : Int32) (S_87 : MS) (ht : 0 ≤ x1 ∧ x1 < 4) (hI : MInv S) (hI85 : MInv (m_minuteOf_j85_S S x1)) (hi2 : (-1) ≤ y2_87 ∧ y2_87 ≤ 1) (hJ2 : MInv S_87) (c7 : ¬ y2_87 < 0) (hk2 : y2_87 = 0 ∨ y2_87 = 1) : 0 ≤ ((2 * x1) + y2_87) ∧ ((2 * x1) + y2_87) < 8 := by 
  clear hI hI85 hJ2
  try simp only [i_le, i_lt, i_eq, Int32.reduceToInt] at *
  first | (have e_0 := m32 (x := 2) (y := x1) (by (try simp only [Int32.reduceToInt]); omega); (try simp only [Int32.reduceToInt] at e_0)) | skip
  first | (have e_1 := a32 (x := (2 * x1)) (y := y2_87) (by (try simp only [Int32.reduceToInt]); omega); (try simp only [Int32.reduceToInt] at e_1)) | skip
  try simp only [Int32.reduceToInt] at *
  omega
def m_minuteOf_j116_s0 (y2_87 : Int32) : Int32 := (if y2_87 = 1 then 1 else 0)
theorem m_minuteOf_o14 (S : MS) (x1 : Int32) (y2_87 : Int32) (S_87 : MS) (ht : 0 ≤ x1 ∧ x1 < 4) (hI : MInv S) (hI85 : MInv (m_minuteOf_j85_S S x1)) (hi2 : (-1) ≤ y2_87 ∧ y2_87 ≤ 1) (hJ2 : MInv S_87) (c7 : ¬ y2_87 < 0) (hk2 : y2_87 = 0 ∨ y2_87 = 1) (c10 : ¬ (S_87.1 35 (Int32.toNatClampNeg ((2 * x1) + y2_87))) < 0) : 0 ≤ ((2 * x1) + y2_87) ∧ ((2 * x1) + y2_87) < 8 := by 
  clear hI hI85 hJ2
  try simp only [i_le, i_lt, i_eq, Int32.reduceToInt] at *
  first | (have e_0 := m32 (x := 2) (y := x1) (by (try simp only [Int32.reduceToInt]); omega); (try simp only [Int32.reduceToInt] at e_0)) | skip
  first | (have e_1 := a32 (x := (2 * x1)) (y := y2_87) (by (try simp only [Int32.reduceToInt]); omega); (try simp only [Int32.reduceToInt] at e_1)) | skip
  try simp only [Int32.reduceToInt] at *
  omega
theorem m_minuteOf_o15 (S : MS) (x1 : Int32) (y2_87 : Int32) (S_87 : MS) (ht : 0 ≤ x1 ∧ x1 < 4) (hI : MInv S) (hI85 : MInv (m_minuteOf_j85_S S x1)) (hi2 : (-1) ≤ y2_87 ∧ y2_87 ≤ 1) (hJ2 : MInv S_87) (c7 : ¬ y2_87 < 0) (hk2 : y2_87 = 0 ∨ y2_87 = 1) (c10 : ¬ (S_87.1 35 (Int32.toNatClampNeg ((2 * x1) + y2_87))) < 0) (hix2 : 0 ≤ ((2 * x1) + y2_87) ∧ ((2 * x1) + y2_87) < 8) (hhl2 : S_87.1 35 (Int32.toNatClampNeg ((2 * x1) + y2_87)) < 16) : 0 ≤ (S_87.1 35 (Int32.toNatClampNeg ((2 * x1) + y2_87))) ∧ (S_87.1 35 (Int32.toNatClampNeg ((2 * x1) + y2_87))) < 16 := by 
  clear hI hI85 hJ2
  try simp only [i_le, i_lt, i_eq, Int32.reduceToInt] at *
  first | (have e_0 := m32 (x := 2) (y := x1) (by (try simp only [Int32.reduceToInt]); omega); (try simp only [Int32.reduceToInt] at e_0)) | skip
  first | (have e_1 := a32 (x := (2 * x1)) (y := y2_87) (by (try simp only [Int32.reduceToInt]); omega); (try simp only [Int32.reduceToInt] at e_1)) | skip
  try simp only [Int32.reduceToInt] at *
  omega
def m_minuteOf_v134 (x1 : Int32) (y2_87 : Int32) (S_87 : MS) : Int32 := (m_runs S_87 x1 (m_minuteOf_j116_s0 y2_87) (S_87.1 18 (Int32.toNatClampNeg (S_87.1 35 (Int32.toNatClampNeg ((2 * x1) + y2_87)))))).1
def m_minuteOf_j135_S (x1 : Int32) (y2_87 : Int32) (S_87 : MS) : MS := (if (S_87.1 35 (Int32.toNatClampNeg ((2 * x1) + y2_87))) < 0 then S_87 else (m_runs S_87 x1 (m_minuteOf_j116_s0 y2_87) (S_87.1 18 (Int32.toNatClampNeg (S_87.1 35 (Int32.toNatClampNeg ((2 * x1) + y2_87)))))).2)
def m_minuteOf_L87 (x1 : Int32) : Nat → Int32 → MS → Int32 × MS
  | 0, y2_87, S_87 => (y2_87, S_87)
  | f87 + 1, y2_87, S_87 => (if y2_87 < 0 then (y2_87, S_87) else (m_minuteOf_L87 x1 f87 (y2_87 + (-1)) (m_minuteOf_j135_S x1 y2_87 S_87)))
theorem m_minuteOf_L87_s (x1 : Int32) (f87 : Nat) (y2_87 : Int32) (S_87 : MS) : m_minuteOf_L87 x1 (f87 + 1) y2_87 S_87 = (if y2_87 < 0 then (y2_87, S_87) else (m_minuteOf_L87 x1 f87 (y2_87 + (-1)) (m_minuteOf_j135_S x1 y2_87 S_87))) := rfl
def m_minuteOf_R87 (S : MS) (x1 : Int32) : Int32 × MS := m_minuteOf_L87 x1 ((1 + 1 : Int32).toNatClampNeg + 1) 1 (m_minuteOf_j85_S S x1)
theorem m_minuteOf_o18 (S : MS) (x1 : Int32) (y2_87 : Int32) (S_87 : MS) (ht : 0 ≤ x1 ∧ x1 < 4) (hI : MInv S) (hI85 : MInv (m_minuteOf_j85_S S x1)) (hi2 : (-1) ≤ y2_87 ∧ y2_87 ≤ 1) (hJ2 : MInv S_87) (c7 : ¬ y2_87 < 0) (hk2 : y2_87 = 0 ∨ y2_87 = 1) : (-1) ≤ (y2_87 + (-1)) ∧ (y2_87 + (-1)) ≤ 1 := by 
  clear hI hI85 hJ2
  try simp only [i_le, i_lt, i_eq, Int32.reduceToInt] at *
  first | (have e_0 := a32 (x := y2_87) (y := (-1)) (by (try simp only [Int32.reduceToInt]); omega); (try simp only [Int32.reduceToInt] at e_0)) | skip
  try simp only [Int32.reduceToInt] at *
  omega
theorem m_minuteOf_pl (x1 k : Int32) (h : k = 0 ∨ k = 1) : m_placeOf x1 (m_minuteOf_j116_s0 k) = 2 * x1 + k := by
  rcases h with rfl | rfl
  · rw [show m_minuteOf_j116_s0 0 = 0 from rfl, placeOf_0]; simp
  · rw [show m_minuteOf_j116_s0 1 = 1 from rfl, placeOf_1]
theorem m_minuteOf_dn (k : Int32) (h : k = 0 ∨ k = 1) : (k + (-1) + 1).toNatClampNeg < (k + 1).toNatClampNeg := by
  rcases h with rfl | rfl <;> decide
theorem m_minuteOf_L36_inv (x1 : Int32) (ht : 0 ≤ x1 ∧ x1 < 4) : ∀ (f : Nat) (S : MS), MInv S → MInv (m_minuteOf_L36 x1 f S) := by
  intro f
  induction f with
  | zero => intro S h; exact h
  | succ f ih =>
    intro S h
    rw [m_minuteOf_L36_s]
    split
    · exact h
    · split
      · exact h
      · exact ih _ (m_stepOn_inv _ x1 ht (MInv_mu (MInv_mu h _ _ _ (by decide)) _ _ _ (by decide)))
theorem m_minuteOf_85 (S : MS) (x1 : Int32) (ht : 0 ≤ x1 ∧ x1 < 4) (hI : MInv S) : MInv (m_minuteOf_j85_S S x1) := by
  unfold m_minuteOf_j85_S
  split
  · exact hI
  · split
    · exact hI
    · exact m_minuteOf_L36_inv x1 ht _ _ (MInv_mu hI _ _ _ (by decide))
theorem m_minuteOf_135 (x1 k : Int32) (S : MS) (ht : 0 ≤ x1 ∧ x1 < 4) (hk : k = 0 ∨ k = 1) (hI : MInv S) : MInv (m_minuteOf_j135_S x1 k S) := by
  unfold m_minuteOf_j135_S
  split
  · exact hI
  · rename_i h
    exact m_runs_inv S x1 _ _ ht (by rw [m_minuteOf_pl x1 k hk]; exact Int32.not_lt.mp h) hI
def m_minuteOf (S : MS) (x1 : Int32) : MS := (m_minuteOf_R87 S x1).2
set_option maxHeartbeats 4000000 in
theorem mt_minuteOf (l : Launch) (D : va_G) (d : Nat → ClassId) (A : Nat → Prop) (a : Nat → Nat) (S : MS) (x1 : Int32) (ht : 0 ≤ x1 ∧ x1 < 4) (hI : MInv S) : MV l yX1_minuteOf cX1_minuteOf 4 (rm_ 5) D d A a S [.int x1] (m_minuteOf S x1) := by
  refine m_startV rfl (Nat.le_of_ble_eq_true rfl) ?_
  intro p e s m av below meth c ls Q X hrt hlk hl hR hQ
  have hx := X.1.1
  have hb := X.1.2.1
  have hown := X.1.2.2.2.1
  have hts := X.1.2.2.2.2
  have hS : va_S A s.heap s.heap [] := va_S.rf
  have hl : lv_has ls 4 [(0, .ref (a 0)), (1, .int x1)] := hl
  refine lv_aload_n hx hb dX1_minuteOf_0 rfl (lv_at hl 0 rfl) ?_
  refine mg_a X hR 31 (by decide) (by decide) q1168 dX1_minuteOf_1 ?_
  refine lv_iload_n hx hb dX1_minuteOf_4 rfl (lv_at hl 1 rfl) ?_
  refine m_zld X hR ⟨by decide, rfl, by decide⟩ (ixl 4 4 (by decide) rfl (ht)) (v := S.1 31 (Int32.toNatClampNeg x1)) rfl dX1_minuteOf_5 ?_
  have J6 : ∀ (w5 : MS) (H : Heap) (locs : List Loc) (ls : Array Slot), w5 = (m_minuteOf_j85_S S x1) → MR D d A a w5 H → va_S A s.heap H locs → lv_has ls 4 [(0, .ref (a 0)), (1, .int x1)] → W p l e (rm_ 5) s m av below meth c H locs 0 0 Q (F0 m 85 ls []) := by
    intro w5 H locs ls ew5 hR hS hl
    subst ew5
    have hI85 : MInv (m_minuteOf_j85_S S x1) := m_minuteOf_85 S x1 ht hI
    refine lv_iconst (v := 1) hx hb dX1_minuteOf_85 (by decide) ?_
    refine lv_istore_n (lv' := [(2, .int 1), (0, .ref (a 0)), (1, .int x1)]) hx hb dX1_minuteOf_86 rfl hl (by decide) rfl (fun ls hl => ?_)
    have K87 : ∀ (H : Heap) (locs : List Loc) (ls : Array Slot), MR D d A a (m_minuteOf_R87 S x1).2 H → va_S A s.heap H locs → lv_has ls 4 [(2, .int ((m_minuteOf_R87 S x1).1)), (0, .ref (a 0)), (1, .int x1)] → W p l e (rm_ 5) s m av below meth c H locs 0 0 Q (F0 m 141 ls []) := by
      intro H locs ls hR hS hl
      exact m_rv hx hb hrt hlk hR hS hQ rfl dX1_minuteOf_141
    have L87 : ∀ (f87 : Nat) (y2_87 : Int32) (S_87 : MS) (H : Heap) (locs : List Loc) (ls : Array Slot), (y2_87 + 1 : Int32).toNatClampNeg < f87 → (-1) ≤ y2_87 ∧ y2_87 ≤ 1 → MInv S_87 → m_minuteOf_L87 x1 (f87) y2_87 S_87 = (m_minuteOf_R87 S x1) → MR D d A a S_87 H → va_S A s.heap H locs → lv_has ls 4 [(2, .int y2_87), (0, .ref (a 0)), (1, .int x1)] → W p l e (rm_ 5) s m av below meth c H locs 0 0 Q (F0 m 87 ls []) := by
      intro f87
      induction f87 with
      | zero => intro y2_87 S_87 H locs ls hf; exact absurd hf (Nat.not_lt_zero _)
      | succ f87 ih =>
        intro y2_87 S_87 H locs ls hf hi2 hJ2 hE hR hS hl
        refine lv_iload_n hx hb dX1_minuteOf_87 rfl (lv_at hl 0 rfl) ?_
        refine lv_if_lt (tgt := 141) hx hb dX1_minuteOf_88 (by decide) (fun c7 => ?_) (fun c7 => ?_)
        · have e0 : (m_minuteOf_R87 S x1) = (y2_87, S_87) := Eq.trans (Eq.symm hE) (Eq.trans (m_minuteOf_L87_s _ _ _ _) (if_pos c7))
          exact K87 _ _ _ (by rw [e0]; exact hR) hS (by rw [e0]; exact lv_sub hl [0, 1, 2] rfl)
        · have hk2 : y2_87 = 0 ∨ y2_87 = 1 := m_minuteOf_o8 S x1 y2_87 S_87 ht hI hI85 hi2 hJ2 c7
          refine lv_aload_n hx hb dX1_minuteOf_91 rfl (lv_at hl 1 rfl) ?_
          refine mg_a X hR 35 (by decide) (by decide) q1172 dX1_minuteOf_92 ?_
          refine lv_iconst (v := 2) hx hb dX1_minuteOf_95 (by decide) ?_
          refine lv_iload_n hx hb dX1_minuteOf_96 rfl (lv_at hl 2 rfl) ?_
          refine lv_imul hx hb dX1_minuteOf_97 ?_
          refine lv_iload_n hx hb dX1_minuteOf_98 rfl (lv_at hl 0 rfl) ?_
          refine lv_iadd hx hb dX1_minuteOf_99 ?_
          refine m_ld X hR ⟨by decide, rfl, by decide⟩ (ixl 8 8 (by decide) rfl (m_minuteOf_o9 S x1 y2_87 S_87 ht hI hI85 hi2 hJ2 c7 hk2)) (v := S_87.1 35 (Int32.toNatClampNeg ((2 * x1) + y2_87))) rfl dX1_minuteOf_100 ?_
          have J17 : ∀ (w16 : MS) (H : Heap) (locs : List Loc) (ls : Array Slot), w16 = (m_minuteOf_j135_S x1 y2_87 S_87) → MR D d A a w16 H → va_S A s.heap H locs → lv_has ls 4 [(2, .int y2_87), (0, .ref (a 0)), (1, .int x1)] → W p l e (rm_ 5) s m av below meth c H locs 0 0 Q (F0 m 135 ls []) := by
            intro w16 H locs ls ew16 hR hS hl
            subst ew16
            refine lv_iinc (v := (y2_87 + (-1))) (lv' := [(2, .int (y2_87 + (-1))), (0, .ref (a 0)), (1, .int x1)]) hx hb dX1_minuteOf_135 hl (k := 0) rfl rfl (by decide) rfl (fun ls hl => ?_)
            refine lv_goto (tgt := 87) hx hb dX1_minuteOf_138 (by decide) ?_
            exact ih (y2_87 + (-1)) (m_minuteOf_j135_S x1 y2_87 S_87) _ _  _ (Nat.lt_of_lt_of_le (m_minuteOf_dn _ hk2) (Nat.le_of_lt_succ hf)) (m_minuteOf_o18 S x1 y2_87 S_87 ht hI hI85 hi2 hJ2 c7 hk2) (m_minuteOf_135 x1 _ _ ht hk2 hJ2) (Eq.trans (Eq.symm (Eq.trans (m_minuteOf_L87_s _ _ _ _) (if_neg c7))) hE) hR hS (lv_sub hl [0, 1, 2] rfl)
          refine lv_if_lt (tgt := 135) hx hb dX1_minuteOf_101 (by decide) (fun c10 => ?_) (fun c10 => ?_)
          · exact J17 _ _ _  _ (Eq.symm (if_pos c10)) hR hS  (lv_sub hl [0, 1, 2] rfl)
          · refine lv_aload_n hx hb dX1_minuteOf_104 rfl (lv_at hl 1 rfl) ?_
            refine lv_iload_n hx hb dX1_minuteOf_105 rfl (lv_at hl 2 rfl) ?_
            refine lv_iload_n hx hb dX1_minuteOf_106 rfl (lv_at hl 0 rfl) ?_
            refine lv_iconst (v := 1) hx hb dX1_minuteOf_107 (by decide) ?_
            have J13 : ∀ (w12 : Int32) (H : Heap) (locs : List Loc) (ls : Array Slot), w12 = (m_minuteOf_j116_s0 y2_87) → MR D d A a S_87 H → va_S A s.heap H locs → lv_has ls 4 [(2, .int y2_87), (0, .ref (a 0)), (1, .int x1)] → W p l e (rm_ 5) s m av below meth c H locs 0 0 Q (F0 m 116 ls [.int w12, .int x1, .ref (a 0)]) := by
              intro w12 H locs ls ew12 hR hS hl
              subst ew12
              refine lv_aload_n hx hb dX1_minuteOf_116 rfl (lv_at hl 1 rfl) ?_
              refine mg_a X hR 18 (by decide) (by decide) q1155 dX1_minuteOf_117 ?_
              have hix2 : 0 ≤ ((2 * x1) + y2_87) ∧ ((2 * x1) + y2_87) < 8 := m_minuteOf_o14 S x1 y2_87 S_87 ht hI hI85 hi2 hJ2 c7 hk2 c10
              have hhl2 : S_87.1 35 (Int32.toNatClampNeg ((2 * x1) + y2_87)) < 16 := mi_hl hJ2 hix2
              refine lv_aload_n hx hb dX1_minuteOf_120 rfl (lv_at hl 1 rfl) ?_
              refine mg_a X hR 35 (by decide) (by decide) q1172 dX1_minuteOf_121 ?_
              refine lv_iconst (v := 2) hx hb dX1_minuteOf_124 (by decide) ?_
              refine lv_iload_n hx hb dX1_minuteOf_125 rfl (lv_at hl 2 rfl) ?_
              refine lv_imul hx hb dX1_minuteOf_126 ?_
              refine lv_iload_n hx hb dX1_minuteOf_127 rfl (lv_at hl 0 rfl) ?_
              refine lv_iadd hx hb dX1_minuteOf_128 ?_
              refine m_ld X hR ⟨by decide, rfl, by decide⟩ (ixl 8 8 (by decide) rfl (hix2)) (v := S_87.1 35 (Int32.toNatClampNeg ((2 * x1) + y2_87))) rfl dX1_minuteOf_129 ?_
              refine m_ld X hR ⟨by decide, rfl, by decide⟩ (ixl 16 16 (by decide) rfl (m_minuteOf_o15 S x1 y2_87 S_87 ht hI hI85 hi2 hJ2 c7 hk2 c10 hix2 hhl2)) (v := S_87.1 18 (Int32.toNatClampNeg (S_87.1 35 (Int32.toNatClampNeg ((2 * x1) + y2_87))))) rfl dX1_minuteOf_130 ?_
              refine m_ci X hR hS (mt_runs l D d A a S_87 x1 (m_minuteOf_j116_s0 y2_87) (S_87.1 18 (Int32.toNatClampNeg (S_87.1 35 (Int32.toNatClampNeg ((2 * x1) + y2_87))))) (ht) (by rw [m_minuteOf_pl x1 y2_87 hk2]; exact Int32.not_lt.mp (by assumption)) (hJ2)) 3 (lw_V q1520 q1522 qs42 q59 q1523) ⟨rfl, rfl⟩ (by decide +kernel) ⟨by decide, by decide⟩ ⟨by decide, by decide⟩ rfl hl.1 rfl (Nat.le_of_ble_eq_true rfl) dX1_minuteOf_131 (fun H locs hR hS => ?_)
              refine lv_istore_n (lv' := [(3, .int (m_minuteOf_v134 x1 y2_87 S_87)), (2, .int y2_87), (0, .ref (a 0)), (1, .int x1)]) hx hb dX1_minuteOf_134 rfl hl (by decide) rfl (fun ls hl => ?_)
              exact J17 _ _ _  _ (Eq.symm (if_neg c10)) hR hS  (lv_sub hl [1, 2, 3] rfl)
            refine lv_icmp_ne (tgt := 115) hx hb dX1_minuteOf_108 (by decide) (fun c11 => ?_) (fun c11 => ?_)
            · refine lv_iconst (v := 0) hx hb dX1_minuteOf_115 (by decide) ?_
              exact J13 _ _ _  _ (Eq.symm (if_neg c11)) hR hS  (lv_sub hl [0, 1, 2] rfl)
            · refine lv_iconst (v := 1) hx hb dX1_minuteOf_111 (by decide) ?_
              refine lv_goto (tgt := 116) hx hb dX1_minuteOf_112 (by decide) ?_
              exact J13 _ _ _  _ (Eq.symm (if_pos c11)) hR hS  (lv_sub hl [0, 1, 2] rfl)
    exact L87 _ 1 (m_minuteOf_j85_S S x1) _ _  _ (Nat.lt_succ_self _) (by decide) (hI85) rfl hR hS (lv_sub hl [0, 1, 2] rfl)
  refine lv_if_eq (tgt := 85) hx hb dX1_minuteOf_6 (by decide) (fun c1 => ?_) (fun c1 => ?_)
  · exact J6 _ _ _  _ (Eq.symm (if_pos c1)) hR hS  (lv_sub hl [0, 1] rfl)
  · refine lv_aload_n hx hb dX1_minuteOf_9 rfl (lv_at hl 0 rfl) ?_
    refine mg_a X hR 29 (by decide) (by decide) q1166 dX1_minuteOf_10 ?_
    refine lv_iload_n hx hb dX1_minuteOf_13 rfl (lv_at hl 1 rfl) ?_
    refine m_ld X hR ⟨by decide, rfl, by decide⟩ (ixl 4 4 (by decide) rfl (ht)) (v := S.1 29 (Int32.toNatClampNeg x1)) rfl dX1_minuteOf_14 ?_
    refine lv_if_le (tgt := 85) hx hb dX1_minuteOf_15 (by decide) (fun c2 => ?_) (fun c2 => ?_)
    · exact J6 _ _ _  _ (Eq.symm (Eq.trans (if_neg c1) (if_pos c2))) hR hS  (lv_sub hl [0, 1] rfl)
    · refine lv_aload_n hx hb dX1_minuteOf_18 rfl (lv_at hl 0 rfl) ?_
      refine mg_a X hR 30 (by decide) (by decide) q1167 dX1_minuteOf_19 ?_
      refine lv_iload_n hx hb dX1_minuteOf_22 rfl (lv_at hl 1 rfl) ?_
      refine lv_dup2_11 hx hb dX1_minuteOf_23 rfl rfl ?_
      refine m_ld X hR ⟨by decide, rfl, by decide⟩ (ixl 4 4 (by decide) rfl (ht)) (v := S.1 30 (Int32.toNatClampNeg x1)) rfl dX1_minuteOf_24 ?_
      refine lv_ldc hx hb hown (hts _ q1537) dX1_minuteOf_25 ?_
      refine lv_aload_n hx hb dX1_minuteOf_27 rfl (lv_at hl 0 rfl) ?_
      refine mg_a X hR 28 (by decide) (by decide) q1165 dX1_minuteOf_28 ?_
      refine lv_iload_n hx hb dX1_minuteOf_31 rfl (lv_at hl 1 rfl) ?_
      refine m_ld X hR ⟨by decide, rfl, by decide⟩ (ixl 4 4 (by decide) rfl (ht)) (v := S.1 28 (Int32.toNatClampNeg x1)) rfl dX1_minuteOf_32 ?_
      refine lv_iadd hx hb dX1_minuteOf_33 ?_
      refine lv_iadd hx hb dX1_minuteOf_34 ?_
      refine m_st X hR hS ⟨by decide, rfl, by decide⟩ (ixl 4 4 (by decide) rfl (ht)) dX1_minuteOf_35 (fun H locs hR hS => ?_)
      have K36 : ∀ (H : Heap) (locs : List Loc) (ls : Array Slot), MR D d A a (m_minuteOf_R36 S x1) H → va_S A s.heap H locs → lv_has ls 4 [(0, .ref (a 0)), (1, .int x1)] → W p l e (rm_ 5) s m av below meth c H locs 0 0 Q (F0 m 85 ls []) := by
        intro H locs ls hR hS hl
        exact J6 _ _ _  _ (Eq.symm (Eq.trans (if_neg c1) (if_neg c2))) hR hS  (lv_sub hl [0, 1] rfl)
      have L36 : ∀ (f36 : Nat) (S_36 : MS) (H : Heap) (locs : List Loc) (ls : Array Slot), (S_36.1 29 (Int32.toNatClampNeg x1)).toNatClampNeg < f36 → MInv S_36 → m_minuteOf_L36 x1 (f36) S_36 = (m_minuteOf_R36 S x1) → MR D d A a S_36 H → va_S A s.heap H locs → lv_has ls 4 [(0, .ref (a 0)), (1, .int x1)] → W p l e (rm_ 5) s m av below meth c H locs 0 0 Q (F0 m 36 ls []) := by
        intro f36
        induction f36 with
        | zero => intro S_36 H locs ls hf; exact absurd hf (Nat.not_lt_zero _)
        | succ f36 ih =>
          intro S_36 H locs ls hf hJ hE hR hS hl
          refine lv_aload_n hx hb dX1_minuteOf_36 rfl (lv_at hl 0 rfl) ?_
          refine mg_a X hR 30 (by decide) (by decide) q1167 dX1_minuteOf_37 ?_
          refine lv_iload_n hx hb dX1_minuteOf_40 rfl (lv_at hl 1 rfl) ?_
          refine m_ld X hR ⟨by decide, rfl, by decide⟩ (ixl 4 4 (by decide) rfl (ht)) (v := S_36.1 30 (Int32.toNatClampNeg x1)) rfl dX1_minuteOf_41 ?_
          refine lv_ldc hx hb hown (hts _ q1537) dX1_minuteOf_42 ?_
          refine lv_icmp_lt (tgt := 85) hx hb dX1_minuteOf_44 (by decide) (fun c3 => ?_) (fun c3 => ?_)
          · have e0 : (m_minuteOf_R36 S x1) = S_36 := Eq.trans (Eq.symm hE) (Eq.trans (m_minuteOf_L36_s _ _ _) (if_pos c3))
            exact K36 _ _ _ (by rw [e0]; exact hR) hS (lv_sub hl [0, 1] rfl)
          · refine lv_aload_n hx hb dX1_minuteOf_47 rfl (lv_at hl 0 rfl) ?_
            refine mg_a X hR 29 (by decide) (by decide) q1166 dX1_minuteOf_48 ?_
            refine lv_iload_n hx hb dX1_minuteOf_51 rfl (lv_at hl 1 rfl) ?_
            refine m_ld X hR ⟨by decide, rfl, by decide⟩ (ixl 4 4 (by decide) rfl (ht)) (v := S_36.1 29 (Int32.toNatClampNeg x1)) rfl dX1_minuteOf_52 ?_
            refine lv_if_le (tgt := 85) hx hb dX1_minuteOf_53 (by decide) (fun c4 => ?_) (fun c4 => ?_)
            · have e0 : (m_minuteOf_R36 S x1) = S_36 := Eq.trans (Eq.symm hE) (Eq.trans (m_minuteOf_L36_s _ _ _) (Eq.trans (if_neg c3) (if_pos c4)))
              exact K36 _ _ _ (by rw [e0]; exact hR) hS (lv_sub hl [0, 1] rfl)
            · refine lv_aload_n hx hb dX1_minuteOf_56 rfl (lv_at hl 0 rfl) ?_
              refine mg_a X hR 30 (by decide) (by decide) q1167 dX1_minuteOf_57 ?_
              refine lv_iload_n hx hb dX1_minuteOf_60 rfl (lv_at hl 1 rfl) ?_
              refine lv_dup2_11 hx hb dX1_minuteOf_61 rfl rfl ?_
              refine m_ld X hR ⟨by decide, rfl, by decide⟩ (ixl 4 4 (by decide) rfl (ht)) (v := S_36.1 30 (Int32.toNatClampNeg x1)) rfl dX1_minuteOf_62 ?_
              refine lv_ldc hx hb hown (hts _ q1537) dX1_minuteOf_63 ?_
              refine lv_isub hx hb dX1_minuteOf_65 ?_
              refine m_st X hR hS ⟨by decide, rfl, by decide⟩ (ixl 4 4 (by decide) rfl (ht)) dX1_minuteOf_66 (fun H locs hR hS => ?_)
              refine lv_aload_n hx hb dX1_minuteOf_67 rfl (lv_at hl 0 rfl) ?_
              refine mg_a X hR 29 (by decide) (by decide) q1166 dX1_minuteOf_68 ?_
              refine lv_iload_n hx hb dX1_minuteOf_71 rfl (lv_at hl 1 rfl) ?_
              refine lv_dup2_11 hx hb dX1_minuteOf_72 rfl rfl ?_
              refine m_ld X hR ⟨by decide, rfl, by decide⟩ (ixl 4 4 (by decide) rfl (ht)) (v := S_36.1 29 (Int32.toNatClampNeg x1)) ((mu_k _ (by decide) _ _ _).trans rfl) dX1_minuteOf_73 ?_
              refine lv_iconst (v := 1) hx hb dX1_minuteOf_74 (by decide) ?_
              refine lv_isub hx hb dX1_minuteOf_75 ?_
              refine m_st X hR hS ⟨by decide, rfl, by decide⟩ (ixl 4 4 (by decide) rfl (ht)) dX1_minuteOf_76 (fun H locs hR hS => ?_)
              refine lv_aload_n hx hb dX1_minuteOf_77 rfl (lv_at hl 0 rfl) ?_
              refine lv_iload_n hx hb dX1_minuteOf_78 rfl (lv_at hl 1 rfl) ?_
              refine m_cv X hR hS (mt_stepOn l D d A a (mu (mu S_36 30 (Int32.toNatClampNeg x1) ((S_36.1 30 (Int32.toNatClampNeg x1)) - 86400)) 29 (Int32.toNatClampNeg x1) ((S_36.1 29 (Int32.toNatClampNeg x1)) - 1)) x1 (ht) (MInv_mu (MInv_mu hJ _ _ _ (by decide)) _ _ _ (by decide))) 1 (lw_V q1464 q1466 qs36 q59 q1467) ⟨rfl, rfl⟩ (by decide +kernel) ⟨by decide, by decide⟩ ⟨by decide, by decide⟩ rfl hl.1 rfl (Nat.le_of_ble_eq_true rfl) dX1_minuteOf_79 (fun H locs hR hS => ?_)
              refine lv_goto (tgt := 36) hx hb dX1_minuteOf_82 (by decide) ?_
              exact ih (m_stepOn (mu (mu S_36 30 (Int32.toNatClampNeg x1) ((S_36.1 30 (Int32.toNatClampNeg x1)) - 86400)) 29 (Int32.toNatClampNeg x1) ((S_36.1 29 (Int32.toNatClampNeg x1)) - 1)) x1) _ _  _ (Nat.lt_of_lt_of_le (by rw [(m_stepOn_eqx _ x1).at 29 (by decide), mu_self]; exact dn_ (by assumption)) (Nat.le_of_lt_succ hf)) (m_stepOn_inv _ x1 ht (MInv_mu (MInv_mu hJ _ _ _ (by decide)) _ _ _ (by decide))) (Eq.trans (Eq.symm (Eq.trans (m_minuteOf_L36_s _ _ _) (Eq.trans (if_neg c3) (if_neg c4)))) hE) hR hS (lv_sub hl [0, 1] rfl)
      exact L36 _ (mu S 30 (Int32.toNatClampNeg x1) ((S.1 30 (Int32.toNatClampNeg x1)) + (86400 + (S.1 28 (Int32.toNatClampNeg x1))))) _ _  _ (Nat.lt_succ_self _) (MInv_mu hI _ _ _ (by decide)) rfl hR hS (lv_sub hl [0, 1] rfl)
theorem m_minuteOf_L87_inv (x1 : Int32) (ht : 0 ≤ x1 ∧ x1 < 4) : ∀ (f : Nat) (k : Int32) (S : MS), ((-1) ≤ k ∧ k ≤ 1) → MInv S → MInv (m_minuteOf_L87 x1 f k S).2 := by
  intro f
  induction f with
  | zero => intro k S hk h; exact h
  | succ f ih =>
    intro k S hk h
    rw [m_minuteOf_L87_s]
    split
    · exact h
    · rename_i c
      have hk2 : k = 0 ∨ k = 1 := by
        simp only [i_le, i_lt, i_eq, Int32.reduceToInt] at *
        omega
      refine ih _ _ ?_ (m_minuteOf_135 x1 k S ht hk2 h)
      rcases hk2 with rfl | rfl <;> decide
theorem m_minuteOf_inv (S : MS) (x1 : Int32) (ht : 0 ≤ x1 ∧ x1 < 4) (hI : MInv S) : MInv (m_minuteOf S x1) := m_minuteOf_L87_inv x1 ht _ _ _ (by decide) (m_minuteOf_85 S x1 ht hI)
