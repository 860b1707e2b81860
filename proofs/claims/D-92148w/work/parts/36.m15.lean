/-! PRINTED by gen/run_m7.py -/
set_option maxRecDepth 100000

theorem dn_ {x : Int32} (h : ¬ x ≤ 0) : (x - 1).toNatClampNeg < x.toNatClampNeg := by
  rw [i_le, Int32.toInt_zero] at h
  have e := s32 (x := x) (y := 1) (by have := Int32.toInt_lt x; simp only [Int32.reduceToInt]; omega)
  simp only [Int32.reduceToInt] at e
  unfold Int32.toNatClampNeg
  rw [e]
  omega
theorem m_writeLog_L14_2 (x1 : Int32) : ∀ (f : Nat) (y : Int32) (S : MS), (m_writeLog_L14 x1 f y S).2.2 = S.2 := by
  intro f
  induction f with
  | zero => intro y S; rfl
  | succ f ih =>
    intro y S
    rw [m_writeLog_L14_s]
    split
    · rfl
    · rw [ih]; rfl
theorem m_writeLog_R14_eqx (S : MS) (x1 : Int32) : eqx [38, 37] S (m_writeLog_R14 S x1).2 := ⟨fun k hk => m_writeLog_L14_fr _ _ _ _ _ (fun e => hk (by rw [e]; decide)), m_writeLog_L14_2 _ _ _ _⟩
theorem m_writeLog_eqx (S : MS) (x1 x2 x3 x4 : Int32) : eqx [38, 37] S (m_writeLog S x1 x2 x3 x4) := by
  have h1 : eqx [38, 37] S (m_writeLog_j66_S S x1) := by
    unfold m_writeLog_j66_S
    split
    · exact (m_writeLog_R14_eqx S x1).up (by decide) _ _
    · exact eqx.rf
  unfold m_writeLog
  (repeat refine eqx.up ?_ (by decide) _ _)
  exact h1
theorem m_writeLog_inv (S : MS) (x1 x2 x3 x4 : Int32) (ht : 0 ≤ x1 ∧ x1 < 4) (hI : MInv S) : MInv (m_writeLog S x1 x2 x3 x4) := by
  have he := (mi_t hI ht).2.2.2.2.2.2
  have hj := m_writeLog_hj S x1 he
  have h1 : MInv (m_writeLog_j66_S S x1) := by
    unfold m_writeLog_j66_S at hj ⊢
    split
    · rename_i h6
      rw [if_pos h6, mu_self] at hj
      refine MInv_37 ?_ _ _ ⟨hj.1, ?_⟩
      · have hr : eqx [38] S (m_writeLog_R14 S x1).2 := ⟨fun k hk => m_writeLog_L14_fr _ _ _ _ _ (fun e => hk (by rw [e]; decide)), m_writeLog_L14_2 _ _ _ _⟩
        exact MInv_fr hr (by decide) hI
      · have hj := hj.2
        simp only [i_le, i_lt, Int32.reduceToInt] at hj ⊢
        omega
    · exact hI
  unfold m_writeLog
  refine MInv_37 (MInv_mu (MInv_mu (MInv_mu (MInv_mu h1 _ _ _ (by decide)) _ _ _ (by decide)) _ _ _ (by decide)) _ _ _ (by decide)) _ _ ?_
  simp only [i_le, i_lt, Int32.reduceToInt] at hj ⊢
  have e := a32 (x := (m_writeLog_j66_S S x1).1 37 (Int32.toNatClampNeg x1)) (y := 1) (by simp only [Int32.reduceToInt]; omega)
  simp only [Int32.reduceToInt] at e
  omega
theorem m_runs_o1 (S : MS) (x1 : Int32) (x2 : Int32) (ht : 0 ≤ x1 ∧ x1 < 4) (hg : 0 ≤ S.1 35 (Int32.toNatClampNeg (m_placeOf x1 x2))) (hI : MInv S) (hpl : 0 ≤ x1 ∧ x1 < 4 → 0 ≤ (m_placeOf x1 x2) ∧ (m_placeOf x1 x2) < 8) : 0 ≤ (m_placeOf x1 x2) ∧ (m_placeOf x1 x2) < 8 := by 
  clear hI
  try simp only [i_le, i_lt, i_eq, Int32.reduceToInt] at *
  try simp only [Int32.reduceToInt] at *
  omega
def m_runs_v10 (S : MS) (x1 : Int32) (x2 : Int32) : Int32 := (S.1 35 (Int32.toNatClampNeg (m_placeOf x1 x2)))
def m_runs_j26_s0 (S : MS) (x1 : Int32) : Int32 := (if (m_silenceOf S x1) = 1 then 1 else 0)
theorem m_runs_o9 (S : MS) (x1 : Int32) (x2 : Int32) (x3 : Int32) (y6_37 : Int32) (S_37 : MS) (ht : 0 ≤ x1 ∧ x1 < 4) (hg : 0 ≤ S.1 35 (Int32.toNatClampNeg (m_placeOf x1 x2))) (hI : MInv S) (hpl : 0 ≤ x1 ∧ x1 < 4 → 0 ≤ (m_placeOf x1 x2) ∧ (m_placeOf x1 x2) < 8) (hn4 : 0 ≤ (m_runs_v10 S x1 x2) ∧ (m_runs_v10 S x1 x2) < 16) (hJ : MInv S_37) (c5 : ¬ (S_37.1 21 (Int32.toNatClampNeg (m_runs_v10 S x1 x2))) ≤ 0) (c6 : ¬ (S_37.1 20 (Int32.toNatClampNeg (m_runs_v10 S x1 x2))) ≤ 0) (c7 : ¬ x3 ≤ y6_37) (hpp : 0 ≤ S_37.1 15 (Int32.toNatClampNeg (m_runs_v10 S x1 x2)) ∧ S_37.1 15 (Int32.toNatClampNeg (m_runs_v10 S x1 x2)) ≤ 48 ∧ 0 ≤ S_37.1 17 (Int32.toNatClampNeg (m_runs_v10 S x1 x2)) ∧ (S_37.1 11 (Int32.toNatClampNeg (m_runs_v10 S x1 x2)) = 3 → S_37.1 17 (Int32.toNatClampNeg (m_runs_v10 S x1 x2)) < S_37.1 15 (Int32.toNatClampNeg (m_runs_v10 S x1 x2)))) (c8 : (S_37.1 11 (Int32.toNatClampNeg (m_runs_v10 S x1 x2))) = 3) : 0 ≤ ((48 * (m_runs_v10 S x1 x2)) + (S_37.1 17 (Int32.toNatClampNeg (m_runs_v10 S x1 x2)))) ∧ ((48 * (m_runs_v10 S x1 x2)) + (S_37.1 17 (Int32.toNatClampNeg (m_runs_v10 S x1 x2)))) < 768 := by 
  clear hI hJ
  try simp only [m_runs_v10] at *
  try simp only [i_le, i_lt, i_eq, Int32.reduceToInt] at *
  first | (have e_0 := m32 (x := 48) (y := (S.1 35 (Int32.toNatClampNeg (m_placeOf x1 x2)))) (by (try simp only [Int32.reduceToInt]); omega); (try simp only [Int32.reduceToInt] at e_0)) | skip
  first | (have e_1 := a32 (x := (48 * (S.1 35 (Int32.toNatClampNeg (m_placeOf x1 x2))))) (y := (S_37.1 17 (Int32.toNatClampNeg (S.1 35 (Int32.toNatClampNeg (m_placeOf x1 x2)))))) (by (try simp only [Int32.reduceToInt]); omega); (try simp only [Int32.reduceToInt] at e_1)) | skip
  try simp only [Int32.reduceToInt] at *
  omega
def m_runs_j96_s0 (S : MS) (x1 : Int32) (x2 : Int32) (S_37 : MS) : Int32 := (if (S_37.1 11 (Int32.toNatClampNeg (m_runs_v10 S x1 x2))) = 3 then (S_37.1 16 (Int32.toNatClampNeg ((48 * (m_runs_v10 S x1 x2)) + (S_37.1 17 (Int32.toNatClampNeg (m_runs_v10 S x1 x2)))))) else 1)
theorem m_runs_o13 (S : MS) (x1 : Int32) (x2 : Int32) (x3 : Int32) (y6_37 : Int32) (S_37 : MS) (ht : 0 ≤ x1 ∧ x1 < 4) (hg : 0 ≤ S.1 35 (Int32.toNatClampNeg (m_placeOf x1 x2))) (hI : MInv S) (hpl : 0 ≤ x1 ∧ x1 < 4 → 0 ≤ (m_placeOf x1 x2) ∧ (m_placeOf x1 x2) < 8) (hn4 : 0 ≤ (m_runs_v10 S x1 x2) ∧ (m_runs_v10 S x1 x2) < 16) (hJ : MInv S_37) (c5 : ¬ (S_37.1 21 (Int32.toNatClampNeg (m_runs_v10 S x1 x2))) ≤ 0) (c6 : ¬ (S_37.1 20 (Int32.toNatClampNeg (m_runs_v10 S x1 x2))) ≤ 0) (c7 : ¬ x3 ≤ y6_37) (hpp : 0 ≤ S_37.1 15 (Int32.toNatClampNeg (m_runs_v10 S x1 x2)) ∧ S_37.1 15 (Int32.toNatClampNeg (m_runs_v10 S x1 x2)) ≤ 48 ∧ 0 ≤ S_37.1 17 (Int32.toNatClampNeg (m_runs_v10 S x1 x2)) ∧ (S_37.1 11 (Int32.toNatClampNeg (m_runs_v10 S x1 x2)) = 3 → S_37.1 17 (Int32.toNatClampNeg (m_runs_v10 S x1 x2)) < S_37.1 15 (Int32.toNatClampNeg (m_runs_v10 S x1 x2)))) (c12 : (S_37.1 11 (Int32.toNatClampNeg (m_runs_v10 S x1 x2))) = 3) : ¬ (S_37.1 15 (Int32.toNatClampNeg (m_runs_v10 S x1 x2))) = 0 := by 
  clear hI hJ
  try simp only [m_runs_v10] at *
  try simp only [i_le, i_lt, i_eq, Int32.reduceToInt] at *
  try simp only [Int32.reduceToInt] at *
  omega
def m_runs_j136_s0 (S : MS) (x1 : Int32) (x2 : Int32) (S_37 : MS) : Int32 := (if (S_37.1 11 (Int32.toNatClampNeg (m_runs_v10 S x1 x2))) = 3 then (((S_37.1 17 (Int32.toNatClampNeg (m_runs_v10 S x1 x2))) + 1) - ((S_37.1 17 (Int32.toNatClampNeg (m_runs_v10 S x1 x2))) + 1) / (S_37.1 15 (Int32.toNatClampNeg (m_runs_v10 S x1 x2))) * (S_37.1 15 (Int32.toNatClampNeg (m_runs_v10 S x1 x2)))) else 0)
def m_runs_j158_s0 (S : MS) (x1 : Int32) (x2 : Int32) (S_37 : MS) : Int32 := (if (m_runs_j26_s0 S x1) = 0 then ((m_runs_j96_s0 S x1 x2 S_37) &&& ((S_37.1 23 (Int32.toNatClampNeg (m_runs_v10 S x1 x2))) ^^^ (-1))) else 0)
def m_runs_j172_s0 (S : MS) (x1 : Int32) (x2 : Int32) (S_37 : MS) : Int32 := (if (m_runs_j158_s0 S x1 x2 S_37) = 0 then 0 else 1)
def m_runs_v173 (S : MS) (x1 : Int32) (x2 : Int32) (y7_37 : Int32) (S_37 : MS) : Int32 := (y7_37 + (m_runs_j172_s0 S x1 x2 S_37))
def m_runs_v180 (S : MS) (x1 : Int32) (x2 : Int32) (y8_37 : Int32) (S_37 : MS) : Int32 := (y8_37 ||| (m_runs_j158_s0 S x1 x2 S_37))
def m_runs_L37 (S : MS) (x1 : Int32) (x2 : Int32) (x3 : Int32) : Nat → Int32 → Int32 → Int32 → MS → Int32 × Int32 × Int32 × MS
  | 0, y6_37, y7_37, y8_37, S_37 => (y6_37, y7_37, y8_37, S_37)
  | f37 + 1, y6_37, y7_37, y8_37, S_37 => (if (S_37.1 21 (Int32.toNatClampNeg (m_runs_v10 S x1 x2))) ≤ 0 then (y6_37, y7_37, y8_37, S_37) else (if (S_37.1 20 (Int32.toNatClampNeg (m_runs_v10 S x1 x2))) ≤ 0 then (y6_37, y7_37, y8_37, S_37) else (if x3 ≤ y6_37 then (y6_37, y7_37, y8_37, S_37) else (m_runs_L37 S x1 x2 x3 f37 (y6_37 + 1) (m_runs_v173 S x1 x2 y7_37 S_37) (m_runs_v180 S x1 x2 y8_37 S_37) (mu (mu (mu S_37 17 (Int32.toNatClampNeg (m_runs_v10 S x1 x2)) (m_runs_j136_s0 S x1 x2 S_37)) 21 (Int32.toNatClampNeg (m_runs_v10 S x1 x2)) ((S_37.1 21 (Int32.toNatClampNeg (m_runs_v10 S x1 x2))) - 1)) 20 (Int32.toNatClampNeg (m_runs_v10 S x1 x2)) ((S_37.1 20 (Int32.toNatClampNeg (m_runs_v10 S x1 x2))) - 1))))))
theorem m_runs_L37_s (S : MS) (x1 : Int32) (x2 : Int32) (x3 : Int32) (f37 : Nat) (y6_37 : Int32) (y7_37 : Int32) (y8_37 : Int32) (S_37 : MS) : m_runs_L37 S x1 x2 x3 (f37 + 1) y6_37 y7_37 y8_37 S_37 = (if (S_37.1 21 (Int32.toNatClampNeg (m_runs_v10 S x1 x2))) ≤ 0 then (y6_37, y7_37, y8_37, S_37) else (if (S_37.1 20 (Int32.toNatClampNeg (m_runs_v10 S x1 x2))) ≤ 0 then (y6_37, y7_37, y8_37, S_37) else (if x3 ≤ y6_37 then (y6_37, y7_37, y8_37, S_37) else (m_runs_L37 S x1 x2 x3 f37 (y6_37 + 1) (m_runs_v173 S x1 x2 y7_37 S_37) (m_runs_v180 S x1 x2 y8_37 S_37) (mu (mu (mu S_37 17 (Int32.toNatClampNeg (m_runs_v10 S x1 x2)) (m_runs_j136_s0 S x1 x2 S_37)) 21 (Int32.toNatClampNeg (m_runs_v10 S x1 x2)) ((S_37.1 21 (Int32.toNatClampNeg (m_runs_v10 S x1 x2))) - 1)) 20 (Int32.toNatClampNeg (m_runs_v10 S x1 x2)) ((S_37.1 20 (Int32.toNatClampNeg (m_runs_v10 S x1 x2))) - 1)))))) := rfl
def m_runs_R37 (S : MS) (x1 : Int32) (x2 : Int32) (x3 : Int32) : Int32 × Int32 × Int32 × MS := m_runs_L37 S x1 x2 x3 ((S.1 21 (Int32.toNatClampNeg (m_runs_v10 S x1 x2))).toNatClampNeg + 1) 0 0 0 S
theorem m_runs_o23 (S : MS) (x1 : Int32) (x2 : Int32) (x3 : Int32) (ht : 0 ≤ x1 ∧ x1 < 4) (hg : 0 ≤ S.1 35 (Int32.toNatClampNeg (m_placeOf x1 x2))) (hI : MInv S) (hpl : 0 ≤ x1 ∧ x1 < 4 → 0 ≤ (m_placeOf x1 x2) ∧ (m_placeOf x1 x2) < 8) (hn4 : 0 ≤ (m_runs_v10 S x1 x2) ∧ (m_runs_v10 S x1 x2) < 16) (hJ : MInv (m_runs_R37 S x1 x2 x3).2.2.2) (ht37 : 0 ≤ (m_runs_R37 S x1 x2 x3).2.2.2.1 37 (Int32.toNatClampNeg x1) ∧ (m_runs_R37 S x1 x2 x3).2.2.2.1 37 (Int32.toNatClampNeg x1) ≤ 60) (c22 : ¬ (m_runs_R37 S x1 x2 x3).2.1 ≤ 0) : 0 ≤ (mu (mu (m_runs_R37 S x1 x2 x3).2.2.2 24 (Int32.toNatClampNeg (m_runs_v10 S x1 x2)) (((m_runs_R37 S x1 x2 x3).2.2.2.1 24 (Int32.toNatClampNeg (m_runs_v10 S x1 x2))) + (m_runs_R37 S x1 x2 x3).1)) 6 0 (((m_runs_R37 S x1 x2 x3).2.2.2.1 6 0) + (m_runs_R37 S x1 x2 x3).1)).1 37 (Int32.toNatClampNeg x1) ∧ (mu (mu (m_runs_R37 S x1 x2 x3).2.2.2 24 (Int32.toNatClampNeg (m_runs_v10 S x1 x2)) (((m_runs_R37 S x1 x2 x3).2.2.2.1 24 (Int32.toNatClampNeg (m_runs_v10 S x1 x2))) + (m_runs_R37 S x1 x2 x3).1)) 6 0 (((m_runs_R37 S x1 x2 x3).2.2.2.1 6 0) + (m_runs_R37 S x1 x2 x3).1)).1 37 (Int32.toNatClampNeg x1) ≤ 60 := by 
  clear hI hJ
  try simp only [mu, Nat.reduceEqDiff, false_and, true_and, and_self, ↓reduceIte] at *
  try simp only [m_runs_v10] at *
  try simp only [i_le, i_lt, i_eq, Int32.reduceToInt] at *
  first | (have e_0 := a32 (x := ((m_runs_R37 S x1 x2 x3).2.2.2.1 24 (Int32.toNatClampNeg (S.1 35 (Int32.toNatClampNeg (m_placeOf x1 x2)))))) (y := ((m_runs_R37 S x1 x2 x3).1)) (by (try simp only [Int32.reduceToInt]); omega); (try simp only [Int32.reduceToInt] at e_0)) | skip
  first | (have e_1 := a32 (x := ((m_runs_R37 S x1 x2 x3).2.2.2.1 6 0)) (y := ((m_runs_R37 S x1 x2 x3).1)) (by (try simp only [Int32.reduceToInt]); omega); (try simp only [Int32.reduceToInt] at e_1)) | skip
  try simp only [Int32.reduceToInt] at *
  omega
def m_runs_j249_S (S : MS) (x1 : Int32) (x2 : Int32) (x3 : Int32) : MS := (if (m_runs_R37 S x1 x2 x3).2.1 ≤ 0 then (mu (mu (m_runs_R37 S x1 x2 x3).2.2.2 24 (Int32.toNatClampNeg (m_runs_v10 S x1 x2)) (((m_runs_R37 S x1 x2 x3).2.2.2.1 24 (Int32.toNatClampNeg (m_runs_v10 S x1 x2))) + (m_runs_R37 S x1 x2 x3).1)) 6 0 (((m_runs_R37 S x1 x2 x3).2.2.2.1 6 0) + (m_runs_R37 S x1 x2 x3).1)) else (m_writeLog (mu (mu (m_runs_R37 S x1 x2 x3).2.2.2 24 (Int32.toNatClampNeg (m_runs_v10 S x1 x2)) (((m_runs_R37 S x1 x2 x3).2.2.2.1 24 (Int32.toNatClampNeg (m_runs_v10 S x1 x2))) + (m_runs_R37 S x1 x2 x3).1)) 6 0 (((m_runs_R37 S x1 x2 x3).2.2.2.1 6 0) + (m_runs_R37 S x1 x2 x3).1)) x1 (m_runs_v10 S x1 x2) ((m_runs_R37 S x1 x2 x3).2.1) ((m_runs_R37 S x1 x2 x3).2.2.1)))
theorem m_runs_o30 (S : MS) (x1 : Int32) (x2 : Int32) (x3 : Int32) (ht : 0 ≤ x1 ∧ x1 < 4) (hg : 0 ≤ S.1 35 (Int32.toNatClampNeg (m_placeOf x1 x2))) (hI : MInv S) (hpl : 0 ≤ x1 ∧ x1 < 4 → 0 ≤ (m_placeOf x1 x2) ∧ (m_placeOf x1 x2) < 8) (hn4 : 0 ≤ (m_runs_v10 S x1 x2) ∧ (m_runs_v10 S x1 x2) < 16) (hJ : MInv (m_runs_R37 S x1 x2 x3).2.2.2) (ht37 : 0 ≤ (m_runs_R37 S x1 x2 x3).2.2.2.1 37 (Int32.toNatClampNeg x1) ∧ (m_runs_R37 S x1 x2 x3).2.2.2.1 37 (Int32.toNatClampNeg x1) ≤ 60) (c26 : ¬ x2 = 0) (c27 : ¬ (m_runs_R37 S x1 x2 x3).1 ≤ 0) (c28 : ((m_runs_j249_S S x1 x2 x3).1 21 (Int32.toNatClampNeg (m_runs_v10 S x1 x2))) = 0) (c29 : ¬ ((m_runs_j249_S S x1 x2 x3).1 25 (Int32.toNatClampNeg (m_runs_v10 S x1 x2))) = 0) : 0 ≤ (2 * x1) ∧ (2 * x1) < 8 := by 
  clear hI hJ
  try simp only [m_runs_v10] at *
  try simp only [i_le, i_lt, i_eq, Int32.reduceToInt] at *
  first | (have e_0 := m32 (x := 2) (y := x1) (by (try simp only [Int32.reduceToInt]); omega); (try simp only [Int32.reduceToInt] at e_0)) | skip
  try simp only [Int32.reduceToInt] at *
  omega
theorem m_runs_pin (S : MS) (x1 x2 : Int32) (S_37 : MS) (hJ : MInv S_37) (hn : 0 ≤ (m_runs_v10 S x1 x2) ∧ (m_runs_v10 S x1 x2) < 16) : 0 ≤ (m_runs_j136_s0 S x1 x2 S_37) ∧ (S_37.1 11 (Int32.toNatClampNeg (m_runs_v10 S x1 x2)) = 3 → (m_runs_j136_s0 S x1 x2 S_37) < S_37.1 15 (Int32.toNatClampNeg (m_runs_v10 S x1 x2))) := by
  have hp := mi_p hJ hn
  unfold m_runs_j136_s0
  split
  · rename_i h3
    have h4 := hp.2.2.2 h3
    have h1 : 0 ≤ S_37.1 17 (Int32.toNatClampNeg (m_runs_v10 S x1 x2)) + 1 := by
      have a := hp.1
      have b := hp.2.1
      have c := hp.2.2.1
      clear hp hJ h3 hn
      simp only [i_le, i_lt, i_eq, Int32.reduceToInt] at *
      have e := a32 (x := S_37.1 17 (Int32.toNatClampNeg (m_runs_v10 S x1 x2))) (y := 1) (by simp only [Int32.reduceToInt]; omega)
      simp only [Int32.reduceToInt] at e
      omega
    have h2 : 0 < S_37.1 15 (Int32.toNatClampNeg (m_runs_v10 S x1 x2)) := by
      have c := hp.2.2.1
      simp only [i_le, i_lt, Int32.reduceToInt] at h4 c ⊢
      omega
    have h5 := dv_ h1 h2
    exact ⟨h5.2.2.1, fun _ => h5.2.2.2⟩
  · rename_i h3
    exact ⟨by decide, fun q => absurd q h3⟩
theorem m_runs_249 (S : MS) (x1 x2 x3 : Int32) (ht : 0 ≤ x1 ∧ x1 < 4) (hJ : MInv (m_runs_R37 S x1 x2 x3).2.2.2) : MInv (m_runs_j249_S S x1 x2 x3) := by
  have h1 := MInv_mu (MInv_mu hJ 24 (Int32.toNatClampNeg (m_runs_v10 S x1 x2)) (((m_runs_R37 S x1 x2 x3).2.2.2.1 24 (Int32.toNatClampNeg (m_runs_v10 S x1 x2))) + (m_runs_R37 S x1 x2 x3).1) (by decide)) 6 0 (((m_runs_R37 S x1 x2 x3).2.2.2.1 6 0) + (m_runs_R37 S x1 x2 x3).1) (by decide)
  unfold m_runs_j249_S
  split
  · exact h1
  · exact m_writeLog_inv _ x1 _ _ _ ht h1
def m_runs (S : MS) (x1 : Int32) (x2 : Int32) (x3 : Int32) : Int32 × MS := (if x2 = 0 then ((m_runs_R37 S x1 x2 x3).1, (m_runs_j249_S S x1 x2 x3)) else (if (m_runs_R37 S x1 x2 x3).1 ≤ 0 then ((m_runs_R37 S x1 x2 x3).1, (m_runs_j249_S S x1 x2 x3)) else (if ((m_runs_j249_S S x1 x2 x3).1 21 (Int32.toNatClampNeg (m_runs_v10 S x1 x2))) = 0 then (if ((m_runs_j249_S S x1 x2 x3).1 25 (Int32.toNatClampNeg (m_runs_v10 S x1 x2))) = 0 then ((m_runs_R37 S x1 x2 x3).1, (m_runs_j249_S S x1 x2 x3)) else (if ((m_runs_j249_S S x1 x2 x3).1 35 (Int32.toNatClampNeg (2 * x1))) < 0 then ((m_runs_R37 S x1 x2 x3).1, (m_runs_j249_S S x1 x2 x3)) else (if (m_silenceOf (m_runs_j249_S S x1 x2 x3) x1) = 2 then ((m_runs_R37 S x1 x2 x3).1, (m_runs_j249_S S x1 x2 x3)) else ((m_runs_R37 S x1 x2 x3).1, (m_offGoes (m_runs_j249_S S x1 x2 x3) x1 0))))) else ((m_runs_R37 S x1 x2 x3).1, (m_runs_j249_S S x1 x2 x3)))))
set_option maxHeartbeats 4000000 in
theorem mt_runs (l : Launch) (D : va_G) (d : Nat → ClassId) (A : Nat → Prop) (a : Nat → Nat) (S : MS) (x1 : Int32) (x2 : Int32) (x3 : Int32) (ht : 0 ≤ x1 ∧ x1 < 4) (hg : 0 ≤ S.1 35 (Int32.toNatClampNeg (m_placeOf x1 x2))) (hI : MInv S) : MI l yX1_runs cX1_runs 11 .int (rm_ 3) D d A a S [.int x1, .int x2, .int x3] (m_runs S x1 x2 x3) := by
  refine m_startI rfl (Nat.le_of_ble_eq_true rfl) ?_
  intro p e s m av below meth c ls Q X hrt hlk hl hR hQ
  have hx := X.1.1
  have hb := X.1.2.1
  have hown := X.1.2.2.2.1
  have hts := X.1.2.2.2.2
  have hS : va_S A s.heap s.heap [] := va_S.rf
  have hl : lv_has ls 11 [(0, .ref (a 0)), (1, .int x1), (2, .int x2), (3, .int x3)] := hl
  have hpl : 0 ≤ x1 ∧ x1 < 4 → 0 ≤ (m_placeOf x1 x2) ∧ (m_placeOf x1 x2) < 8 := m_placeOf_ok
  refine lv_aload_n hx hb dX1_runs_0 rfl (lv_at hl 0 rfl) ?_
  refine mg_a X hR 35 (by decide) (by decide) q1172 dX1_runs_1 ?_
  refine lv_iload_n hx hb dX1_runs_4 rfl (lv_at hl 1 rfl) ?_
  refine lv_iload_n hx hb dX1_runs_5 rfl (lv_at hl 2 rfl) ?_
  refine s_ci X.1 (st_m_placeOf l x1 x2) 2 (lw_S q1441 q1442 q59 q1443) ⟨rfl, rfl⟩ (by decide +kernel) ⟨by decide, by decide⟩ ⟨by decide, by decide⟩ rfl hl.1 rfl (Nat.le_of_ble_eq_true rfl) dX1_runs_6 ?_
  refine m_ld X hR ⟨by decide, rfl, by decide⟩ (ixl 8 8 (by decide) rfl (m_runs_o1 S x1 x2 ht hg hI hpl)) (v := S.1 35 (Int32.toNatClampNeg (m_placeOf x1 x2))) rfl dX1_runs_9 ?_
  refine lv_istore (lv' := [(4, .int (m_runs_v10 S x1 x2)), (0, .ref (a 0)), (1, .int x1), (2, .int x2), (3, .int x3)]) hx hb dX1_runs_10 hl (by decide) rfl (fun ls hl => ?_)
  have hn4 : 0 ≤ (m_runs_v10 S x1 x2) ∧ (m_runs_v10 S x1 x2) < 16 := ⟨hg, mi_hl hI (m_placeOf_ok ht)⟩
  refine lv_aload_n hx hb dX1_runs_12 rfl (lv_at hl 1 rfl) ?_
  refine lv_iload_n hx hb dX1_runs_13 rfl (lv_at hl 2 rfl) ?_
  refine m_cr X hR hS (mt_silenceOf l D d A a S x1 (ht)) 1 (lw_V q1472 q1474 qs38 q59 q1475) ⟨rfl, rfl⟩ (by decide +kernel) ⟨by decide, by decide⟩ ⟨by decide, by decide⟩ rfl hl.1 rfl (Nat.le_of_ble_eq_true rfl) dX1_runs_14 (fun H locs hR hS => ?_)
  refine lv_iconst (v := 1) hx hb dX1_runs_17 (by decide) ?_
  have J4 : ∀ (w3 : Int32) (H : Heap) (locs : List Loc) (ls : Array Slot), w3 = (m_runs_j26_s0 S x1) → MR D d A a S H → va_S A s.heap H locs → lv_has ls 11 [(4, .int (m_runs_v10 S x1 x2)), (0, .ref (a 0)), (1, .int x1), (2, .int x2), (3, .int x3)] → W p l e (rm_ 3) s m av below meth c H locs 0 0 Q (F0 m 26 ls [.int w3]) := by
    intro w3 H locs ls ew3 hR hS hl
    subst ew3
    refine lv_istore (lv' := [(5, .int (m_runs_j26_s0 S x1)), (4, .int (m_runs_v10 S x1 x2)), (0, .ref (a 0)), (1, .int x1), (2, .int x2), (3, .int x3)]) hx hb dX1_runs_26 hl (by decide) rfl (fun ls hl => ?_)
    refine lv_iconst (v := 0) hx hb dX1_runs_28 (by decide) ?_
    refine lv_istore (lv' := [(6, .int 0), (5, .int (m_runs_j26_s0 S x1)), (4, .int (m_runs_v10 S x1 x2)), (0, .ref (a 0)), (1, .int x1), (2, .int x2), (3, .int x3)]) hx hb dX1_runs_29 hl (by decide) rfl (fun ls hl => ?_)
    refine lv_iconst (v := 0) hx hb dX1_runs_31 (by decide) ?_
    refine lv_istore (lv' := [(7, .int 0), (6, .int 0), (5, .int (m_runs_j26_s0 S x1)), (4, .int (m_runs_v10 S x1 x2)), (0, .ref (a 0)), (1, .int x1), (2, .int x2), (3, .int x3)]) hx hb dX1_runs_32 hl (by decide) rfl (fun ls hl => ?_)
    refine lv_iconst (v := 0) hx hb dX1_runs_34 (by decide) ?_
    refine lv_istore (lv' := [(8, .int 0), (7, .int 0), (6, .int 0), (5, .int (m_runs_j26_s0 S x1)), (4, .int (m_runs_v10 S x1 x2)), (0, .ref (a 0)), (1, .int x1), (2, .int x2), (3, .int x3)]) hx hb dX1_runs_35 hl (by decide) rfl (fun ls hl => ?_)
    have K37 : ∀ (H : Heap) (locs : List Loc) (ls : Array Slot), (MInv (m_runs_R37 S x1 x2 x3).2.2.2) → MR D d A a (m_runs_R37 S x1 x2 x3).2.2.2 H → va_S A s.heap H locs → lv_has ls 11 [(8, .int ((m_runs_R37 S x1 x2 x3).2.2.1)), (7, .int ((m_runs_R37 S x1 x2 x3).2.1)), (6, .int ((m_runs_R37 S x1 x2 x3).1)), (5, .int (m_runs_j26_s0 S x1)), (4, .int (m_runs_v10 S x1 x2)), (0, .ref (a 0)), (1, .int x1), (2, .int x2), (3, .int x3)] → W p l e (rm_ 3) s m av below meth c H locs 0 0 Q (F0 m 210 ls []) := by
      intro H locs ls hJ hR hS hl
      have ht37 : 0 ≤ (m_runs_R37 S x1 x2 x3).2.2.2.1 37 (Int32.toNatClampNeg x1) ∧ (m_runs_R37 S x1 x2 x3).2.2.2.1 37 (Int32.toNatClampNeg x1) ≤ 60 := (mi_t hJ ht).2.2.2.2.2.2
      refine lv_aload_n hx hb dX1_runs_210 rfl (lv_at hl 5 rfl) ?_
      refine mg_a X hR 24 (by decide) (by decide) q1161 dX1_runs_211 ?_
      refine lv_iload hx hb dX1_runs_214 (lv_at hl 4 rfl) ?_
      refine lv_dup2_11 hx hb dX1_runs_216 rfl rfl ?_
      refine m_ld X hR ⟨by decide, rfl, by decide⟩ (ixl 16 16 (by decide) rfl (hn4)) (v := (m_runs_R37 S x1 x2 x3).2.2.2.1 24 (Int32.toNatClampNeg (m_runs_v10 S x1 x2))) rfl dX1_runs_217 ?_
      refine lv_iload hx hb dX1_runs_218 (lv_at hl 2 rfl) ?_
      refine lv_iadd hx hb dX1_runs_220 ?_
      refine m_st X hR hS ⟨by decide, rfl, by decide⟩ (ixl 16 16 (by decide) rfl (hn4)) dX1_runs_221 (fun H locs hR hS => ?_)
      refine lv_aload_n hx hb dX1_runs_222 rfl (lv_at hl 5 rfl) ?_
      refine lv_dup hx hb dX1_runs_223 rfl ?_
      refine mg_i X hR 6 (by decide) rfl q1143 ((mu_k _ (by decide) _ _ _).trans rfl) dX1_runs_224 ?_
      refine lv_iload hx hb dX1_runs_227 (lv_at hl 2 rfl) ?_
      refine lv_iadd hx hb dX1_runs_229 ?_
      refine mp_i X hR hS 6 (by decide) rfl rfl rfl q1143 dX1_runs_230 (fun H locs hR hS => ?_)
      refine lv_iload hx hb dX1_runs_233 (lv_at hl 1 rfl) ?_
      have J25 : ∀ (w24 : MS) (H : Heap) (locs : List Loc) (ls : Array Slot), w24 = (m_runs_j249_S S x1 x2 x3) → MR D d A a w24 H → va_S A s.heap H locs → lv_has ls 11 [(8, .int ((m_runs_R37 S x1 x2 x3).2.2.1)), (7, .int ((m_runs_R37 S x1 x2 x3).2.1)), (6, .int ((m_runs_R37 S x1 x2 x3).1)), (5, .int (m_runs_j26_s0 S x1)), (4, .int (m_runs_v10 S x1 x2)), (0, .ref (a 0)), (1, .int x1), (2, .int x2), (3, .int x3)] → W p l e (rm_ 3) s m av below meth c H locs 0 0 Q (F0 m 249 ls []) := by
        intro w24 H locs ls ew24 hR hS hl
        subst ew24
        refine lv_iload_n hx hb dX1_runs_249 rfl (lv_at hl 7 rfl) ?_
        refine lv_if_eq (tgt := 304) hx hb dX1_runs_250 (by decide) (fun c26 => ?_) (fun c26 => ?_)
        · refine lv_iload hx hb dX1_runs_304 (lv_at hl 2 rfl) ?_
          exact m_ri hx hb hrt (rfl) hlk hR hS hQ (if_pos c26) dX1_runs_306
        · refine lv_iload hx hb dX1_runs_253 (lv_at hl 2 rfl) ?_
          refine lv_if_le (tgt := 304) hx hb dX1_runs_255 (by decide) (fun c27 => ?_) (fun c27 => ?_)
          · refine lv_iload hx hb dX1_runs_304 (lv_at hl 2 rfl) ?_
            exact m_ri hx hb hrt (rfl) hlk hR hS hQ (Eq.trans (if_neg c26) (if_pos c27)) dX1_runs_306
          · refine lv_aload_n hx hb dX1_runs_258 rfl (lv_at hl 5 rfl) ?_
            refine mg_a X hR 21 (by decide) (by decide) q1158 dX1_runs_259 ?_
            refine lv_iload hx hb dX1_runs_262 (lv_at hl 4 rfl) ?_
            refine m_ld X hR ⟨by decide, rfl, by decide⟩ (ixl 16 16 (by decide) rfl (hn4)) (v := (m_runs_j249_S S x1 x2 x3).1 21 (Int32.toNatClampNeg (m_runs_v10 S x1 x2))) rfl dX1_runs_264 ?_
            refine lv_if_ne (tgt := 304) hx hb dX1_runs_265 (by decide) (fun c28 => ?_) (fun c28 => ?_)
            · refine lv_iload hx hb dX1_runs_304 (lv_at hl 2 rfl) ?_
              exact m_ri hx hb hrt (rfl) hlk hR hS hQ (Eq.trans (if_neg c26) (Eq.trans (if_neg c27) (if_neg c28))) dX1_runs_306
            · refine lv_aload_n hx hb dX1_runs_268 rfl (lv_at hl 5 rfl) ?_
              refine mg_a X hR 25 (by decide) (by decide) q1162 dX1_runs_269 ?_
              refine lv_iload hx hb dX1_runs_272 (lv_at hl 4 rfl) ?_
              refine m_zld X hR ⟨by decide, rfl, by decide⟩ (ixl 16 16 (by decide) rfl (hn4)) (v := (m_runs_j249_S S x1 x2 x3).1 25 (Int32.toNatClampNeg (m_runs_v10 S x1 x2))) rfl dX1_runs_274 ?_
              refine lv_if_eq (tgt := 304) hx hb dX1_runs_275 (by decide) (fun c29 => ?_) (fun c29 => ?_)
              · refine lv_iload hx hb dX1_runs_304 (lv_at hl 2 rfl) ?_
                exact m_ri hx hb hrt (rfl) hlk hR hS hQ (Eq.trans (if_neg c26) (Eq.trans (if_neg c27) (Eq.trans (if_pos c28) (if_pos c29)))) dX1_runs_306
              · refine lv_aload_n hx hb dX1_runs_278 rfl (lv_at hl 5 rfl) ?_
                refine mg_a X hR 35 (by decide) (by decide) q1172 dX1_runs_279 ?_
                refine lv_iconst (v := 2) hx hb dX1_runs_282 (by decide) ?_
                refine lv_iload_n hx hb dX1_runs_283 rfl (lv_at hl 6 rfl) ?_
                refine lv_imul hx hb dX1_runs_284 ?_
                refine m_ld X hR ⟨by decide, rfl, by decide⟩ (ixl 8 8 (by decide) rfl (m_runs_o30 S x1 x2 x3 ht hg hI hpl hn4 hJ ht37 c26 c27 c28 c29)) (v := (m_runs_j249_S S x1 x2 x3).1 35 (Int32.toNatClampNeg (2 * x1))) rfl dX1_runs_285 ?_
                refine lv_if_lt (tgt := 304) hx hb dX1_runs_286 (by decide) (fun c31 => ?_) (fun c31 => ?_)
                · refine lv_iload hx hb dX1_runs_304 (lv_at hl 2 rfl) ?_
                  exact m_ri hx hb hrt (rfl) hlk hR hS hQ (Eq.trans (if_neg c26) (Eq.trans (if_neg c27) (Eq.trans (if_pos c28) (Eq.trans (if_neg c29) (if_pos c31))))) dX1_runs_306
                · refine lv_aload_n hx hb dX1_runs_289 rfl (lv_at hl 5 rfl) ?_
                  refine lv_iload_n hx hb dX1_runs_290 rfl (lv_at hl 6 rfl) ?_
                  refine m_cr X hR hS (mt_silenceOf l D d A a (m_runs_j249_S S x1 x2 x3) x1 (ht)) 1 (lw_V q1472 q1474 qs38 q59 q1475) ⟨rfl, rfl⟩ (by decide +kernel) ⟨by decide, by decide⟩ ⟨by decide, by decide⟩ rfl hl.1 rfl (Nat.le_of_ble_eq_true rfl) dX1_runs_291 (fun H locs hR hS => ?_)
                  refine lv_iconst (v := 2) hx hb dX1_runs_294 (by decide) ?_
                  refine lv_icmp_eq (tgt := 304) hx hb dX1_runs_295 (by decide) (fun c32 => ?_) (fun c32 => ?_)
                  · refine lv_iload hx hb dX1_runs_304 (lv_at hl 2 rfl) ?_
                    exact m_ri hx hb hrt (rfl) hlk hR hS hQ (Eq.trans (if_neg c26) (Eq.trans (if_neg c27) (Eq.trans (if_pos c28) (Eq.trans (if_neg c29) (Eq.trans (if_neg c31) (if_pos c32)))))) dX1_runs_306
                  · refine lv_aload_n hx hb dX1_runs_298 rfl (lv_at hl 5 rfl) ?_
                    refine lv_iload_n hx hb dX1_runs_299 rfl (lv_at hl 6 rfl) ?_
                    refine lv_iconst (v := 0) hx hb dX1_runs_300 (by decide) ?_
                    refine m_cv X hR hS (mt_offGoes l D d A a (m_runs_j249_S S x1 x2 x3) x1 0 (ht) (by rw [placeOf_0]; exact Int32.not_lt.mp (by assumption)) (m_runs_249 S x1 x2 x3 ht hJ)) 2 (lw_V q1476 q1478 qs39 q59 q1479) ⟨rfl, rfl⟩ (by decide +kernel) ⟨by decide, by decide⟩ ⟨by decide, by decide⟩ rfl hl.1 rfl (Nat.le_of_ble_eq_true rfl) dX1_runs_301 (fun H locs hR hS => ?_)
                    refine lv_iload hx hb dX1_runs_304 (lv_at hl 2 rfl) ?_
                    exact m_ri hx hb hrt (rfl) hlk hR hS hQ (Eq.trans (if_neg c26) (Eq.trans (if_neg c27) (Eq.trans (if_pos c28) (Eq.trans (if_neg c29) (Eq.trans (if_neg c31) (if_neg c32)))))) dX1_runs_306
      refine lv_if_le (tgt := 249) hx hb dX1_runs_235 (by decide) (fun c22 => ?_) (fun c22 => ?_)
      · exact J25 _ _ _  _ (Eq.symm (if_pos c22)) hR hS  (lv_sub hl [0, 1, 2, 3, 4, 5, 6, 7, 8] rfl)
      · refine lv_aload_n hx hb dX1_runs_238 rfl (lv_at hl 5 rfl) ?_
        refine lv_iload_n hx hb dX1_runs_239 rfl (lv_at hl 6 rfl) ?_
        refine lv_iload hx hb dX1_runs_240 (lv_at hl 4 rfl) ?_
        refine lv_iload hx hb dX1_runs_242 (lv_at hl 1 rfl) ?_
        refine lv_iload hx hb dX1_runs_244 (lv_at hl 0 rfl) ?_
        refine m_cv X hR hS (mt_writeLog l D d A a (mu (mu (m_runs_R37 S x1 x2 x3).2.2.2 24 (Int32.toNatClampNeg (m_runs_v10 S x1 x2)) (((m_runs_R37 S x1 x2 x3).2.2.2.1 24 (Int32.toNatClampNeg (m_runs_v10 S x1 x2))) + (m_runs_R37 S x1 x2 x3).1)) 6 0 (((m_runs_R37 S x1 x2 x3).2.2.2.1 6 0) + (m_runs_R37 S x1 x2 x3).1)) x1 (m_runs_v10 S x1 x2) ((m_runs_R37 S x1 x2 x3).2.1) ((m_runs_R37 S x1 x2 x3).2.2.1) (ht) (m_runs_o23 S x1 x2 x3 ht hg hI hpl hn4 hJ ht37 c22)) 4 (lw_V q1524 q1526 qs43 q59 q1527) ⟨rfl, rfl⟩ (by decide +kernel) ⟨by decide, by decide⟩ ⟨by decide, by decide⟩ rfl hl.1 rfl (Nat.le_of_ble_eq_true rfl) dX1_runs_246 (fun H locs hR hS => ?_)
        exact J25 _ _ _  _ (Eq.symm (if_neg c22)) hR hS  (lv_sub hl [0, 1, 2, 3, 4, 5, 6, 7, 8] rfl)
    have L37 : ∀ (f37 : Nat) (y6_37 : Int32) (y7_37 : Int32) (y8_37 : Int32) (S_37 : MS) (H : Heap) (locs : List Loc) (ls : Array Slot), (S_37.1 21 (Int32.toNatClampNeg (m_runs_v10 S x1 x2))).toNatClampNeg < f37 → MInv S_37 → m_runs_L37 S x1 x2 x3 (f37) y6_37 y7_37 y8_37 S_37 = (m_runs_R37 S x1 x2 x3) → MR D d A a S_37 H → va_S A s.heap H locs → lv_has ls 11 [(8, .int y8_37), (7, .int y7_37), (6, .int y6_37), (5, .int (m_runs_j26_s0 S x1)), (4, .int (m_runs_v10 S x1 x2)), (0, .ref (a 0)), (1, .int x1), (2, .int x2), (3, .int x3)] → W p l e (rm_ 3) s m av below meth c H locs 0 0 Q (F0 m 37 ls []) := by
      intro f37
      induction f37 with
      | zero => intro y6_37 y7_37 y8_37 S_37 H locs ls hf; exact absurd hf (Nat.not_lt_zero _)
      | succ f37 ih =>
        intro y6_37 y7_37 y8_37 S_37 H locs ls hf hJ hE hR hS hl
        refine lv_aload_n hx hb dX1_runs_37 rfl (lv_at hl 5 rfl) ?_
        refine mg_a X hR 21 (by decide) (by decide) q1158 dX1_runs_38 ?_
        refine lv_iload hx hb dX1_runs_41 (lv_at hl 4 rfl) ?_
        refine m_ld X hR ⟨by decide, rfl, by decide⟩ (ixl 16 16 (by decide) rfl (hn4)) (v := S_37.1 21 (Int32.toNatClampNeg (m_runs_v10 S x1 x2))) rfl dX1_runs_43 ?_
        refine lv_if_le (tgt := 210) hx hb dX1_runs_44 (by decide) (fun c5 => ?_) (fun c5 => ?_)
        · have e0 : (m_runs_R37 S x1 x2 x3) = (y6_37, y7_37, y8_37, S_37) := Eq.trans (Eq.symm hE) (Eq.trans (m_runs_L37_s _ _ _ _ _ _ _ _ _) (if_pos c5))
          exact K37 _ _ _ (by rw [e0]; exact hJ) (by rw [e0]; exact hR) hS (by rw [e0]; exact lv_sub hl [0, 1, 2, 3, 4, 5, 6, 7, 8] rfl)
        · refine lv_aload_n hx hb dX1_runs_47 rfl (lv_at hl 5 rfl) ?_
          refine mg_a X hR 20 (by decide) (by decide) q1157 dX1_runs_48 ?_
          refine lv_iload hx hb dX1_runs_51 (lv_at hl 4 rfl) ?_
          refine m_ld X hR ⟨by decide, rfl, by decide⟩ (ixl 16 16 (by decide) rfl (hn4)) (v := S_37.1 20 (Int32.toNatClampNeg (m_runs_v10 S x1 x2))) rfl dX1_runs_53 ?_
          refine lv_if_le (tgt := 210) hx hb dX1_runs_54 (by decide) (fun c6 => ?_) (fun c6 => ?_)
          · have e0 : (m_runs_R37 S x1 x2 x3) = (y6_37, y7_37, y8_37, S_37) := Eq.trans (Eq.symm hE) (Eq.trans (m_runs_L37_s _ _ _ _ _ _ _ _ _) (Eq.trans (if_neg c5) (if_pos c6)))
            exact K37 _ _ _ (by rw [e0]; exact hJ) (by rw [e0]; exact hR) hS (by rw [e0]; exact lv_sub hl [0, 1, 2, 3, 4, 5, 6, 7, 8] rfl)
          · refine lv_iload hx hb dX1_runs_57 (lv_at hl 2 rfl) ?_
            refine lv_iload_n hx hb dX1_runs_59 rfl (lv_at hl 8 rfl) ?_
            refine lv_icmp_ge (tgt := 210) hx hb dX1_runs_60 (by decide) (fun c7 => ?_) (fun c7 => ?_)
            · have e0 : (m_runs_R37 S x1 x2 x3) = (y6_37, y7_37, y8_37, S_37) := Eq.trans (Eq.symm hE) (Eq.trans (m_runs_L37_s _ _ _ _ _ _ _ _ _) (Eq.trans (if_neg c5) (Eq.trans (if_neg c6) (if_pos c7))))
              exact K37 _ _ _ (by rw [e0]; exact hJ) (by rw [e0]; exact hR) hS (by rw [e0]; exact lv_sub hl [0, 1, 2, 3, 4, 5, 6, 7, 8] rfl)
            · have hpp : 0 ≤ S_37.1 15 (Int32.toNatClampNeg (m_runs_v10 S x1 x2)) ∧ S_37.1 15 (Int32.toNatClampNeg (m_runs_v10 S x1 x2)) ≤ 48 ∧ 0 ≤ S_37.1 17 (Int32.toNatClampNeg (m_runs_v10 S x1 x2)) ∧ (S_37.1 11 (Int32.toNatClampNeg (m_runs_v10 S x1 x2)) = 3 → S_37.1 17 (Int32.toNatClampNeg (m_runs_v10 S x1 x2)) < S_37.1 15 (Int32.toNatClampNeg (m_runs_v10 S x1 x2))) := mi_p hJ hn4
              refine lv_aload_n hx hb dX1_runs_63 rfl (lv_at hl 5 rfl) ?_
              refine mg_a X hR 11 (by decide) (by decide) q1148 dX1_runs_64 ?_
              refine lv_iload hx hb dX1_runs_67 (lv_at hl 4 rfl) ?_
              refine m_ld X hR ⟨by decide, rfl, by decide⟩ (ixl 16 16 (by decide) rfl (hn4)) (v := S_37.1 11 (Int32.toNatClampNeg (m_runs_v10 S x1 x2))) rfl dX1_runs_69 ?_
              refine lv_iconst (v := 3) hx hb dX1_runs_70 (by decide) ?_
              have J11 : ∀ (w10 : Int32) (H : Heap) (locs : List Loc) (ls : Array Slot), w10 = (m_runs_j96_s0 S x1 x2 S_37) → MR D d A a S_37 H → va_S A s.heap H locs → lv_has ls 11 [(8, .int y8_37), (7, .int y7_37), (6, .int y6_37), (5, .int (m_runs_j26_s0 S x1)), (4, .int (m_runs_v10 S x1 x2)), (0, .ref (a 0)), (1, .int x1), (2, .int x2), (3, .int x3)] → W p l e (rm_ 3) s m av below meth c H locs 0 0 Q (F0 m 96 ls [.int w10]) := by
                intro w10 H locs ls ew10 hR hS hl
                subst ew10
                refine lv_istore (lv' := [(9, .int (m_runs_j96_s0 S x1 x2 S_37)), (8, .int y8_37), (7, .int y7_37), (6, .int y6_37), (5, .int (m_runs_j26_s0 S x1)), (4, .int (m_runs_v10 S x1 x2)), (0, .ref (a 0)), (1, .int x1), (2, .int x2), (3, .int x3)]) hx hb dX1_runs_96 hl (by decide) rfl (fun ls hl => ?_)
                refine lv_aload_n hx hb dX1_runs_98 rfl (lv_at hl 6 rfl) ?_
                refine mg_a X hR 17 (by decide) (by decide) q1154 dX1_runs_99 ?_
                refine lv_iload hx hb dX1_runs_102 (lv_at hl 5 rfl) ?_
                refine lv_aload_n hx hb dX1_runs_104 rfl (lv_at hl 6 rfl) ?_
                refine mg_a X hR 11 (by decide) (by decide) q1148 dX1_runs_105 ?_
                refine lv_iload hx hb dX1_runs_108 (lv_at hl 5 rfl) ?_
                refine m_ld X hR ⟨by decide, rfl, by decide⟩ (ixl 16 16 (by decide) rfl (hn4)) (v := S_37.1 11 (Int32.toNatClampNeg (m_runs_v10 S x1 x2))) rfl dX1_runs_110 ?_
                refine lv_iconst (v := 3) hx hb dX1_runs_111 (by decide) ?_
                have J15 : ∀ (w14 : Int32) (H : Heap) (locs : List Loc) (ls : Array Slot), w14 = (m_runs_j136_s0 S x1 x2 S_37) → MR D d A a S_37 H → va_S A s.heap H locs → lv_has ls 11 [(9, .int (m_runs_j96_s0 S x1 x2 S_37)), (8, .int y8_37), (7, .int y7_37), (6, .int y6_37), (5, .int (m_runs_j26_s0 S x1)), (4, .int (m_runs_v10 S x1 x2)), (0, .ref (a 0)), (1, .int x1), (2, .int x2), (3, .int x3)] → W p l e (rm_ 3) s m av below meth c H locs 0 0 Q (F0 m 136 ls [.int w14, .int (m_runs_v10 S x1 x2), .ref (a 17)]) := by
                  intro w14 H locs ls ew14 hR hS hl
                  subst ew14
                  refine m_st X hR hS ⟨by decide, rfl, by decide⟩ (ixl 16 16 (by decide) rfl (hn4)) dX1_runs_136 (fun H locs hR hS => ?_)
                  refine lv_iload hx hb dX1_runs_137 (lv_at hl 4 rfl) ?_
                  have J18 : ∀ (w17 : Int32) (H : Heap) (locs : List Loc) (ls : Array Slot), w17 = (m_runs_j158_s0 S x1 x2 S_37) → MR D d A a (mu S_37 17 (Int32.toNatClampNeg (m_runs_v10 S x1 x2)) (m_runs_j136_s0 S x1 x2 S_37)) H → va_S A s.heap H locs → lv_has ls 11 [(9, .int (m_runs_j96_s0 S x1 x2 S_37)), (8, .int y8_37), (7, .int y7_37), (6, .int y6_37), (5, .int (m_runs_j26_s0 S x1)), (4, .int (m_runs_v10 S x1 x2)), (0, .ref (a 0)), (1, .int x1), (2, .int x2), (3, .int x3)] → W p l e (rm_ 3) s m av below meth c H locs 0 0 Q (F0 m 158 ls [.int w17]) := by
                    intro w17 H locs ls ew17 hR hS hl
                    subst ew17
                    refine lv_istore (lv' := [(10, .int (m_runs_j158_s0 S x1 x2 S_37)), (9, .int (m_runs_j96_s0 S x1 x2 S_37)), (8, .int y8_37), (7, .int y7_37), (6, .int y6_37), (5, .int (m_runs_j26_s0 S x1)), (4, .int (m_runs_v10 S x1 x2)), (0, .ref (a 0)), (1, .int x1), (2, .int x2), (3, .int x3)]) hx hb dX1_runs_158 hl (by decide) rfl (fun ls hl => ?_)
                    refine lv_iload hx hb dX1_runs_160 (lv_at hl 3 rfl) ?_
                    refine lv_iload hx hb dX1_runs_162 (lv_at hl 0 rfl) ?_
                    have J21 : ∀ (w20 : Int32) (H : Heap) (locs : List Loc) (ls : Array Slot), w20 = (m_runs_j172_s0 S x1 x2 S_37) → MR D d A a (mu S_37 17 (Int32.toNatClampNeg (m_runs_v10 S x1 x2)) (m_runs_j136_s0 S x1 x2 S_37)) H → va_S A s.heap H locs → lv_has ls 11 [(10, .int (m_runs_j158_s0 S x1 x2 S_37)), (9, .int (m_runs_j96_s0 S x1 x2 S_37)), (8, .int y8_37), (7, .int y7_37), (6, .int y6_37), (5, .int (m_runs_j26_s0 S x1)), (4, .int (m_runs_v10 S x1 x2)), (0, .ref (a 0)), (1, .int x1), (2, .int x2), (3, .int x3)] → W p l e (rm_ 3) s m av below meth c H locs 0 0 Q (F0 m 172 ls [.int w20, .int y7_37]) := by
                      intro w20 H locs ls ew20 hR hS hl
                      subst ew20
                      refine lv_iadd hx hb dX1_runs_172 ?_
                      refine lv_istore (lv' := [(7, .int (m_runs_v173 S x1 x2 y7_37 S_37)), (10, .int (m_runs_j158_s0 S x1 x2 S_37)), (9, .int (m_runs_j96_s0 S x1 x2 S_37)), (8, .int y8_37), (6, .int y6_37), (5, .int (m_runs_j26_s0 S x1)), (4, .int (m_runs_v10 S x1 x2)), (0, .ref (a 0)), (1, .int x1), (2, .int x2), (3, .int x3)]) hx hb dX1_runs_173 hl (by decide) rfl (fun ls hl => ?_)
                      refine lv_iload hx hb dX1_runs_175 (lv_at hl 3 rfl) ?_
                      refine lv_iload hx hb dX1_runs_177 (lv_at hl 1 rfl) ?_
                      refine lv_ior hx hb dX1_runs_179 ?_
                      refine lv_istore (lv' := [(8, .int (m_runs_v180 S x1 x2 y8_37 S_37)), (7, .int (m_runs_v173 S x1 x2 y7_37 S_37)), (10, .int (m_runs_j158_s0 S x1 x2 S_37)), (9, .int (m_runs_j96_s0 S x1 x2 S_37)), (6, .int y6_37), (5, .int (m_runs_j26_s0 S x1)), (4, .int (m_runs_v10 S x1 x2)), (0, .ref (a 0)), (1, .int x1), (2, .int x2), (3, .int x3)]) hx hb dX1_runs_180 hl (by decide) rfl (fun ls hl => ?_)
                      refine lv_aload_n hx hb dX1_runs_182 rfl (lv_at hl 7 rfl) ?_
                      refine mg_a X hR 21 (by decide) (by decide) q1158 dX1_runs_183 ?_
                      refine lv_iload hx hb dX1_runs_186 (lv_at hl 6 rfl) ?_
                      refine lv_dup2_11 hx hb dX1_runs_188 rfl rfl ?_
                      refine m_ld X hR ⟨by decide, rfl, by decide⟩ (ixl 16 16 (by decide) rfl (hn4)) (v := S_37.1 21 (Int32.toNatClampNeg (m_runs_v10 S x1 x2))) ((mu_k _ (by decide) _ _ _).trans rfl) dX1_runs_189 ?_
                      refine lv_iconst (v := 1) hx hb dX1_runs_190 (by decide) ?_
                      refine lv_isub hx hb dX1_runs_191 ?_
                      refine m_st X hR hS ⟨by decide, rfl, by decide⟩ (ixl 16 16 (by decide) rfl (hn4)) dX1_runs_192 (fun H locs hR hS => ?_)
                      refine lv_aload_n hx hb dX1_runs_193 rfl (lv_at hl 7 rfl) ?_
                      refine mg_a X hR 20 (by decide) (by decide) q1157 dX1_runs_194 ?_
                      refine lv_iload hx hb dX1_runs_197 (lv_at hl 6 rfl) ?_
                      refine lv_dup2_11 hx hb dX1_runs_199 rfl rfl ?_
                      refine m_ld X hR ⟨by decide, rfl, by decide⟩ (ixl 16 16 (by decide) rfl (hn4)) (v := S_37.1 20 (Int32.toNatClampNeg (m_runs_v10 S x1 x2))) ((mu_k _ (by decide) _ _ _).trans ((mu_k _ (by decide) _ _ _).trans rfl)) dX1_runs_200 ?_
                      refine lv_iconst (v := 1) hx hb dX1_runs_201 (by decide) ?_
                      refine lv_isub hx hb dX1_runs_202 ?_
                      refine m_st X hR hS ⟨by decide, rfl, by decide⟩ (ixl 16 16 (by decide) rfl (hn4)) dX1_runs_203 (fun H locs hR hS => ?_)
                      refine lv_iinc (v := (y6_37 + 1)) (lv' := [(6, .int (y6_37 + 1)), (8, .int (m_runs_v180 S x1 x2 y8_37 S_37)), (7, .int (m_runs_v173 S x1 x2 y7_37 S_37)), (10, .int (m_runs_j158_s0 S x1 x2 S_37)), (9, .int (m_runs_j96_s0 S x1 x2 S_37)), (5, .int (m_runs_j26_s0 S x1)), (4, .int (m_runs_v10 S x1 x2)), (0, .ref (a 0)), (1, .int x1), (2, .int x2), (3, .int x3)]) hx hb dX1_runs_204 hl (k := 4) rfl rfl (by decide) rfl (fun ls hl => ?_)
                      refine lv_goto (tgt := 37) hx hb dX1_runs_207 (by decide) ?_
                      exact ih (y6_37 + 1) (m_runs_v173 S x1 x2 y7_37 S_37) (m_runs_v180 S x1 x2 y8_37 S_37) (mu (mu (mu S_37 17 (Int32.toNatClampNeg (m_runs_v10 S x1 x2)) (m_runs_j136_s0 S x1 x2 S_37)) 21 (Int32.toNatClampNeg (m_runs_v10 S x1 x2)) ((S_37.1 21 (Int32.toNatClampNeg (m_runs_v10 S x1 x2))) - 1)) 20 (Int32.toNatClampNeg (m_runs_v10 S x1 x2)) ((S_37.1 20 (Int32.toNatClampNeg (m_runs_v10 S x1 x2))) - 1)) _ _  _ (Nat.lt_of_lt_of_le (by rw [((mu_k _ (by decide) _ _ _).trans (mu_self _ _ _ _))]; exact dn_ (by assumption)) (Nat.le_of_lt_succ hf)) (MInv_mu (MInv_mu (MInv_17 hJ _ _ (fun _ => m_runs_pin S x1 x2 _ hJ hn4)) _ _ _ (by decide)) _ _ _ (by decide)) (Eq.trans (Eq.symm (Eq.trans (m_runs_L37_s _ _ _ _ _ _ _ _ _) (Eq.trans (if_neg c5) (Eq.trans (if_neg c6) (if_neg c7))))) hE) hR hS (lv_sub hl [1, 2, 0, 5, 6, 7, 8, 9, 10] rfl)
                    refine lv_if_ne (tgt := 171) hx hb dX1_runs_164 (by decide) (fun c19 => ?_) (fun c19 => ?_)
                    · refine lv_iconst (v := 1) hx hb dX1_runs_171 (by decide) ?_
                      exact J21 _ _ _  _ (Eq.symm (if_neg c19)) hR hS  (lv_sub hl [0, 1, 2, 3, 4, 5, 6, 7, 8, 9, 10] rfl)
                    · refine lv_iconst (v := 0) hx hb dX1_runs_167 (by decide) ?_
                      refine lv_goto (tgt := 172) hx hb dX1_runs_168 (by decide) ?_
                      exact J21 _ _ _  _ (Eq.symm (if_pos c19)) hR hS  (lv_sub hl [0, 1, 2, 3, 4, 5, 6, 7, 8, 9, 10] rfl)
                  refine lv_if_eq (tgt := 146) hx hb dX1_runs_139 (by decide) (fun c16 => ?_) (fun c16 => ?_)
                  · refine lv_iload hx hb dX1_runs_146 (lv_at hl 0 rfl) ?_
                    refine lv_aload_n hx hb dX1_runs_148 rfl (lv_at hl 6 rfl) ?_
                    refine mg_a X hR 23 (by decide) (by decide) q1160 dX1_runs_149 ?_
                    refine lv_iload hx hb dX1_runs_152 (lv_at hl 5 rfl) ?_
                    refine m_ld X hR ⟨by decide, rfl, by decide⟩ (ixl 16 16 (by decide) rfl (hn4)) (v := S_37.1 23 (Int32.toNatClampNeg (m_runs_v10 S x1 x2))) ((mu_k _ (by decide) _ _ _).trans rfl) dX1_runs_154 ?_
                    refine lv_iconst (v := (-1)) hx hb dX1_runs_155 (by decide) ?_
                    refine lv_ixor hx hb dX1_runs_156 ?_
                    refine lv_iand hx hb dX1_runs_157 ?_
                    exact J18 _ _ _  _ (Eq.symm (if_pos c16)) hR hS  (lv_sub hl [0, 1, 2, 3, 4, 5, 6, 7, 8, 9] rfl)
                  · refine lv_iconst (v := 0) hx hb dX1_runs_142 (by decide) ?_
                    refine lv_goto (tgt := 158) hx hb dX1_runs_143 (by decide) ?_
                    exact J18 _ _ _  _ (Eq.symm (if_neg c16)) hR hS  (lv_sub hl [0, 1, 2, 3, 4, 5, 6, 7, 8, 9] rfl)
                refine lv_icmp_ne (tgt := 135) hx hb dX1_runs_112 (by decide) (fun c12 => ?_) (fun c12 => ?_)
                · refine lv_iconst (v := 0) hx hb dX1_runs_135 (by decide) ?_
                  exact J15 _ _ _  _ (Eq.symm (if_neg c12)) hR hS  (lv_sub hl [0, 1, 2, 3, 4, 5, 6, 7, 8, 9] rfl)
                · refine lv_aload_n hx hb dX1_runs_115 rfl (lv_at hl 6 rfl) ?_
                  refine mg_a X hR 17 (by decide) (by decide) q1154 dX1_runs_116 ?_
                  refine lv_iload hx hb dX1_runs_119 (lv_at hl 5 rfl) ?_
                  refine m_ld X hR ⟨by decide, rfl, by decide⟩ (ixl 16 16 (by decide) rfl (hn4)) (v := S_37.1 17 (Int32.toNatClampNeg (m_runs_v10 S x1 x2))) rfl dX1_runs_121 ?_
                  refine lv_iconst (v := 1) hx hb dX1_runs_122 (by decide) ?_
                  refine lv_iadd hx hb dX1_runs_123 ?_
                  refine lv_aload_n hx hb dX1_runs_124 rfl (lv_at hl 6 rfl) ?_
                  refine mg_a X hR 15 (by decide) (by decide) q1152 dX1_runs_125 ?_
                  refine lv_iload hx hb dX1_runs_128 (lv_at hl 5 rfl) ?_
                  refine m_ld X hR ⟨by decide, rfl, by decide⟩ (ixl 16 16 (by decide) rfl (hn4)) (v := S_37.1 15 (Int32.toNatClampNeg (m_runs_v10 S x1 x2))) rfl dX1_runs_130 ?_
                  refine lv_irem hx hb dX1_runs_131 (m_runs_o13 S x1 x2 x3 y6_37 S_37 ht hg hI hpl hn4 hJ c5 c6 c7 hpp c12) ?_
                  refine lv_goto (tgt := 136) hx hb dX1_runs_132 (by decide) ?_
                  exact J15 _ _ _  _ (Eq.symm (if_pos c12)) hR hS  (lv_sub hl [0, 1, 2, 3, 4, 5, 6, 7, 8, 9] rfl)
              refine lv_icmp_ne (tgt := 95) hx hb dX1_runs_71 (by decide) (fun c8 => ?_) (fun c8 => ?_)
              · refine lv_iconst (v := 1) hx hb dX1_runs_95 (by decide) ?_
                exact J11 _ _ _  _ (Eq.symm (if_neg c8)) hR hS  (lv_sub hl [0, 1, 2, 3, 4, 5, 6, 7, 8] rfl)
              · refine lv_aload_n hx hb dX1_runs_74 rfl (lv_at hl 5 rfl) ?_
                refine mg_a X hR 16 (by decide) (by decide) q1153 dX1_runs_75 ?_
                refine lv_bipush (v := 48) hx hb dX1_runs_78 (by decide) ?_
                refine lv_iload hx hb dX1_runs_80 (lv_at hl 4 rfl) ?_
                refine lv_imul hx hb dX1_runs_82 ?_
                refine lv_aload_n hx hb dX1_runs_83 rfl (lv_at hl 5 rfl) ?_
                refine mg_a X hR 17 (by decide) (by decide) q1154 dX1_runs_84 ?_
                refine lv_iload hx hb dX1_runs_87 (lv_at hl 4 rfl) ?_
                refine m_ld X hR ⟨by decide, rfl, by decide⟩ (ixl 16 16 (by decide) rfl (hn4)) (v := S_37.1 17 (Int32.toNatClampNeg (m_runs_v10 S x1 x2))) rfl dX1_runs_89 ?_
                refine lv_iadd hx hb dX1_runs_90 ?_
                refine m_ld X hR ⟨by decide, rfl, by decide⟩ (ixl 768 768 (by decide) rfl (m_runs_o9 S x1 x2 x3 y6_37 S_37 ht hg hI hpl hn4 hJ c5 c6 c7 hpp c8)) (v := S_37.1 16 (Int32.toNatClampNeg ((48 * (m_runs_v10 S x1 x2)) + (S_37.1 17 (Int32.toNatClampNeg (m_runs_v10 S x1 x2)))))) rfl dX1_runs_91 ?_
                refine lv_goto (tgt := 96) hx hb dX1_runs_92 (by decide) ?_
                exact J11 _ _ _  _ (Eq.symm (if_pos c8)) hR hS  (lv_sub hl [0, 1, 2, 3, 4, 5, 6, 7, 8] rfl)
    exact L37 _ 0 0 0 S _ _  _ (Nat.lt_succ_self _) (hI) rfl hR hS (lv_sub hl [0, 1, 2, 3, 4, 5, 6, 7, 8] rfl)
  refine lv_icmp_ne (tgt := 25) hx hb dX1_runs_18 (by decide) (fun c2 => ?_) (fun c2 => ?_)
  · refine lv_iconst (v := 0) hx hb dX1_runs_25 (by decide) ?_
    exact J4 _ _ _  _ (Eq.symm (if_neg c2)) hR hS  (lv_sub hl [0, 1, 2, 3, 4] rfl)
  · refine lv_iconst (v := 1) hx hb dX1_runs_21 (by decide) ?_
    refine lv_goto (tgt := 26) hx hb dX1_runs_22 (by decide) ?_
    exact J4 _ _ _  _ (Eq.symm (if_pos c2)) hR hS  (lv_sub hl [0, 1, 2, 3, 4] rfl)
