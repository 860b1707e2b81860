/-! PRINTED by gen/run_m6.py -/
set_option maxRecDepth 100000
theorem m_warnedGoes_o1 (S : MS) (x1 : Int32) (x2 : Int32) (ht : 0 ≤ x1 ∧ x1 < 4) (hg : 0 ≤ S.1 35 (Int32.toNatClampNeg (m_placeOf x1 x2))) (hI : MInv S) (hpl : 0 ≤ x1 ∧ x1 < 4 → 0 ≤ (m_placeOf x1 x2) ∧ (m_placeOf x1 x2) < 8) : 0 ≤ (m_placeOf x1 x2) ∧ (m_placeOf x1 x2) < 8 := by 
  clear hI
  try simp only [i_le, i_lt, i_eq, Int32.reduceToInt] at *
  try simp only [Int32.reduceToInt] at *
  omega
theorem m_warnedGoes_o4 (S : MS) (x1 : Int32) (x2 : Int32) (ht : 0 ≤ x1 ∧ x1 < 4) (hg : 0 ≤ S.1 35 (Int32.toNatClampNeg (m_placeOf x1 x2))) (hI : MInv S) (hpl : 0 ≤ x1 ∧ x1 < 4 → 0 ≤ (m_placeOf x1 x2) ∧ (m_placeOf x1 x2) < 8) (c2 : ¬ (S.1 36 (Int32.toNatClampNeg (m_placeOf x1 x2))) = 0) (c3 : ¬ (m_silenceOf S x1) = 2) : 0 ≤ (m_placeOf x1 x2) ∧ (m_placeOf x1 x2) < 8 := by 
  clear hI
  try simp only [i_le, i_lt, i_eq, Int32.reduceToInt] at *
  try simp only [Int32.reduceToInt] at *
  omega
def m_warnedGoes (S : MS) (x1 : Int32) (x2 : Int32) : MS := (if (S.1 36 (Int32.toNatClampNeg (m_placeOf x1 x2))) = 0 then S else (if (m_silenceOf S x1) = 2 then S else (m_offGoes (mu S 36 (Int32.toNatClampNeg (m_placeOf x1 x2)) 0) x1 x2)))
set_option maxHeartbeats 4000000 in
theorem mt_warnedGoes (l : Launch) (D : va_G) (d : Nat → ClassId) (A : Nat → Prop) (a : Nat → Nat) (S : MS) (x1 : Int32) (x2 : Int32) (ht : 0 ≤ x1 ∧ x1 < 4) (hg : 0 ≤ S.1 35 (Int32.toNatClampNeg (m_placeOf x1 x2))) (hI : MInv S) : MV l yX1_warnedGoes cX1_warnedGoes 3 (rm_ 3) D d A a S [.int x1, .int x2] (m_warnedGoes S x1 x2) := by
  refine m_startV rfl (Nat.le_of_ble_eq_true rfl) ?_
  intro p e s m av below meth c ls Q X hrt hlk hl hR hQ
  have hx := X.1.1
  have hb := X.1.2.1
  have hown := X.1.2.2.2.1
  have hts := X.1.2.2.2.2
  have hS : va_S A s.heap s.heap [] := va_S.rf
  have hl : lv_has ls 3 [(0, .ref (a 0)), (1, .int x1), (2, .int x2)] := hl
  have hpl : 0 ≤ x1 ∧ x1 < 4 → 0 ≤ (m_placeOf x1 x2) ∧ (m_placeOf x1 x2) < 8 := m_placeOf_ok
  refine lv_aload_n hx hb dX1_warnedGoes_0 rfl (lv_at hl 0 rfl) ?_
  refine mg_a X hR 36 (by decide) (by decide) q1173 dX1_warnedGoes_1 ?_
  refine lv_iload_n hx hb dX1_warnedGoes_4 rfl (lv_at hl 1 rfl) ?_
  refine lv_iload_n hx hb dX1_warnedGoes_5 rfl (lv_at hl 2 rfl) ?_
  refine s_ci X.1 (st_m_placeOf l x1 x2) 2 (lw_S q1441 q1442 q59 q1443) ⟨rfl, rfl⟩ (by decide +kernel) ⟨by decide, by decide⟩ ⟨by decide, by decide⟩ rfl hl.1 rfl (Nat.le_of_ble_eq_true rfl) dX1_warnedGoes_6 ?_
  refine m_zld X hR ⟨by decide, rfl, by decide⟩ (ixl 8 8 (by decide) rfl (m_warnedGoes_o1 S x1 x2 ht hg hI hpl)) (v := S.1 36 (Int32.toNatClampNeg (m_placeOf x1 x2))) rfl dX1_warnedGoes_9 ?_
  refine lv_if_eq (tgt := 39) hx hb dX1_warnedGoes_10 (by decide) (fun c2 => ?_) (fun c2 => ?_)
  · exact m_rv hx hb hrt hlk hR hS hQ (if_pos c2) dX1_warnedGoes_39
  · refine lv_aload_n hx hb dX1_warnedGoes_13 rfl (lv_at hl 0 rfl) ?_
    refine lv_iload_n hx hb dX1_warnedGoes_14 rfl (lv_at hl 1 rfl) ?_
    refine m_cr X hR hS (mt_silenceOf l D d A a S x1 (ht)) 1 (lw_V q1472 q1474 qs38 q59 q1475) ⟨rfl, rfl⟩ (by decide +kernel) ⟨by decide, by decide⟩ ⟨by decide, by decide⟩ rfl hl.1 rfl (Nat.le_of_ble_eq_true rfl) dX1_warnedGoes_15 (fun H locs hR hS => ?_)
    refine lv_iconst (v := 2) hx hb dX1_warnedGoes_18 (by decide) ?_
    refine lv_icmp_eq (tgt := 39) hx hb dX1_warnedGoes_19 (by decide) (fun c3 => ?_) (fun c3 => ?_)
    · exact m_rv hx hb hrt hlk hR hS hQ (Eq.trans (if_neg c2) (if_pos c3)) dX1_warnedGoes_39
    · refine lv_aload_n hx hb dX1_warnedGoes_22 rfl (lv_at hl 0 rfl) ?_
      refine mg_a X hR 36 (by decide) (by decide) q1173 dX1_warnedGoes_23 ?_
      refine lv_iload_n hx hb dX1_warnedGoes_26 rfl (lv_at hl 1 rfl) ?_
      refine lv_iload_n hx hb dX1_warnedGoes_27 rfl (lv_at hl 2 rfl) ?_
      refine s_ci X.1 (st_m_placeOf l x1 x2) 2 (lw_S q1441 q1442 q59 q1443) ⟨rfl, rfl⟩ (by decide +kernel) ⟨by decide, by decide⟩ ⟨by decide, by decide⟩ rfl hl.1 rfl (Nat.le_of_ble_eq_true rfl) dX1_warnedGoes_28 ?_
      refine lv_iconst (v := 0) hx hb dX1_warnedGoes_31 (by decide) ?_
      refine m_zst X hR hS ⟨by decide, rfl, by decide⟩ (ixl 8 8 (by decide) rfl (m_warnedGoes_o4 S x1 x2 ht hg hI hpl c2 c3)) (Or.inl rfl) dX1_warnedGoes_32 (fun H locs hR hS => ?_)
      refine lv_aload_n hx hb dX1_warnedGoes_33 rfl (lv_at hl 0 rfl) ?_
      refine lv_iload_n hx hb dX1_warnedGoes_34 rfl (lv_at hl 1 rfl) ?_
      refine lv_iload_n hx hb dX1_warnedGoes_35 rfl (lv_at hl 2 rfl) ?_
      refine m_cv X hR hS (mt_offGoes l D d A a (mu S 36 (Int32.toNatClampNeg (m_placeOf x1 x2)) 0) x1 x2 (ht) (hg) (MInv_mu hI _ _ _ (by decide))) 2 (lw_V q1476 q1478 qs39 q59 q1479) ⟨rfl, rfl⟩ (by decide +kernel) ⟨by decide, by decide⟩ ⟨by decide, by decide⟩ rfl hl.1 rfl (Nat.le_of_ble_eq_true rfl) dX1_warnedGoes_36 (fun H locs hR hS => ?_)
      exact m_rv hx hb hrt hlk hR hS hQ (Eq.trans (if_neg c2) (if_neg c3)) dX1_warnedGoes_39
theorem m_warnedGoes_eqx (S : MS) (x1 x2 : Int32) : eqx [36, 25, 21, 14] S (m_warnedGoes S x1 x2) := by
  unfold m_warnedGoes
  (repeat' split) <;> first
    | exact eqx.rf
    | exact eqx.tr (eqx.up eqx.rf (by decide) _ _) ((m_offGoes_eqx _ _ _).sub (by decide))
theorem m_warnedGoes_inv (S : MS) (x1 x2 : Int32) (ht : 0 ≤ x1 ∧ x1 < 4) (hg : 0 ≤ S.1 35 (Int32.toNatClampNeg (m_placeOf x1 x2))) (hI : MInv S) : MInv (m_warnedGoes S x1 x2) := by
  unfold m_warnedGoes
  (repeat' split) <;> first
    | exact hI
    | exact m_offGoes_inv _ x1 x2 ht hg (MInv_mu hI _ _ _ (by decide))
