/-! PRINTED by gen/run_m8.py -/
set_option maxRecDepth 100000
theorem m_letOff_o2 (S : MS) (x1 : Int32) (x2 : Int32) (hI : MInv S) (hpl : 0 ≤ x1 ∧ x1 < 4 → 0 ≤ (m_placeOf x1 x2) ∧ (m_placeOf x1 x2) < 8) (hhl : 0 ≤ x1 ∧ x1 < 4 → S.1 35 (Int32.toNatClampNeg (m_placeOf x1 x2)) < 16) (c1 : 0 ≤ (m_askedPlace S x1 x2).1) (okc1_0 : 0 ≤ x1 ∧ x1 < 4) (okc1_1 : 0 ≤ S.1 35 (Int32.toNatClampNeg (m_placeOf x1 x2))) (h35 : (m_offGoes S x1 x2).1 35 (Int32.toNatClampNeg (m_placeOf x1 x2)) = S.1 35 (Int32.toNatClampNeg (m_placeOf x1 x2))) : 0 ≤ (m_placeOf x1 x2) ∧ (m_placeOf x1 x2) < 8 := by 
  clear hI
  try simp only [i_le, i_lt, i_eq, Int32.reduceToInt] at *
  try simp only [Int32.reduceToInt] at *
  omega
theorem m_letOff_o3 (S : MS) (x1 : Int32) (x2 : Int32) (hI : MInv S) (hpl : 0 ≤ x1 ∧ x1 < 4 → 0 ≤ (m_placeOf x1 x2) ∧ (m_placeOf x1 x2) < 8) (hhl : 0 ≤ x1 ∧ x1 < 4 → S.1 35 (Int32.toNatClampNeg (m_placeOf x1 x2)) < 16) (c1 : 0 ≤ (m_askedPlace S x1 x2).1) (okc1_0 : 0 ≤ x1 ∧ x1 < 4) (okc1_1 : 0 ≤ S.1 35 (Int32.toNatClampNeg (m_placeOf x1 x2))) (h35 : (m_offGoes S x1 x2).1 35 (Int32.toNatClampNeg (m_placeOf x1 x2)) = S.1 35 (Int32.toNatClampNeg (m_placeOf x1 x2))) : 0 ≤ ((m_offGoes S x1 x2).1 35 (Int32.toNatClampNeg (m_placeOf x1 x2))) ∧ ((m_offGoes S x1 x2).1 35 (Int32.toNatClampNeg (m_placeOf x1 x2))) < 16 := by 
  clear hI
  try simp only [i_le, i_lt, i_eq, Int32.reduceToInt] at *
  try simp only [Int32.reduceToInt] at *
  omega
def m_letOff (S : MS) (x1 : Int32) (x2 : Int32) : Int32 × MS := (if 0 ≤ (m_askedPlace S x1 x2).1 then (((m_offGoes S x1 x2).1 21 (Int32.toNatClampNeg ((m_offGoes S x1 x2).1 35 (Int32.toNatClampNeg (m_placeOf x1 x2))))), (m_offGoes S x1 x2)) else ((m_askedPlace S x1 x2).1, (m_askedPlace S x1 x2).2))
set_option maxHeartbeats 4000000 in
theorem mt_letOff (l : Launch) (D : va_G) (d : Nat → ClassId) (A : Nat → Prop) (a : Nat → Nat) (S : MS) (x1 : Int32) (x2 : Int32) (hI : MInv S) : MI l yX1_letOff cX1_letOff 4 .int (rm_ 4) D d A a S [.int x1, .int x2] (m_letOff S x1 x2) := by
  refine m_startI rfl (Nat.le_of_ble_eq_true rfl) ?_
  intro p e s m av below meth c ls Q X hrt hlk hl hR hQ
  have hx := X.1.1
  have hb := X.1.2.1
  have hown := X.1.2.2.2.1
  have hts := X.1.2.2.2.2
  have hS : va_S A s.heap s.heap [] := va_S.rf
  have hl : lv_has ls 4 [(0, .ref (a 0)), (1, .int x1), (2, .int x2)] := hl
  have hpl : 0 ≤ x1 ∧ x1 < 4 → 0 ≤ (m_placeOf x1 x2) ∧ (m_placeOf x1 x2) < 8 := m_placeOf_ok
  have hhl : 0 ≤ x1 ∧ x1 < 4 → S.1 35 (Int32.toNatClampNeg (m_placeOf x1 x2)) < 16 := fun h => mi_hl hI (m_placeOf_ok h)
  refine lv_aload_n hx hb dX1_letOff_0 rfl (lv_at hl 0 rfl) ?_
  refine lv_iload_n hx hb dX1_letOff_1 rfl (lv_at hl 1 rfl) ?_
  refine lv_iload_n hx hb dX1_letOff_2 rfl (lv_at hl 2 rfl) ?_
  refine m_ci X hR hS (mt_askedPlace l D d A a S x1 x2) 2 (lw_V q1448 q1450 qs34 q59 q1451) ⟨rfl, rfl⟩ (by decide +kernel) ⟨by decide, by decide⟩ ⟨by decide, by decide⟩ rfl hl.1 rfl (Nat.le_of_ble_eq_true rfl) dX1_letOff_3 (fun H locs hR hS => ?_)
  refine lv_istore_n (lv' := [(3, .int ((m_askedPlace S x1 x2).1)), (0, .ref (a 0)), (1, .int x1), (2, .int x2)]) hx hb dX1_letOff_6 rfl hl (by decide) rfl (fun ls hl => ?_)
  refine lv_iload_n hx hb dX1_letOff_7 rfl (lv_at hl 0 rfl) ?_
  refine lv_if_ge (tgt := 13) hx hb dX1_letOff_8 (by decide) (fun c1 => ?_) (fun c1 => ?_)
  · have okc1 := m_askedPlace_ok S x1 x2 c1
    have hR : MR D d A a S H := okc1.1 ▸ hR
    have okc1_0 : 0 ≤ x1 ∧ x1 < 4 := okc1.2.1
    have okc1_1 : 0 ≤ S.1 35 (Int32.toNatClampNeg (m_placeOf x1 x2)) := okc1.2.2.2
    refine lv_aload_n hx hb dX1_letOff_13 rfl (lv_at hl 1 rfl) ?_
    refine lv_iload_n hx hb dX1_letOff_14 rfl (lv_at hl 2 rfl) ?_
    refine lv_iload_n hx hb dX1_letOff_15 rfl (lv_at hl 3 rfl) ?_
    refine m_cv X hR hS (mt_offGoes l D d A a S x1 x2 (okc1_0) (okc1_1) (hI)) 2 (lw_V q1476 q1478 qs39 q59 q1479) ⟨rfl, rfl⟩ (by decide +kernel) ⟨by decide, by decide⟩ ⟨by decide, by decide⟩ rfl hl.1 rfl (Nat.le_of_ble_eq_true rfl) dX1_letOff_16 (fun H locs hR hS => ?_)
    refine lv_aload_n hx hb dX1_letOff_19 rfl (lv_at hl 1 rfl) ?_
    have h35 : (m_offGoes S x1 x2).1 35 (Int32.toNatClampNeg (m_placeOf x1 x2)) = S.1 35 (Int32.toNatClampNeg (m_placeOf x1 x2)) := (m_offGoes_eqx S x1 x2).at 35 (by decide) _
    refine mg_a X hR 21 (by decide) (by decide) q1158 dX1_letOff_20 ?_
    refine lv_aload_n hx hb dX1_letOff_23 rfl (lv_at hl 1 rfl) ?_
    refine mg_a X hR 35 (by decide) (by decide) q1172 dX1_letOff_24 ?_
    refine lv_iload_n hx hb dX1_letOff_27 rfl (lv_at hl 2 rfl) ?_
    refine lv_iload_n hx hb dX1_letOff_28 rfl (lv_at hl 3 rfl) ?_
    refine s_ci X.1 (st_m_placeOf l x1 x2) 2 (lw_S q1441 q1442 q59 q1443) ⟨rfl, rfl⟩ (by decide +kernel) ⟨by decide, by decide⟩ ⟨by decide, by decide⟩ rfl hl.1 rfl (Nat.le_of_ble_eq_true rfl) dX1_letOff_29 ?_
    refine m_ld X hR ⟨by decide, rfl, by decide⟩ (ixl 8 8 (by decide) rfl (m_letOff_o2 S x1 x2 hI hpl hhl c1 okc1_0 okc1_1 h35)) (v := (m_offGoes S x1 x2).1 35 (Int32.toNatClampNeg (m_placeOf x1 x2))) rfl dX1_letOff_32 ?_
    refine m_ld X hR ⟨by decide, rfl, by decide⟩ (ixl 16 16 (by decide) rfl (m_letOff_o3 S x1 x2 hI hpl hhl c1 okc1_0 okc1_1 h35)) (v := (m_offGoes S x1 x2).1 21 (Int32.toNatClampNeg ((m_offGoes S x1 x2).1 35 (Int32.toNatClampNeg (m_placeOf x1 x2))))) rfl dX1_letOff_33 ?_
    exact m_ri hx hb hrt (rfl) hlk hR hS hQ (if_pos c1) dX1_letOff_34
  · refine lv_iload_n hx hb dX1_letOff_11 rfl (lv_at hl 0 rfl) ?_
    exact m_ri hx hb hrt (rfl) hlk hR hS hQ (if_neg c1) dX1_letOff_12
def m_runOut (S : MS) (x1 : Int32) (x2 : Int32) : Int32 × MS := (if 0 ≤ (m_askedPlace S x1 x2).1 then ((m_runs S x1 x2 2147483647).1, (m_runs S x1 x2 2147483647).2) else ((m_askedPlace S x1 x2).1, (m_askedPlace S x1 x2).2))
set_option maxHeartbeats 4000000 in
theorem mt_runOut (l : Launch) (D : va_G) (d : Nat → ClassId) (A : Nat → Prop) (a : Nat → Nat) (S : MS) (x1 : Int32) (x2 : Int32) (hI : MInv S) : MI l yX1_runOut cX1_runOut 4 .int (rm_ 4) D d A a S [.int x1, .int x2] (m_runOut S x1 x2) := by
  refine m_startI rfl (Nat.le_of_ble_eq_true rfl) ?_
  intro p e s m av below meth c ls Q X hrt hlk hl hR hQ
  have hx := X.1.1
  have hb := X.1.2.1
  have hown := X.1.2.2.2.1
  have hts := X.1.2.2.2.2
  have hS : va_S A s.heap s.heap [] := va_S.rf
  have hl : lv_has ls 4 [(0, .ref (a 0)), (1, .int x1), (2, .int x2)] := hl
  refine lv_aload_n hx hb dX1_runOut_0 rfl (lv_at hl 0 rfl) ?_
  refine lv_iload_n hx hb dX1_runOut_1 rfl (lv_at hl 1 rfl) ?_
  refine lv_iload_n hx hb dX1_runOut_2 rfl (lv_at hl 2 rfl) ?_
  refine m_ci X hR hS (mt_askedPlace l D d A a S x1 x2) 2 (lw_V q1448 q1450 qs34 q59 q1451) ⟨rfl, rfl⟩ (by decide +kernel) ⟨by decide, by decide⟩ ⟨by decide, by decide⟩ rfl hl.1 rfl (Nat.le_of_ble_eq_true rfl) dX1_runOut_3 (fun H locs hR hS => ?_)
  refine lv_istore_n (lv' := [(3, .int ((m_askedPlace S x1 x2).1)), (0, .ref (a 0)), (1, .int x1), (2, .int x2)]) hx hb dX1_runOut_6 rfl hl (by decide) rfl (fun ls hl => ?_)
  refine lv_iload_n hx hb dX1_runOut_7 rfl (lv_at hl 0 rfl) ?_
  refine lv_if_ge (tgt := 15) hx hb dX1_runOut_8 (by decide) (fun c1 => ?_) (fun c1 => ?_)
  · have okc1 := m_askedPlace_ok S x1 x2 c1
    have hR : MR D d A a S H := okc1.1 ▸ hR
    have okc1_0 : 0 ≤ x1 ∧ x1 < 4 := okc1.2.1
    have okc1_1 : 0 ≤ S.1 35 (Int32.toNatClampNeg (m_placeOf x1 x2)) := okc1.2.2.2
    refine lv_aload_n hx hb dX1_runOut_15 rfl (lv_at hl 1 rfl) ?_
    refine lv_iload_n hx hb dX1_runOut_16 rfl (lv_at hl 2 rfl) ?_
    refine lv_iload_n hx hb dX1_runOut_17 rfl (lv_at hl 3 rfl) ?_
    refine lv_ldc hx hb hown (hts _ q1519) dX1_runOut_18 ?_
    refine m_ci X hR hS (mt_runs l D d A a S x1 x2 2147483647 (okc1_0) (okc1_1) (hI)) 3 (lw_V q1520 q1522 qs42 q59 q1523) ⟨rfl, rfl⟩ (by decide +kernel) ⟨by decide, by decide⟩ ⟨by decide, by decide⟩ rfl hl.1 rfl (Nat.le_of_ble_eq_true rfl) dX1_runOut_20 (fun H locs hR hS => ?_)
    exact m_ri hx hb hrt (rfl) hlk hR hS hQ (if_pos c1) dX1_runOut_23
  · refine lv_iload_n hx hb dX1_runOut_11 rfl (lv_at hl 0 rfl) ?_
    refine lv_goto (tgt := 23) hx hb dX1_runOut_12 (by decide) ?_
    exact m_ri hx hb hrt (rfl) hlk hR hS hQ (if_neg c1) dX1_runOut_23
theorem m_runs_L37_inv (S : MS) (x1 x2 x3 : Int32) (hn : 0 ≤ (m_runs_v10 S x1 x2) ∧ (m_runs_v10 S x1 x2) < 16) : ∀ (f : Nat) (a b c : Int32) (S2 : MS), MInv S2 → MInv (m_runs_L37 S x1 x2 x3 f a b c S2).2.2.2 := by
  intro f
  induction f with
  | zero => intro a b c S2 h; exact h
  | succ f ih =>
    intro a b c S2 h
    rw [m_runs_L37_s]
    (repeat' split) <;> first
      | (show MInv S2; exact h)
      | exact ih _ _ _ _ (MInv_mu (MInv_mu (MInv_17 h _ _ (fun _ => m_runs_pin S x1 x2 _ h hn)) _ _ _ (by decide)) _ _ _ (by decide))
theorem m_runs_L37_eqx (S : MS) (x1 x2 x3 : Int32) : ∀ (f : Nat) (a b c : Int32) (S2 : MS), eqx [17, 20, 21] S2 (m_runs_L37 S x1 x2 x3 f a b c S2).2.2.2 := by
  intro f
  induction f with
  | zero => intro a b c S2; exact eqx.rf
  | succ f ih =>
    intro a b c S2
    rw [m_runs_L37_s]
    (repeat' split) <;> first
      | exact eqx.rf
      | (refine eqx.tr ?_ (ih _ _ _ _); (repeat refine eqx.up ?_ (by decide) _ _); exact eqx.rf)
theorem m_runs_cases (S : MS) (x1 x2 x3 : Int32) : (m_runs S x1 x2 x3).2 = m_runs_j249_S S x1 x2 x3 ∨ ((m_runs S x1 x2 x3).2 = m_offGoes (m_runs_j249_S S x1 x2 x3) x1 0 ∧ ¬ (m_runs_j249_S S x1 x2 x3).1 35 (Int32.toNatClampNeg (2 * x1)) < 0) := by
  unfold m_runs
  (repeat' split) <;> first
    | exact Or.inl (by with_reducible rfl)
    | exact Or.inr ⟨by with_reducible rfl, by assumption⟩
theorem m_runs_inv (S : MS) (x1 x2 x3 : Int32) (ht : 0 ≤ x1 ∧ x1 < 4) (hg : 0 ≤ S.1 35 (Int32.toNatClampNeg (m_placeOf x1 x2))) (hI : MInv S) : MInv (m_runs S x1 x2 x3).2 := by
  have hn : 0 ≤ (m_runs_v10 S x1 x2) ∧ (m_runs_v10 S x1 x2) < 16 := ⟨hg, mi_hl hI (m_placeOf_ok ht)⟩
  have h249 := m_runs_249 S x1 x2 x3 ht (m_runs_L37_inv S x1 x2 x3 hn _ _ _ _ _ hI)
  rcases m_runs_cases S x1 x2 x3 with e | ⟨e, hh⟩
  · rw [e]; exact h249
  · rw [e]
    exact m_offGoes_inv _ x1 0 ht (by rw [placeOf_0]; exact Int32.not_lt.mp hh) h249
theorem m_runs_eqx (S : MS) (x1 x2 x3 : Int32) : eqx [17, 20, 21, 24, 6, 37, 38, 25, 14] S (m_runs S x1 x2 x3).2 := by
  have h1 : eqx [17, 20, 21, 24, 6, 37, 38, 25, 14] S (m_runs_R37 S x1 x2 x3).2.2.2 := (m_runs_L37_eqx S x1 x2 x3 _ _ _ _ _).sub (by decide)
  have h2 : eqx [17, 20, 21, 24, 6, 37, 38, 25, 14] S (m_runs_j249_S S x1 x2 x3) := by
    unfold m_runs_j249_S
    split
    · exact (h1.up (by decide) _ _).up (by decide) _ _
    · exact ((h1.up (by decide) _ _).up (by decide) _ _).tr ((m_writeLog_eqx _ _ _ _ _).sub (by decide))
  rcases m_runs_cases S x1 x2 x3 with e | ⟨e, -⟩
  · rw [e]; exact h2
  · rw [e]; exact h2.tr ((m_offGoes_eqx _ _ _).sub (by decide))
