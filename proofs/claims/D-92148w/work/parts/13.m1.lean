/-! PRINTED by gen/run_m1.py: the model, statics and first methods -/
set_option maxRecDepth 100000
def m_in (x1 : Int32) (x2 : Int32) (x3 : Int32) : Int32 := (if x1 < x2 then 0 else (if x3 < x1 then 0 else 1))
theorem m_in_b (x1 : Int32) (x2 : Int32) (x3 : Int32) : m_in x1 x2 x3 = 0 ∨ m_in x1 x2 x3 = 1 := by
  grind [m_in]
theorem m_in_eq {x1 : Int32} {x2 : Int32} {x3 : Int32} : m_in x1 x2 x3 = 0 ↔ ¬ (x2 ≤ x1 ∧ x1 ≤ x3) := by
  grind [m_in]
set_option maxHeartbeats 4000000 in
theorem st_m_in (l : Launch) (x1 : Int32) (x2 : Int32) (x3 : Int32) : SI l yX1_in cX1_in 3 .boolean (rm_ 0) [.int x1, .int x2, .int x3] (m_in x1 x2 x3) := by
  refine s_startI RX1 rfl (by decide) (Nat.le_of_ble_eq_true rfl) ?_
  intro p e s m av below meth c ls Q X hrt hlk hl hQ
  have hx := X.1
  have hb := X.2.1
  have hown := X.2.2.2.1
  have hts := X.2.2.2.2
  have hl : lv_has ls 3 [(0, .int x1), (1, .int x2), (2, .int x3)] := hl
  refine lv_iload_n hx hb dX1_in_0 rfl (lv_at hl 0 rfl) ?_
  refine lv_iload_n hx hb dX1_in_1 rfl (lv_at hl 1 rfl) ?_
  refine lv_icmp_lt (tgt := 14) hx hb dX1_in_2 (by decide) (fun c1 => ?_) (fun c1 => ?_)
  · refine lv_iconst (v := 0) hx hb dX1_in_14 (by decide) ?_
    exact s_ri (y := yX1_in) hx hb hrt (rfl) hlk hQ (Eq.symm (if_pos c1)) dX1_in_15
  · refine lv_iload_n hx hb dX1_in_5 rfl (lv_at hl 0 rfl) ?_
    refine lv_iload_n hx hb dX1_in_6 rfl (lv_at hl 2 rfl) ?_
    refine lv_icmp_gt (tgt := 14) hx hb dX1_in_7 (by decide) (fun c2 => ?_) (fun c2 => ?_)
    · refine lv_iconst (v := 0) hx hb dX1_in_14 (by decide) ?_
      exact s_ri (y := yX1_in) hx hb hrt (rfl) hlk hQ (Eq.symm (Eq.trans (if_neg c1) (if_pos c2))) dX1_in_15
    · refine lv_iconst (v := 1) hx hb dX1_in_10 (by decide) ?_
      refine lv_goto (tgt := 15) hx hb dX1_in_11 (by decide) ?_
      exact s_ri (y := yX1_in) hx hb hrt (rfl) hlk hQ (Eq.symm (Eq.trans (if_neg c1) (if_neg c2))) dX1_in_15
def m_isRow (x1 : Int32) : Int32 := (m_in x1 0 7)
theorem m_isRow_b (x1 : Int32) : m_isRow x1 = 0 ∨ m_isRow x1 = 1 := by
  grind [m_isRow, m_in]
theorem m_isRow_eq {x1 : Int32} : m_isRow x1 = 0 ↔ ¬ (0 ≤ x1 ∧ x1 ≤ 7) := by
  grind [m_isRow, m_in]
set_option maxHeartbeats 4000000 in
theorem st_m_isRow (l : Launch) (x1 : Int32) : SI l yX1_isRow cX1_isRow 1 .boolean (rm_ 1) [.int x1] (m_isRow x1) := by
  refine s_startI RX1 rfl (by decide) (Nat.le_of_ble_eq_true rfl) ?_
  intro p e s m av below meth c ls Q X hrt hlk hl hQ
  have hx := X.1
  have hb := X.2.1
  have hown := X.2.2.2.1
  have hts := X.2.2.2.2
  have hl : lv_has ls 1 [(0, .int x1)] := hl
  refine lv_iload_n hx hb dX1_isRow_0 rfl (lv_at hl 0 rfl) ?_
  refine lv_iconst (v := 0) hx hb dX1_isRow_1 (by decide) ?_
  refine lv_bipush (v := 7) hx hb dX1_isRow_2 (by decide) ?_
  refine s_ci X (st_m_in l x1 0 7) 3 (lw_S q1314 q1315 q59 q1316) ⟨rfl, rfl⟩ (by decide +kernel) ⟨by decide, by decide⟩ ⟨by decide, by decide⟩ rfl hl.1 rfl (Nat.le_of_ble_eq_true rfl) dX1_isRow_4 ?_
  exact s_ri (y := yX1_isRow) hx hb hrt (nz_ (m_in_b x1 0 7)) hlk hQ (Eq.symm rfl) dX1_isRow_7
def m_isNumber (x1 : Int32) : Int32 := (m_in x1 0 3)
theorem m_isNumber_b (x1 : Int32) : m_isNumber x1 = 0 ∨ m_isNumber x1 = 1 := by
  grind [m_isNumber, m_in]
theorem m_isNumber_eq {x1 : Int32} : m_isNumber x1 = 0 ↔ ¬ (0 ≤ x1 ∧ x1 ≤ 3) := by
  grind [m_isNumber, m_in]
set_option maxHeartbeats 4000000 in
theorem st_m_isNumber (l : Launch) (x1 : Int32) : SI l yX1_isNumber cX1_isNumber 1 .boolean (rm_ 1) [.int x1] (m_isNumber x1) := by
  refine s_startI RX1 rfl (by decide) (Nat.le_of_ble_eq_true rfl) ?_
  intro p e s m av below meth c ls Q X hrt hlk hl hQ
  have hx := X.1
  have hb := X.2.1
  have hown := X.2.2.2.1
  have hts := X.2.2.2.2
  have hl : lv_has ls 1 [(0, .int x1)] := hl
  refine lv_iload_n hx hb dX1_isNumber_0 rfl (lv_at hl 0 rfl) ?_
  refine lv_iconst (v := 0) hx hb dX1_isNumber_1 (by decide) ?_
  refine lv_iconst (v := 3) hx hb dX1_isNumber_2 (by decide) ?_
  refine s_ci X (st_m_in l x1 0 3) 3 (lw_S q1314 q1315 q59 q1316) ⟨rfl, rfl⟩ (by decide +kernel) ⟨by decide, by decide⟩ ⟨by decide, by decide⟩ rfl hl.1 rfl (Nat.le_of_ble_eq_true rfl) dX1_isNumber_3 ?_
  exact s_ri (y := yX1_isNumber) hx hb hrt (nz_ (m_in_b x1 0 3)) hlk hQ (Eq.symm rfl) dX1_isNumber_6
def m_isFault (x1 : Int32) (x2 : Int32) (x3 : Int32) : Int32 := (if x1 = 0 then 1 else (if x1 = 1 then (if (m_in x2 1 11) = 0 then 0 else (if (m_in x3 0 47) = 0 then 0 else 1)) else (if x1 = 2 then (if (m_in x2 1 12) = 0 then 0 else (if (m_in x3 0 24) = 0 then 0 else 1)) else (if x1 = 3 then (m_in x2 1 11) else (if x1 = 4 then (if (m_in x2 0 47) = 0 then 0 else (if (m_in x3 x2 47) = 0 then 0 else 1)) else 0)))))
theorem m_isFault_b (x1 : Int32) (x2 : Int32) (x3 : Int32) : m_isFault x1 x2 x3 = 0 ∨ m_isFault x1 x2 x3 = 1 := by
  grind [m_isFault, m_in]
set_option maxHeartbeats 4000000 in
theorem st_m_isFault (l : Launch) (x1 : Int32) (x2 : Int32) (x3 : Int32) : SI l yX1_isFault cX1_isFault 3 .boolean (rm_ 1) [.int x1, .int x2, .int x3] (m_isFault x1 x2 x3) := by
  refine s_startI RX1 rfl (by decide) (Nat.le_of_ble_eq_true rfl) ?_
  intro p e s m av below meth c ls Q X hrt hlk hl hQ
  have hx := X.1
  have hb := X.2.1
  have hown := X.2.2.2.1
  have hts := X.2.2.2.2
  have hl : lv_has ls 3 [(0, .int x1), (1, .int x2), (2, .int x3)] := hl
  refine lv_iload_n hx hb dX1_isFault_0 rfl (lv_at hl 0 rfl) ?_
  by_cases c1 : x1 = 0
  · refine lv_tableIn (off := 31) (tgt := 32) hx hb dX1_isFault_1 (by rw [c1]; decide) (by rw [c1]; decide) (by rw [c1]; rfl) (by decide) ?_
    refine lv_iconst (v := 1) hx hb dX1_isFault_32 (by decide) ?_
    exact s_ri (y := yX1_isFault) hx hb hrt (rfl) hlk hQ (Eq.symm (if_pos c1)) dX1_isFault_33
  · by_cases c2 : x1 = 1
    · refine lv_tableIn (off := 33) (tgt := 34) hx hb dX1_isFault_1 (by rw [c2]; decide) (by rw [c2]; decide) (by rw [c2]; rfl) (by decide) ?_
      refine lv_iload_n hx hb dX1_isFault_34 rfl (lv_at hl 1 rfl) ?_
      refine lv_iconst (v := 1) hx hb dX1_isFault_35 (by decide) ?_
      refine lv_bipush (v := 11) hx hb dX1_isFault_36 (by decide) ?_
      refine s_ci X (st_m_in l x2 1 11) 3 (lw_S q1314 q1315 q59 q1316) ⟨rfl, rfl⟩ (by decide +kernel) ⟨by decide, by decide⟩ ⟨by decide, by decide⟩ rfl hl.1 rfl (Nat.le_of_ble_eq_true rfl) dX1_isFault_38 ?_
      refine lv_if_eq (tgt := 58) hx hb dX1_isFault_41 (by decide) (fun c3 => ?_) (fun c3 => ?_)
      · refine lv_iconst (v := 0) hx hb dX1_isFault_58 (by decide) ?_
        exact s_ri (y := yX1_isFault) hx hb hrt (rfl) hlk hQ (Eq.symm (Eq.trans (if_neg c1) (Eq.trans (if_pos c2) (if_pos c3)))) dX1_isFault_59
      · refine lv_iload_n hx hb dX1_isFault_44 rfl (lv_at hl 2 rfl) ?_
        refine lv_iconst (v := 0) hx hb dX1_isFault_45 (by decide) ?_
        refine lv_bipush (v := 47) hx hb dX1_isFault_46 (by decide) ?_
        refine s_ci X (st_m_in l x3 0 47) 3 (lw_S q1314 q1315 q59 q1316) ⟨rfl, rfl⟩ (by decide +kernel) ⟨by decide, by decide⟩ ⟨by decide, by decide⟩ rfl hl.1 rfl (Nat.le_of_ble_eq_true rfl) dX1_isFault_48 ?_
        refine lv_if_eq (tgt := 58) hx hb dX1_isFault_51 (by decide) (fun c4 => ?_) (fun c4 => ?_)
        · refine lv_iconst (v := 0) hx hb dX1_isFault_58 (by decide) ?_
          exact s_ri (y := yX1_isFault) hx hb hrt (rfl) hlk hQ (Eq.symm (Eq.trans (if_neg c1) (Eq.trans (if_pos c2) (Eq.trans (if_neg c3) (if_pos c4))))) dX1_isFault_59
        · refine lv_iconst (v := 1) hx hb dX1_isFault_54 (by decide) ?_
          refine lv_goto (tgt := 59) hx hb dX1_isFault_55 (by decide) ?_
          exact s_ri (y := yX1_isFault) hx hb hrt (rfl) hlk hQ (Eq.symm (Eq.trans (if_neg c1) (Eq.trans (if_pos c2) (Eq.trans (if_neg c3) (if_neg c4))))) dX1_isFault_59
    · by_cases c5 : x1 = 2
      · refine lv_tableIn (off := 59) (tgt := 60) hx hb dX1_isFault_1 (by rw [c5]; decide) (by rw [c5]; decide) (by rw [c5]; rfl) (by decide) ?_
        refine lv_iload_n hx hb dX1_isFault_60 rfl (lv_at hl 1 rfl) ?_
        refine lv_iconst (v := 1) hx hb dX1_isFault_61 (by decide) ?_
        refine lv_bipush (v := 12) hx hb dX1_isFault_62 (by decide) ?_
        refine s_ci X (st_m_in l x2 1 12) 3 (lw_S q1314 q1315 q59 q1316) ⟨rfl, rfl⟩ (by decide +kernel) ⟨by decide, by decide⟩ ⟨by decide, by decide⟩ rfl hl.1 rfl (Nat.le_of_ble_eq_true rfl) dX1_isFault_64 ?_
        refine lv_if_eq (tgt := 84) hx hb dX1_isFault_67 (by decide) (fun c6 => ?_) (fun c6 => ?_)
        · refine lv_iconst (v := 0) hx hb dX1_isFault_84 (by decide) ?_
          exact s_ri (y := yX1_isFault) hx hb hrt (rfl) hlk hQ (Eq.symm (Eq.trans (if_neg c1) (Eq.trans (if_neg c2) (Eq.trans (if_pos c5) (if_pos c6))))) dX1_isFault_85
        · refine lv_iload_n hx hb dX1_isFault_70 rfl (lv_at hl 2 rfl) ?_
          refine lv_iconst (v := 0) hx hb dX1_isFault_71 (by decide) ?_
          refine lv_bipush (v := 24) hx hb dX1_isFault_72 (by decide) ?_
          refine s_ci X (st_m_in l x3 0 24) 3 (lw_S q1314 q1315 q59 q1316) ⟨rfl, rfl⟩ (by decide +kernel) ⟨by decide, by decide⟩ ⟨by decide, by decide⟩ rfl hl.1 rfl (Nat.le_of_ble_eq_true rfl) dX1_isFault_74 ?_
          refine lv_if_eq (tgt := 84) hx hb dX1_isFault_77 (by decide) (fun c7 => ?_) (fun c7 => ?_)
          · refine lv_iconst (v := 0) hx hb dX1_isFault_84 (by decide) ?_
            exact s_ri (y := yX1_isFault) hx hb hrt (rfl) hlk hQ (Eq.symm (Eq.trans (if_neg c1) (Eq.trans (if_neg c2) (Eq.trans (if_pos c5) (Eq.trans (if_neg c6) (if_pos c7)))))) dX1_isFault_85
          · refine lv_iconst (v := 1) hx hb dX1_isFault_80 (by decide) ?_
            refine lv_goto (tgt := 85) hx hb dX1_isFault_81 (by decide) ?_
            exact s_ri (y := yX1_isFault) hx hb hrt (rfl) hlk hQ (Eq.symm (Eq.trans (if_neg c1) (Eq.trans (if_neg c2) (Eq.trans (if_pos c5) (Eq.trans (if_neg c6) (if_neg c7)))))) dX1_isFault_85
      · by_cases c8 : x1 = 3
        · refine lv_tableIn (off := 85) (tgt := 86) hx hb dX1_isFault_1 (by rw [c8]; decide) (by rw [c8]; decide) (by rw [c8]; rfl) (by decide) ?_
          refine lv_iload_n hx hb dX1_isFault_86 rfl (lv_at hl 1 rfl) ?_
          refine lv_iconst (v := 1) hx hb dX1_isFault_87 (by decide) ?_
          refine lv_bipush (v := 11) hx hb dX1_isFault_88 (by decide) ?_
          refine s_ci X (st_m_in l x2 1 11) 3 (lw_S q1314 q1315 q59 q1316) ⟨rfl, rfl⟩ (by decide +kernel) ⟨by decide, by decide⟩ ⟨by decide, by decide⟩ rfl hl.1 rfl (Nat.le_of_ble_eq_true rfl) dX1_isFault_90 ?_
          exact s_ri (y := yX1_isFault) hx hb hrt (nz_ (m_in_b x2 1 11)) hlk hQ (Eq.symm (Eq.trans (if_neg c1) (Eq.trans (if_neg c2) (Eq.trans (if_neg c5) (if_pos c8))))) dX1_isFault_93
        · refine lv_tableOut (tgt := 94) hx hb dX1_isFault_1 (sw_out _ _ _ (fun k hk => by match k, hk with | 0, _ => exact c1 | 1, _ => exact c2 | 2, _ => exact c5 | 3, _ => exact c8)) (by decide) ?_
          refine lv_iload_n hx hb dX1_isFault_94 rfl (lv_at hl 0 rfl) ?_
          refine lv_iconst (v := 4) hx hb dX1_isFault_95 (by decide) ?_
          refine lv_icmp_ne (tgt := 123) hx hb dX1_isFault_96 (by decide) (fun c9 => ?_) (fun c9 => ?_)
          · refine lv_iconst (v := 0) hx hb dX1_isFault_123 (by decide) ?_
            exact s_ri (y := yX1_isFault) hx hb hrt (rfl) hlk hQ (Eq.symm (Eq.trans (if_neg c1) (Eq.trans (if_neg c2) (Eq.trans (if_neg c5) (Eq.trans (if_neg c8) (if_neg c9)))))) dX1_isFault_124
          · refine lv_iload_n hx hb dX1_isFault_99 rfl (lv_at hl 1 rfl) ?_
            refine lv_iconst (v := 0) hx hb dX1_isFault_100 (by decide) ?_
            refine lv_bipush (v := 47) hx hb dX1_isFault_101 (by decide) ?_
            refine s_ci X (st_m_in l x2 0 47) 3 (lw_S q1314 q1315 q59 q1316) ⟨rfl, rfl⟩ (by decide +kernel) ⟨by decide, by decide⟩ ⟨by decide, by decide⟩ rfl hl.1 rfl (Nat.le_of_ble_eq_true rfl) dX1_isFault_103 ?_
            refine lv_if_eq (tgt := 123) hx hb dX1_isFault_106 (by decide) (fun c10 => ?_) (fun c10 => ?_)
            · refine lv_iconst (v := 0) hx hb dX1_isFault_123 (by decide) ?_
              exact s_ri (y := yX1_isFault) hx hb hrt (rfl) hlk hQ (Eq.symm (Eq.trans (if_neg c1) (Eq.trans (if_neg c2) (Eq.trans (if_neg c5) (Eq.trans (if_neg c8) (Eq.trans (if_pos c9) (if_pos c10))))))) dX1_isFault_124
            · refine lv_iload_n hx hb dX1_isFault_109 rfl (lv_at hl 2 rfl) ?_
              refine lv_iload_n hx hb dX1_isFault_110 rfl (lv_at hl 1 rfl) ?_
              refine lv_bipush (v := 47) hx hb dX1_isFault_111 (by decide) ?_
              refine s_ci X (st_m_in l x3 x2 47) 3 (lw_S q1314 q1315 q59 q1316) ⟨rfl, rfl⟩ (by decide +kernel) ⟨by decide, by decide⟩ ⟨by decide, by decide⟩ rfl hl.1 rfl (Nat.le_of_ble_eq_true rfl) dX1_isFault_113 ?_
              refine lv_if_eq (tgt := 123) hx hb dX1_isFault_116 (by decide) (fun c11 => ?_) (fun c11 => ?_)
              · refine lv_iconst (v := 0) hx hb dX1_isFault_123 (by decide) ?_
                exact s_ri (y := yX1_isFault) hx hb hrt (rfl) hlk hQ (Eq.symm (Eq.trans (if_neg c1) (Eq.trans (if_neg c2) (Eq.trans (if_neg c5) (Eq.trans (if_neg c8) (Eq.trans (if_pos c9) (Eq.trans (if_neg c10) (if_pos c11)))))))) dX1_isFault_124
              · refine lv_iconst (v := 1) hx hb dX1_isFault_119 (by decide) ?_
                refine lv_goto (tgt := 124) hx hb dX1_isFault_120 (by decide) ?_
                exact s_ri (y := yX1_isFault) hx hb hrt (rfl) hlk hQ (Eq.symm (Eq.trans (if_neg c1) (Eq.trans (if_neg c2) (Eq.trans (if_neg c5) (Eq.trans (if_neg c8) (Eq.trans (if_pos c9) (Eq.trans (if_neg c10) (if_neg c11)))))))) dX1_isFault_124
def m_dueAt_v10 (x1 : Int32) (x2 : Int32) : Int32 := ((((x1 - 1) + x2) - ((x1 - 1) + x2) / 12 * 12) + 1)
def m_dueAt (x1 : Int32) (x2 : Int32) (x3 : Int32) (x4 : Int32) (x5 : Int32) : Int32 := (if x3 = 1 then (if x5 ≤ x2 then (((((m_dueAt_v10 x1 x2) - 1) + x4) - (((m_dueAt_v10 x1 x2) - 1) + x4) / 12 * 12) + 1) else (m_dueAt_v10 x1 x2)) else (if x3 = 2 then (if (m_dueAt_v10 x1 x2) = x4 then x5 else (m_dueAt_v10 x1 x2)) else (if x3 = 3 then (if (m_dueAt_v10 x1 x2) ≤ x4 then 0 else ((m_dueAt_v10 x1 x2) - x4)) else (if x3 = 4 then (if (m_in x2 x4 x5) = 0 then (m_dueAt_v10 x1 x2) else 0) else (m_dueAt_v10 x1 x2)))))
set_option maxHeartbeats 4000000 in
theorem st_m_dueAt (l : Launch) (x1 : Int32) (x2 : Int32) (x3 : Int32) (x4 : Int32) (x5 : Int32) : SI l yX1_dueAt cX1_dueAt 6 .int (rm_ 1) [.int x1, .int x2, .int x3, .int x4, .int x5] (m_dueAt x1 x2 x3 x4 x5) := by
  refine s_startI RX1 rfl (by decide) (Nat.le_of_ble_eq_true rfl) ?_
  intro p e s m av below meth c ls Q X hrt hlk hl hQ
  have hx := X.1
  have hb := X.2.1
  have hown := X.2.2.2.1
  have hts := X.2.2.2.2
  have hl : lv_has ls 6 [(0, .int x1), (1, .int x2), (2, .int x3), (3, .int x4), (4, .int x5)] := hl
  refine lv_iload_n hx hb dX1_dueAt_0 rfl (lv_at hl 0 rfl) ?_
  refine lv_iconst (v := 1) hx hb dX1_dueAt_1 (by decide) ?_
  refine lv_isub hx hb dX1_dueAt_2 ?_
  refine lv_iload_n hx hb dX1_dueAt_3 rfl (lv_at hl 1 rfl) ?_
  refine lv_iadd hx hb dX1_dueAt_4 ?_
  refine lv_bipush (v := 12) hx hb dX1_dueAt_5 (by decide) ?_
  refine lv_irem hx hb dX1_dueAt_7 (by decide) ?_
  refine lv_iconst (v := 1) hx hb dX1_dueAt_8 (by decide) ?_
  refine lv_iadd hx hb dX1_dueAt_9 ?_
  refine lv_istore (lv' := [(5, .int (m_dueAt_v10 x1 x2)), (0, .int x1), (1, .int x2), (2, .int x3), (3, .int x4), (4, .int x5)]) hx hb dX1_dueAt_10 hl (by decide) rfl (fun ls hl => ?_)
  refine lv_iload_n hx hb dX1_dueAt_12 rfl (lv_at hl 3 rfl) ?_
  by_cases c1 : x3 = 1
  · refine lv_tableIn (off := 31) (tgt := 44) hx hb dX1_dueAt_13 (by rw [c1]; decide) (by rw [c1]; decide) (by rw [c1]; rfl) (by decide) ?_
    refine lv_iload_n hx hb dX1_dueAt_44 rfl (lv_at hl 2 rfl) ?_
    refine lv_iload hx hb dX1_dueAt_45 (lv_at hl 5 rfl) ?_
    refine lv_icmp_ge (tgt := 55) hx hb dX1_dueAt_47 (by decide) (fun c2 => ?_) (fun c2 => ?_)
    · refine lv_iload hx hb dX1_dueAt_55 (lv_at hl 0 rfl) ?_
      refine lv_iconst (v := 1) hx hb dX1_dueAt_57 (by decide) ?_
      refine lv_isub hx hb dX1_dueAt_58 ?_
      refine lv_iload_n hx hb dX1_dueAt_59 rfl (lv_at hl 4 rfl) ?_
      refine lv_iadd hx hb dX1_dueAt_60 ?_
      refine lv_bipush (v := 12) hx hb dX1_dueAt_61 (by decide) ?_
      refine lv_irem hx hb dX1_dueAt_63 (by decide) ?_
      refine lv_iconst (v := 1) hx hb dX1_dueAt_64 (by decide) ?_
      refine lv_iadd hx hb dX1_dueAt_65 ?_
      exact s_ri (y := yX1_dueAt) hx hb hrt (rfl) hlk hQ (Eq.symm (Eq.trans (if_pos c1) (if_pos c2))) dX1_dueAt_66
    · refine lv_iload hx hb dX1_dueAt_50 (lv_at hl 0 rfl) ?_
      refine lv_goto (tgt := 66) hx hb dX1_dueAt_52 (by decide) ?_
      exact s_ri (y := yX1_dueAt) hx hb hrt (rfl) hlk hQ (Eq.symm (Eq.trans (if_pos c1) (if_neg c2))) dX1_dueAt_66
  · by_cases c3 : x3 = 2
    · refine lv_tableIn (off := 54) (tgt := 67) hx hb dX1_dueAt_13 (by rw [c3]; decide) (by rw [c3]; decide) (by rw [c3]; rfl) (by decide) ?_
      refine lv_iload hx hb dX1_dueAt_67 (lv_at hl 0 rfl) ?_
      refine lv_iload_n hx hb dX1_dueAt_69 rfl (lv_at hl 4 rfl) ?_
      refine lv_icmp_ne (tgt := 78) hx hb dX1_dueAt_70 (by decide) (fun c4 => ?_) (fun c4 => ?_)
      · refine lv_iload hx hb dX1_dueAt_78 (lv_at hl 0 rfl) ?_
        exact s_ri (y := yX1_dueAt) hx hb hrt (rfl) hlk hQ (Eq.symm (Eq.trans (if_neg c1) (Eq.trans (if_pos c3) (if_neg c4)))) dX1_dueAt_80
      · refine lv_iload hx hb dX1_dueAt_73 (lv_at hl 5 rfl) ?_
        refine lv_goto (tgt := 80) hx hb dX1_dueAt_75 (by decide) ?_
        exact s_ri (y := yX1_dueAt) hx hb hrt (rfl) hlk hQ (Eq.symm (Eq.trans (if_neg c1) (Eq.trans (if_pos c3) (if_pos c4)))) dX1_dueAt_80
    · by_cases c5 : x3 = 3
      · refine lv_tableIn (off := 68) (tgt := 81) hx hb dX1_dueAt_13 (by rw [c5]; decide) (by rw [c5]; decide) (by rw [c5]; rfl) (by decide) ?_
        refine lv_iload hx hb dX1_dueAt_81 (lv_at hl 0 rfl) ?_
        refine lv_iload_n hx hb dX1_dueAt_83 rfl (lv_at hl 4 rfl) ?_
        refine lv_icmp_le (tgt := 94) hx hb dX1_dueAt_84 (by decide) (fun c6 => ?_) (fun c6 => ?_)
        · refine lv_iconst (v := 0) hx hb dX1_dueAt_94 (by decide) ?_
          exact s_ri (y := yX1_dueAt) hx hb hrt (rfl) hlk hQ (Eq.symm (Eq.trans (if_neg c1) (Eq.trans (if_neg c3) (Eq.trans (if_pos c5) (if_pos c6))))) dX1_dueAt_95
        · refine lv_iload hx hb dX1_dueAt_87 (lv_at hl 0 rfl) ?_
          refine lv_iload_n hx hb dX1_dueAt_89 rfl (lv_at hl 4 rfl) ?_
          refine lv_isub hx hb dX1_dueAt_90 ?_
          refine lv_goto (tgt := 95) hx hb dX1_dueAt_91 (by decide) ?_
          exact s_ri (y := yX1_dueAt) hx hb hrt (rfl) hlk hQ (Eq.symm (Eq.trans (if_neg c1) (Eq.trans (if_neg c3) (Eq.trans (if_pos c5) (if_neg c6))))) dX1_dueAt_95
      · by_cases c7 : x3 = 4
        · refine lv_tableIn (off := 83) (tgt := 96) hx hb dX1_dueAt_13 (by rw [c7]; decide) (by rw [c7]; decide) (by rw [c7]; rfl) (by decide) ?_
          refine lv_iload_n hx hb dX1_dueAt_96 rfl (lv_at hl 2 rfl) ?_
          refine lv_iload_n hx hb dX1_dueAt_97 rfl (lv_at hl 4 rfl) ?_
          refine lv_iload hx hb dX1_dueAt_98 (lv_at hl 5 rfl) ?_
          refine s_ci X (st_m_in l x2 x4 x5) 3 (lw_S q1314 q1315 q59 q1316) ⟨rfl, rfl⟩ (by decide +kernel) ⟨by decide, by decide⟩ ⟨by decide, by decide⟩ rfl hl.1 rfl (Nat.le_of_ble_eq_true rfl) dX1_dueAt_100 ?_
          refine lv_if_eq (tgt := 110) hx hb dX1_dueAt_103 (by decide) (fun c8 => ?_) (fun c8 => ?_)
          · refine lv_iload hx hb dX1_dueAt_110 (lv_at hl 0 rfl) ?_
            exact s_ri (y := yX1_dueAt) hx hb hrt (rfl) hlk hQ (Eq.symm (Eq.trans (if_neg c1) (Eq.trans (if_neg c3) (Eq.trans (if_neg c5) (Eq.trans (if_pos c7) (if_pos c8)))))) dX1_dueAt_112
          · refine lv_iconst (v := 0) hx hb dX1_dueAt_106 (by decide) ?_
            refine lv_goto (tgt := 112) hx hb dX1_dueAt_107 (by decide) ?_
            exact s_ri (y := yX1_dueAt) hx hb hrt (rfl) hlk hQ (Eq.symm (Eq.trans (if_neg c1) (Eq.trans (if_neg c3) (Eq.trans (if_neg c5) (Eq.trans (if_pos c7) (if_neg c8)))))) dX1_dueAt_112
        · refine lv_tableOut (tgt := 113) hx hb dX1_dueAt_13 (sw_out _ _ _ (fun k hk => by match k, hk with | 0, _ => exact c1 | 1, _ => exact c3 | 2, _ => exact c5 | 3, _ => exact c7)) (by decide) ?_
          refine lv_iload hx hb dX1_dueAt_113 (lv_at hl 0 rfl) ?_
          exact s_ri (y := yX1_dueAt) hx hb hrt (rfl) hlk hQ (Eq.symm (Eq.trans (if_neg c1) (Eq.trans (if_neg c3) (Eq.trans (if_neg c5) (if_neg c7))))) dX1_dueAt_115
def m_after (x1 : Int32) (x2 : Int32) : Int32 := (if x2 = 0 then ((12 * (((x1 / 12) + 1) - ((x1 / 12) + 1) / 12 * 12)) + (x1 - x1 / 12 * 12)) else (if x2 = 1 then ((12 * (((x1 / 12) + 1) - ((x1 / 12) + 1) / 12 * 12)) + (((x1 - x1 / 12 * 12) + 1) - ((x1 - x1 / 12 * 12) + 1) / 12 * 12)) else ((12 * (x1 / 12)) + (((x1 - x1 / 12 * 12) + 11) - ((x1 - x1 / 12 * 12) + 11) / 12 * 12))))
set_option maxHeartbeats 4000000 in
theorem st_m_after (l : Launch) (x1 : Int32) (x2 : Int32) : SI l yX1_after cX1_after 4 .int (rm_ 0) [.int x1, .int x2] (m_after x1 x2) := by
  refine s_startI RX1 rfl (by decide) (Nat.le_of_ble_eq_true rfl) ?_
  intro p e s m av below meth c ls Q X hrt hlk hl hQ
  have hx := X.1
  have hb := X.2.1
  have hown := X.2.2.2.1
  have hts := X.2.2.2.2
  have hl : lv_has ls 4 [(0, .int x1), (1, .int x2)] := hl
  refine lv_iload_n hx hb dX1_after_0 rfl (lv_at hl 0 rfl) ?_
  refine lv_bipush (v := 12) hx hb dX1_after_1 (by decide) ?_
  refine lv_idiv hx hb dX1_after_3 (by decide) ?_
  refine lv_istore_n (lv' := [(2, .int (x1 / 12)), (0, .int x1), (1, .int x2)]) hx hb dX1_after_4 rfl hl (by decide) rfl (fun ls hl => ?_)
  refine lv_iload_n hx hb dX1_after_5 rfl (lv_at hl 1 rfl) ?_
  refine lv_bipush (v := 12) hx hb dX1_after_6 (by decide) ?_
  refine lv_irem hx hb dX1_after_8 (by decide) ?_
  refine lv_istore_n (lv' := [(3, .int (x1 - x1 / 12 * 12)), (2, .int (x1 / 12)), (0, .int x1), (1, .int x2)]) hx hb dX1_after_9 rfl hl (by decide) rfl (fun ls hl => ?_)
  refine lv_iload_n hx hb dX1_after_10 rfl (lv_at hl 3 rfl) ?_
  refine lv_if_ne (tgt := 28) hx hb dX1_after_11 (by decide) (fun c1 => ?_) (fun c1 => ?_)
  · refine lv_iload_n hx hb dX1_after_28 rfl (lv_at hl 3 rfl) ?_
    refine lv_iconst (v := 1) hx hb dX1_after_29 (by decide) ?_
    refine lv_icmp_ne (tgt := 52) hx hb dX1_after_30 (by decide) (fun c2 => ?_) (fun c2 => ?_)
    · refine lv_bipush (v := 12) hx hb dX1_after_52 (by decide) ?_
      refine lv_iload_n hx hb dX1_after_54 rfl (lv_at hl 1 rfl) ?_
      refine lv_imul hx hb dX1_after_55 ?_
      refine lv_iload_n hx hb dX1_after_56 rfl (lv_at hl 0 rfl) ?_
      refine lv_bipush (v := 11) hx hb dX1_after_57 (by decide) ?_
      refine lv_iadd hx hb dX1_after_59 ?_
      refine lv_bipush (v := 12) hx hb dX1_after_60 (by decide) ?_
      refine lv_irem hx hb dX1_after_62 (by decide) ?_
      refine lv_iadd hx hb dX1_after_63 ?_
      exact s_ri (y := yX1_after) hx hb hrt (rfl) hlk hQ (Eq.symm (Eq.trans (if_neg c1) (if_neg c2))) dX1_after_64
    · refine lv_bipush (v := 12) hx hb dX1_after_33 (by decide) ?_
      refine lv_iload_n hx hb dX1_after_35 rfl (lv_at hl 1 rfl) ?_
      refine lv_iconst (v := 1) hx hb dX1_after_36 (by decide) ?_
      refine lv_iadd hx hb dX1_after_37 ?_
      refine lv_bipush (v := 12) hx hb dX1_after_38 (by decide) ?_
      refine lv_irem hx hb dX1_after_40 (by decide) ?_
      refine lv_imul hx hb dX1_after_41 ?_
      refine lv_iload_n hx hb dX1_after_42 rfl (lv_at hl 0 rfl) ?_
      refine lv_iconst (v := 1) hx hb dX1_after_43 (by decide) ?_
      refine lv_iadd hx hb dX1_after_44 ?_
      refine lv_bipush (v := 12) hx hb dX1_after_45 (by decide) ?_
      refine lv_irem hx hb dX1_after_47 (by decide) ?_
      refine lv_iadd hx hb dX1_after_48 ?_
      refine lv_goto (tgt := 64) hx hb dX1_after_49 (by decide) ?_
      exact s_ri (y := yX1_after) hx hb hrt (rfl) hlk hQ (Eq.symm (Eq.trans (if_neg c1) (if_pos c2))) dX1_after_64
  · refine lv_bipush (v := 12) hx hb dX1_after_14 (by decide) ?_
    refine lv_iload_n hx hb dX1_after_16 rfl (lv_at hl 1 rfl) ?_
    refine lv_iconst (v := 1) hx hb dX1_after_17 (by decide) ?_
    refine lv_iadd hx hb dX1_after_18 ?_
    refine lv_bipush (v := 12) hx hb dX1_after_19 (by decide) ?_
    refine lv_irem hx hb dX1_after_21 (by decide) ?_
    refine lv_imul hx hb dX1_after_22 ?_
    refine lv_iload_n hx hb dX1_after_23 rfl (lv_at hl 0 rfl) ?_
    refine lv_iadd hx hb dX1_after_24 ?_
    refine lv_goto (tgt := 64) hx hb dX1_after_25 (by decide) ?_
    exact s_ri (y := yX1_after) hx hb hrt (rfl) hlk hQ (Eq.symm (if_pos c1)) dX1_after_64
def m_hourOf (x1 : Int32) : Int32 := ((((x1 / 60) + 11) - ((x1 / 60) + 11) / 12 * 12) + 1)
set_option maxHeartbeats 4000000 in
theorem st_m_hourOf (l : Launch) (x1 : Int32) : SI l yX1_hourOf cX1_hourOf 1 .int (rm_ 0) [.int x1] (m_hourOf x1) := by
  refine s_startI RX1 rfl (by decide) (Nat.le_of_ble_eq_true rfl) ?_
  intro p e s m av below meth c ls Q X hrt hlk hl hQ
  have hx := X.1
  have hb := X.2.1
  have hown := X.2.2.2.1
  have hts := X.2.2.2.2
  have hl : lv_has ls 1 [(0, .int x1)] := hl
  refine lv_iload_n hx hb dX1_hourOf_0 rfl (lv_at hl 0 rfl) ?_
  refine lv_bipush (v := 60) hx hb dX1_hourOf_1 (by decide) ?_
  refine lv_idiv hx hb dX1_hourOf_3 (by decide) ?_
  refine lv_bipush (v := 11) hx hb dX1_hourOf_4 (by decide) ?_
  refine lv_iadd hx hb dX1_hourOf_6 ?_
  refine lv_bipush (v := 12) hx hb dX1_hourOf_7 (by decide) ?_
  refine lv_irem hx hb dX1_hourOf_9 (by decide) ?_
  refine lv_iconst (v := 1) hx hb dX1_hourOf_10 (by decide) ?_
  refine lv_iadd hx hb dX1_hourOf_11 ?_
  exact s_ri (y := yX1_hourOf) hx hb hrt (rfl) hlk hQ (Eq.symm rfl) dX1_hourOf_12
def m_placeOf (x1 : Int32) (x2 : Int32) : Int32 := (if x2 = 0 then ((2 * x1) + 0) else ((2 * x1) + 1))
set_option maxHeartbeats 4000000 in
theorem st_m_placeOf (l : Launch) (x1 : Int32) (x2 : Int32) : SI l yX1_placeOf cX1_placeOf 2 .int (rm_ 0) [.int x1, .int x2] (m_placeOf x1 x2) := by
  refine s_startI RX1 rfl (by decide) (Nat.le_of_ble_eq_true rfl) ?_
  intro p e s m av below meth c ls Q X hrt hlk hl hQ
  have hx := X.1
  have hb := X.2.1
  have hown := X.2.2.2.1
  have hts := X.2.2.2.2
  have hl : lv_has ls 2 [(0, .int x1), (1, .int x2)] := hl
  refine lv_iconst (v := 2) hx hb dX1_placeOf_0 (by decide) ?_
  refine lv_iload_n hx hb dX1_placeOf_1 rfl (lv_at hl 0 rfl) ?_
  refine lv_imul hx hb dX1_placeOf_2 ?_
  refine lv_iload_n hx hb dX1_placeOf_3 rfl (lv_at hl 1 rfl) ?_
  refine lv_if_eq (tgt := 11) hx hb dX1_placeOf_4 (by decide) (fun c1 => ?_) (fun c1 => ?_)
  · refine lv_iconst (v := 0) hx hb dX1_placeOf_11 (by decide) ?_
    refine lv_iadd hx hb dX1_placeOf_12 ?_
    exact s_ri (y := yX1_placeOf) hx hb hrt (rfl) hlk hQ (Eq.symm (if_pos c1)) dX1_placeOf_13
  · refine lv_iconst (v := 1) hx hb dX1_placeOf_7 (by decide) ?_
    refine lv_goto (tgt := 12) hx hb dX1_placeOf_8 (by decide) ?_
    refine lv_iadd hx hb dX1_placeOf_12 ?_
    exact s_ri (y := yX1_placeOf) hx hb hrt (rfl) hlk hQ (Eq.symm (if_neg c1)) dX1_placeOf_13
def m_differs (x1 : Int64) (x2 : Int64) (x3 : Int64) (x4 : Int64) : Int64 := (if 0 ≤ ((x1 * x4) - (x3 * x2)) then ((x1 * x4) - (x3 * x2)) else (-((x1 * x4) - (x3 * x2))))
set_option maxHeartbeats 4000000 in
theorem st_m_differs (l : Launch) (x1 : Int64) (x2 : Int64) (x3 : Int64) (x4 : Int64) : SL l yX1_differs cX1_differs 10 (rm_ 0) [.long x1, .long x2, .long x3, .long x4] (m_differs x1 x2 x3 x4) := by
  refine s_startL RX1 rfl (by decide) (Nat.le_of_ble_eq_true rfl) ?_
  intro p e s m av below meth c ls Q X hrt hlk hl hQ
  have hx := X.1
  have hb := X.2.1
  have hown := X.2.2.2.1
  have hts := X.2.2.2.2
  have hl : lv_has ls 10 [(0, .long x1), (2, .long x2), (4, .long x3), (6, .long x4)] := hl
  refine lv_lload_n hx hb dX1_differs_0 rfl (lv_at hl 0 rfl) ?_
  refine lv_lload hx hb dX1_differs_1 (lv_at hl 3 rfl) ?_
  refine lv_lmul hx hb dX1_differs_3 ?_
  refine lv_lload hx hb dX1_differs_4 (lv_at hl 2 rfl) ?_
  refine lv_lload_n hx hb dX1_differs_6 rfl (lv_at hl 1 rfl) ?_
  refine lv_lmul hx hb dX1_differs_7 ?_
  refine lv_lsub hx hb dX1_differs_8 ?_
  refine lv_lstore (lv' := [(8, .long ((x1 * x4) - (x3 * x2))), (0, .long x1), (2, .long x2), (4, .long x3), (6, .long x4)]) hx hb dX1_differs_9 hl (by decide) rfl (fun ls hl => ?_)
  refine lv_lload hx hb dX1_differs_11 (lv_at hl 0 rfl) ?_
  refine lv_lconst (v := 0) hx hb dX1_differs_13 (by decide) ?_
  refine hl_ge (tgt := 24) hx hb dX1_differs_14 dX1_differs_15 (by decide) (fun c1 => ?_) (fun c1 => ?_)
  · refine lv_lload hx hb dX1_differs_24 (lv_at hl 0 rfl) ?_
    exact s_rl (y := yX1_differs) hx hb hrt hlk hQ (Eq.symm (if_pos c1)) dX1_differs_26
  · refine lv_lload hx hb dX1_differs_18 (lv_at hl 0 rfl) ?_
    refine lv_lneg hx hb dX1_differs_20 ?_
    refine lv_goto (tgt := 26) hx hb dX1_differs_21 (by decide) ?_
    exact s_rl (y := yX1_differs) hx hb hrt hlk hQ (Eq.symm (if_neg c1)) dX1_differs_26
def m_meets (S : MS) (x1 : Int32) : Int32 × MS := ((-3), (mu (mu S 0 0 x1) 1 (Int32.toNatClampNeg x1) ((S.1 1 (Int32.toNatClampNeg x1)) + 1)))
set_option maxHeartbeats 4000000 in
theorem mt_meets (l : Launch) (D : va_G) (d : Nat → ClassId) (A : Nat → Prop) (a : Nat → Nat) (S : MS) (x1 : Int32) (h1 : 0 ≤ x1 ∧ x1 < 6) : MI l yX1_meets cX1_meets 2 .int (rm_ 0) D d A a S [.int x1] (m_meets S x1) := by
  refine m_startI rfl (Nat.le_of_ble_eq_true rfl) ?_
  intro p e s m av below meth c ls Q X hrt hlk hl hR hQ
  have hx := X.1.1
  have hb := X.1.2.1
  have hown := X.1.2.2.2.1
  have hts := X.1.2.2.2.2
  have hS : va_S A s.heap s.heap [] := va_S.rf
  have hl : lv_has ls 2 [(0, .ref (a 0)), (1, .int x1)] := hl
  refine lv_aload_n hx hb dX1_meets_0 rfl (lv_at hl 0 rfl) ?_
  refine lv_iload_n hx hb dX1_meets_1 rfl (lv_at hl 1 rfl) ?_
  refine mp_i X hR hS 0 (by decide) rfl rfl rfl q1137 dX1_meets_2 (fun H locs hR hS => ?_)
  refine lv_aload_n hx hb dX1_meets_5 rfl (lv_at hl 0 rfl) ?_
  refine mg_a X hR 1 (by decide) (by decide) q1138 dX1_meets_6 ?_
  refine lv_iload_n hx hb dX1_meets_9 rfl (lv_at hl 1 rfl) ?_
  refine lv_dup2_11 hx hb dX1_meets_10 rfl rfl ?_
  refine m_ld X hR ⟨by decide, rfl, by decide⟩ (ixl 6 6 (by decide) rfl (h1)) (v := S.1 1 (Int32.toNatClampNeg x1)) ((mu_k _ (by decide) _ _ _).trans rfl) dX1_meets_11 ?_
  refine lv_iconst (v := 1) hx hb dX1_meets_12 (by decide) ?_
  refine lv_iadd hx hb dX1_meets_13 ?_
  refine m_st X hR hS ⟨by decide, rfl, by decide⟩ (ixl 6 6 (by decide) rfl (h1)) dX1_meets_14 (fun H locs hR hS => ?_)
  refine lv_bipush (v := (-3)) hx hb dX1_meets_15 (by decide) ?_
  exact m_ri hx hb hrt (rfl) hlk hR hS hQ rfl dX1_meets_17
theorem m_looked_o2 (x1 : Int32) (c1 : ¬ (m_isRow x1) = 0) : 0 ≤ x1 ∧ x1 < 8 := by 
  try simp only [m_in_eq, m_isRow_eq] at *
  try simp only [i_le, i_lt, i_eq, Int32.reduceToInt] at *
  try simp only [Int32.reduceToInt] at *
  omega
def m_looked (S : MS) (x1 : Int32) : Int32 × MS := (if (m_isRow x1) = 0 then ((-1), S) else (if 0 ≤ (S.1 7 (Int32.toNatClampNeg x1)) then (0, S) else ((m_meets S 1).1, (m_meets S 1).2)))
set_option maxHeartbeats 4000000 in
theorem mt_looked (l : Launch) (D : va_G) (d : Nat → ClassId) (A : Nat → Prop) (a : Nat → Nat) (S : MS) (x1 : Int32) : MI l yX1_looked cX1_looked 2 .int (rm_ 2) D d A a S [.int x1] (m_looked S x1) := by
  refine m_startI rfl (Nat.le_of_ble_eq_true rfl) ?_
  intro p e s m av below meth c ls Q X hrt hlk hl hR hQ
  have hx := X.1.1
  have hb := X.1.2.1
  have hown := X.1.2.2.2.1
  have hts := X.1.2.2.2.2
  have hS : va_S A s.heap s.heap [] := va_S.rf
  have hl : lv_has ls 2 [(0, .ref (a 0)), (1, .int x1)] := hl
  refine lv_iload_n hx hb dX1_looked_0 rfl (lv_at hl 1 rfl) ?_
  refine s_ci X.1 (st_m_isRow l x1) 1 (lw_S q1311 q1312 q59 q1313) ⟨rfl, rfl⟩ (by decide +kernel) ⟨by decide, by decide⟩ ⟨by decide, by decide⟩ rfl hl.1 rfl (Nat.le_of_ble_eq_true rfl) dX1_looked_1 ?_
  refine lv_if_ne (tgt := 11) hx hb dX1_looked_4 (by decide) (fun c1 => ?_) (fun c1 => ?_)
  · refine lv_aload_n hx hb dX1_looked_11 rfl (lv_at hl 0 rfl) ?_
    refine mg_a X hR 7 (by decide) (by decide) q1144 dX1_looked_12 ?_
    refine lv_iload_n hx hb dX1_looked_15 rfl (lv_at hl 1 rfl) ?_
    refine m_ld X hR ⟨by decide, rfl, by decide⟩ (ixl 8 8 (by decide) rfl (m_looked_o2 x1 c1)) (v := S.1 7 (Int32.toNatClampNeg x1)) rfl dX1_looked_16 ?_
    refine lv_if_ge (tgt := 28) hx hb dX1_looked_17 (by decide) (fun c3 => ?_) (fun c3 => ?_)
    · refine lv_iconst (v := 0) hx hb dX1_looked_28 (by decide) ?_
      exact m_ri hx hb hrt (rfl) hlk hR hS hQ (Eq.trans (if_neg c1) (if_pos c3)) dX1_looked_29
    · refine lv_aload_n hx hb dX1_looked_20 rfl (lv_at hl 0 rfl) ?_
      refine lv_iconst (v := 1) hx hb dX1_looked_21 (by decide) ?_
      refine m_ci X hR hS (mt_meets l D d A a S 1 (by decide)) 1 (lw_V q1317 q1319 qs22 q59 q1320) ⟨rfl, rfl⟩ (by decide +kernel) ⟨by decide, by decide⟩ ⟨by decide, by decide⟩ rfl hl.1 rfl (Nat.le_of_ble_eq_true rfl) dX1_looked_22 (fun H locs hR hS => ?_)
      refine lv_goto (tgt := 29) hx hb dX1_looked_25 (by decide) ?_
      exact m_ri hx hb hrt (rfl) hlk hR hS hQ (Eq.trans (if_neg c1) (if_neg c3)) dX1_looked_29
  · refine lv_iconst (v := (-1)) hx hb dX1_looked_7 (by decide) ?_
    refine lv_goto (tgt := 29) hx hb dX1_looked_8 (by decide) ?_
    exact m_ri hx hb hrt (rfl) hlk hR hS hQ (if_pos c1) dX1_looked_29
