/-! PRINTED by gen/run_x1.py -/
set_option maxRecDepth 100000
def x_in (x1 : Int32) (x2 : Int32) (x3 : Int32) : Int32 := (if x1 < x2 then 0 else (if x3 < x1 then 0 else 1))
theorem x_in_b (x1 : Int32) (x2 : Int32) (x3 : Int32) : x_in x1 x2 x3 = 0 ∨ x_in x1 x2 x3 = 1 := by
  grind [x_in]
theorem x_in_eq {x1 : Int32} {x2 : Int32} {x3 : Int32} : x_in x1 x2 x3 = 0 ↔ ¬ (x2 ≤ x1 ∧ x1 ≤ x3) := by
  grind [x_in]
set_option maxHeartbeats 4000000 in
theorem st_x_in (l : Launch) (x1 : Int32) (x2 : Int32) (x3 : Int32) : SI l yX0_in cX0_in 3 .boolean (rm_ 0) [.int x1, .int x2, .int x3] (x_in x1 x2 x3) := by
  refine s_startI RX0 rfl (by decide) (Nat.le_of_ble_eq_true rfl) ?_
  intro p e s m av below meth c ls Q X hrt hlk hl hQ
  have hx := X.1
  have hb := X.2.1
  have hown := X.2.2.2.1
  have hts := X.2.2.2.2
  have hl : lv_has ls 3 [(0, .int x1), (1, .int x2), (2, .int x3)] := hl
  refine lv_iload_n hx hb dX0_in_0 rfl (lv_at hl 0 rfl) ?_
  refine lv_iload_n hx hb dX0_in_1 rfl (lv_at hl 1 rfl) ?_
  refine lv_icmp_lt (tgt := 14) hx hb dX0_in_2 (by decide) (fun c1 => ?_) (fun c1 => ?_)
  · refine lv_iconst (v := 0) hx hb dX0_in_14 (by decide) ?_
    exact s_ri (y := yX0_in) hx hb hrt (rfl) hlk hQ (Eq.symm (if_pos c1)) dX0_in_15
  · refine lv_iload_n hx hb dX0_in_5 rfl (lv_at hl 0 rfl) ?_
    refine lv_iload_n hx hb dX0_in_6 rfl (lv_at hl 2 rfl) ?_
    refine lv_icmp_gt (tgt := 14) hx hb dX0_in_7 (by decide) (fun c2 => ?_) (fun c2 => ?_)
    · refine lv_iconst (v := 0) hx hb dX0_in_14 (by decide) ?_
      exact s_ri (y := yX0_in) hx hb hrt (rfl) hlk hQ (Eq.symm (Eq.trans (if_neg c1) (if_pos c2))) dX0_in_15
    · refine lv_iconst (v := 1) hx hb dX0_in_10 (by decide) ?_
      refine lv_goto (tgt := 15) hx hb dX0_in_11 (by decide) ?_
      exact s_ri (y := yX0_in) hx hb hrt (rfl) hlk hQ (Eq.symm (Eq.trans (if_neg c1) (if_neg c2))) dX0_in_15
def x_isRow (x1 : Int32) : Int32 := (x_in x1 0 7)
theorem x_isRow_b (x1 : Int32) : x_isRow x1 = 0 ∨ x_isRow x1 = 1 := by
  grind [x_isRow, x_in]
theorem x_isRow_eq {x1 : Int32} : x_isRow x1 = 0 ↔ ¬ (0 ≤ x1 ∧ x1 ≤ 7) := by
  grind [x_isRow, x_in]
set_option maxHeartbeats 4000000 in
theorem st_x_isRow (l : Launch) (x1 : Int32) : SI l yX0_isRow cX0_isRow 1 .boolean (rm_ 1) [.int x1] (x_isRow x1) := by
  refine s_startI RX0 rfl (by decide) (Nat.le_of_ble_eq_true rfl) ?_
  intro p e s m av below meth c ls Q X hrt hlk hl hQ
  have hx := X.1
  have hb := X.2.1
  have hown := X.2.2.2.1
  have hts := X.2.2.2.2
  have hl : lv_has ls 1 [(0, .int x1)] := hl
  refine lv_iload_n hx hb dX0_isRow_0 rfl (lv_at hl 0 rfl) ?_
  refine lv_iconst (v := 0) hx hb dX0_isRow_1 (by decide) ?_
  refine lv_bipush (v := 7) hx hb dX0_isRow_2 (by decide) ?_
  refine s_ci X (st_x_in l x1 0 7) 3 (lw_S q280 q281 q58 q282) ⟨rfl, rfl⟩ (by decide +kernel) ⟨by decide, by decide⟩ ⟨by decide, by decide⟩ rfl hl.1 rfl (Nat.le_of_ble_eq_true rfl) dX0_isRow_4 ?_
  exact s_ri (y := yX0_isRow) hx hb hrt (nz_ (x_in_b x1 0 7)) hlk hQ (Eq.symm rfl) dX0_isRow_7
def x_isTower (x1 : Int32) : Int32 := (x_in x1 0 3)
theorem x_isTower_b (x1 : Int32) : x_isTower x1 = 0 ∨ x_isTower x1 = 1 := by
  grind [x_isTower, x_in]
theorem x_isTower_eq {x1 : Int32} : x_isTower x1 = 0 ↔ ¬ (0 ≤ x1 ∧ x1 ≤ 3) := by
  grind [x_isTower, x_in]
set_option maxHeartbeats 4000000 in
theorem st_x_isTower (l : Launch) (x1 : Int32) : SI l yX0_isTower cX0_isTower 1 .boolean (rm_ 1) [.int x1] (x_isTower x1) := by
  refine s_startI RX0 rfl (by decide) (Nat.le_of_ble_eq_true rfl) ?_
  intro p e s m av below meth c ls Q X hrt hlk hl hQ
  have hx := X.1
  have hb := X.2.1
  have hown := X.2.2.2.1
  have hts := X.2.2.2.2
  have hl : lv_has ls 1 [(0, .int x1)] := hl
  refine lv_iload_n hx hb dX0_isTower_0 rfl (lv_at hl 0 rfl) ?_
  refine lv_iconst (v := 0) hx hb dX0_isTower_1 (by decide) ?_
  refine lv_iconst (v := 3) hx hb dX0_isTower_2 (by decide) ?_
  refine s_ci X (st_x_in l x1 0 3) 3 (lw_S q280 q281 q58 q282) ⟨rfl, rfl⟩ (by decide +kernel) ⟨by decide, by decide⟩ ⟨by decide, by decide⟩ rfl hl.1 rfl (Nat.le_of_ble_eq_true rfl) dX0_isTower_3 ?_
  exact s_ri (y := yX0_isTower) hx hb hrt (nz_ (x_in_b x1 0 3)) hlk hQ (Eq.symm rfl) dX0_isTower_6
def x_hourOf_v7 (x1 : Int32) : Int32 := ((x1 / 60) - (x1 / 60) / 12 * 12)
def x_hourOf (x1 : Int32) : Int32 := (if (x_hourOf_v7 x1) = 0 then 12 else (x_hourOf_v7 x1))
set_option maxHeartbeats 4000000 in
theorem st_x_hourOf (l : Launch) (x1 : Int32) : SI l yX0_hourOf cX0_hourOf 2 .int (rm_ 0) [.int x1] (x_hourOf x1) := by
  refine s_startI RX0 rfl (by decide) (Nat.le_of_ble_eq_true rfl) ?_
  intro p e s m av below meth c ls Q X hrt hlk hl hQ
  have hx := X.1
  have hb := X.2.1
  have hown := X.2.2.2.1
  have hts := X.2.2.2.2
  have hl : lv_has ls 2 [(0, .int x1)] := hl
  refine lv_iload_n hx hb dX0_hourOf_0 rfl (lv_at hl 0 rfl) ?_
  refine lv_bipush (v := 60) hx hb dX0_hourOf_1 (by decide) ?_
  refine lv_idiv hx hb dX0_hourOf_3 (by decide) ?_
  refine lv_bipush (v := 12) hx hb dX0_hourOf_4 (by decide) ?_
  refine lv_irem hx hb dX0_hourOf_6 (by decide) ?_
  refine lv_istore_n (lv' := [(1, .int (x_hourOf_v7 x1)), (0, .int x1)]) hx hb dX0_hourOf_7 rfl hl (by decide) rfl (fun ls hl => ?_)
  refine lv_iload_n hx hb dX0_hourOf_8 rfl (lv_at hl 0 rfl) ?_
  refine lv_if_ne (tgt := 17) hx hb dX0_hourOf_9 (by decide) (fun c1 => ?_) (fun c1 => ?_)
  · refine lv_iload_n hx hb dX0_hourOf_17 rfl (lv_at hl 0 rfl) ?_
    exact s_ri (y := yX0_hourOf) hx hb hrt (rfl) hlk hQ (Eq.symm (if_neg c1)) dX0_hourOf_18
  · refine lv_bipush (v := 12) hx hb dX0_hourOf_12 (by decide) ?_
    refine lv_goto (tgt := 18) hx hb dX0_hourOf_14 (by decide) ?_
    exact s_ri (y := yX0_hourOf) hx hb hrt (rfl) hlk hQ (Eq.symm (if_pos c1)) dX0_hourOf_18
def x_nextHour (x1 : Int32) : Int32 := ((((x1 / 60) + 12) - ((x1 / 60) + 12) / 12 * 12) + 1)
set_option maxHeartbeats 4000000 in
theorem st_x_nextHour (l : Launch) (x1 : Int32) : SI l yX0_nextHour cX0_nextHour 1 .int (rm_ 0) [.int x1] (x_nextHour x1) := by
  refine s_startI RX0 rfl (by decide) (Nat.le_of_ble_eq_true rfl) ?_
  intro p e s m av below meth c ls Q X hrt hlk hl hQ
  have hx := X.1
  have hb := X.2.1
  have hown := X.2.2.2.1
  have hts := X.2.2.2.2
  have hl : lv_has ls 1 [(0, .int x1)] := hl
  refine lv_iload_n hx hb dX0_nextHour_0 rfl (lv_at hl 0 rfl) ?_
  refine lv_bipush (v := 60) hx hb dX0_nextHour_1 (by decide) ?_
  refine lv_idiv hx hb dX0_nextHour_3 (by decide) ?_
  refine lv_bipush (v := 12) hx hb dX0_nextHour_4 (by decide) ?_
  refine lv_iadd hx hb dX0_nextHour_6 ?_
  refine lv_bipush (v := 12) hx hb dX0_nextHour_7 (by decide) ?_
  refine lv_irem hx hb dX0_nextHour_9 (by decide) ?_
  refine lv_iconst (v := 1) hx hb dX0_nextHour_10 (by decide) ?_
  refine lv_iadd hx hb dX0_nextHour_11 ?_
  exact s_ri (y := yX0_nextHour) hx hb hrt (rfl) hlk hQ (Eq.symm rfl) dX0_nextHour_12
def x_quarterOf (x1 : Int32) : Int32 := (if ((x1 - x1 / 60 * 60) / 15) = 0 then 4 else ((x1 - x1 / 60 * 60) / 15))
set_option maxHeartbeats 4000000 in
theorem st_x_quarterOf (l : Launch) (x1 : Int32) : SI l yX0_quarterOf cX0_quarterOf 2 .int (rm_ 0) [.int x1] (x_quarterOf x1) := by
  refine s_startI RX0 rfl (by decide) (Nat.le_of_ble_eq_true rfl) ?_
  intro p e s m av below meth c ls Q X hrt hlk hl hQ
  have hx := X.1
  have hb := X.2.1
  have hown := X.2.2.2.1
  have hts := X.2.2.2.2
  have hl : lv_has ls 2 [(0, .int x1)] := hl
  refine lv_iload_n hx hb dX0_quarterOf_0 rfl (lv_at hl 0 rfl) ?_
  refine lv_bipush (v := 60) hx hb dX0_quarterOf_1 (by decide) ?_
  refine lv_irem hx hb dX0_quarterOf_3 (by decide) ?_
  refine lv_bipush (v := 15) hx hb dX0_quarterOf_4 (by decide) ?_
  refine lv_idiv hx hb dX0_quarterOf_6 (by decide) ?_
  refine lv_istore_n (lv' := [(1, .int ((x1 - x1 / 60 * 60) / 15)), (0, .int x1)]) hx hb dX0_quarterOf_7 rfl hl (by decide) rfl (fun ls hl => ?_)
  refine lv_iload_n hx hb dX0_quarterOf_8 rfl (lv_at hl 0 rfl) ?_
  refine lv_if_ne (tgt := 16) hx hb dX0_quarterOf_9 (by decide) (fun c1 => ?_) (fun c1 => ?_)
  · refine lv_iload_n hx hb dX0_quarterOf_16 rfl (lv_at hl 0 rfl) ?_
    exact s_ri (y := yX0_quarterOf) hx hb hrt (rfl) hlk hQ (Eq.symm (if_neg c1)) dX0_quarterOf_17
  · refine lv_iconst (v := 4) hx hb dX0_quarterOf_12 (by decide) ?_
    refine lv_goto (tgt := 17) hx hb dX0_quarterOf_13 (by decide) ?_
    exact s_ri (y := yX0_quarterOf) hx hb hrt (rfl) hlk hQ (Eq.symm (if_pos c1)) dX0_quarterOf_17
def x_nextQuarter (x1 : Int32) : Int32 := (((x1 - x1 / 60 * 60) / 15) + 1)
set_option maxHeartbeats 4000000 in
theorem st_x_nextQuarter (l : Launch) (x1 : Int32) : SI l yX0_nextQuarter cX0_nextQuarter 1 .int (rm_ 0) [.int x1] (x_nextQuarter x1) := by
  refine s_startI RX0 rfl (by decide) (Nat.le_of_ble_eq_true rfl) ?_
  intro p e s m av below meth c ls Q X hrt hlk hl hQ
  have hx := X.1
  have hb := X.2.1
  have hown := X.2.2.2.1
  have hts := X.2.2.2.2
  have hl : lv_has ls 1 [(0, .int x1)] := hl
  refine lv_iload_n hx hb dX0_nextQuarter_0 rfl (lv_at hl 0 rfl) ?_
  refine lv_bipush (v := 60) hx hb dX0_nextQuarter_1 (by decide) ?_
  refine lv_irem hx hb dX0_nextQuarter_3 (by decide) ?_
  refine lv_bipush (v := 15) hx hb dX0_nextQuarter_4 (by decide) ?_
  refine lv_idiv hx hb dX0_nextQuarter_6 (by decide) ?_
  refine lv_iconst (v := 1) hx hb dX0_nextQuarter_7 (by decide) ?_
  refine lv_iadd hx hb dX0_nextQuarter_8 ?_
  exact s_ri (y := yX0_nextQuarter) hx hb hrt (rfl) hlk hQ (Eq.symm rfl) dX0_nextQuarter_9
def x_kOf (x1 : Int32) : Int32 := (if x1 = 0 then 0 else 1)
set_option maxHeartbeats 4000000 in
theorem st_x_kOf (l : Launch) (x1 : Int32) : SI l yX0_kOf cX0_kOf 1 .int (rm_ 0) [.int x1] (x_kOf x1) := by
  refine s_startI RX0 rfl (by decide) (Nat.le_of_ble_eq_true rfl) ?_
  intro p e s m av below meth c ls Q X hrt hlk hl hQ
  have hx := X.1
  have hb := X.2.1
  have hown := X.2.2.2.1
  have hts := X.2.2.2.2
  have hl : lv_has ls 1 [(0, .int x1)] := hl
  refine lv_iload_n hx hb dX0_kOf_0 rfl (lv_at hl 0 rfl) ?_
  refine lv_if_eq (tgt := 8) hx hb dX0_kOf_1 (by decide) (fun c1 => ?_) (fun c1 => ?_)
  · refine lv_iconst (v := 0) hx hb dX0_kOf_8 (by decide) ?_
    exact s_ri (y := yX0_kOf) hx hb hrt (rfl) hlk hQ (Eq.symm (if_pos c1)) dX0_kOf_9
  · refine lv_iconst (v := 1) hx hb dX0_kOf_4 (by decide) ?_
    refine lv_goto (tgt := 9) hx hb dX0_kOf_5 (by decide) ?_
    exact s_ri (y := yX0_kOf) hx hb hrt (rfl) hlk hQ (Eq.symm (if_neg c1)) dX0_kOf_9
def x_led_j25_s0 (x1 : Int32) (x2 : Int32) : Int32 := (if 2 ≤ x2 then (x1 / 12) else (((x1 / 12) + 1) - ((x1 / 12) + 1) / 12 * 12))
def x_led_j57_s0 (x1 : Int32) (x2 : Int32) : Int32 := (if x2 = 0 then (x1 - x1 / 12 * 12) else (if x2 = 1 then (((x1 - x1 / 12 * 12) + 1) - ((x1 - x1 / 12 * 12) + 1) / 12 * 12) else ((((x1 - x1 / 12 * 12) + 12) - 1) - (((x1 - x1 / 12 * 12) + 12) - 1) / 12 * 12)))
def x_led (x1 : Int32) (x2 : Int32) : Int32 := ((12 * (x_led_j25_s0 x1 x2)) + (x_led_j57_s0 x1 x2))
set_option maxHeartbeats 4000000 in
theorem st_x_led (l : Launch) (x1 : Int32) (x2 : Int32) : SI l yX0_led cX0_led 4 .int (rm_ 0) [.int x1, .int x2] (x_led x1 x2) := by
  refine s_startI RX0 rfl (by decide) (Nat.le_of_ble_eq_true rfl) ?_
  intro p e s m av below meth c ls Q X hrt hlk hl hQ
  have hx := X.1
  have hb := X.2.1
  have hown := X.2.2.2.1
  have hts := X.2.2.2.2
  have hl : lv_has ls 4 [(0, .int x1), (1, .int x2)] := hl
  refine lv_iload_n hx hb dX0_led_0 rfl (lv_at hl 0 rfl) ?_
  refine lv_bipush (v := 12) hx hb dX0_led_1 (by decide) ?_
  refine lv_idiv hx hb dX0_led_3 (by decide) ?_
  refine lv_istore_n (lv' := [(2, .int (x1 / 12)), (0, .int x1), (1, .int x2)]) hx hb dX0_led_4 rfl hl (by decide) rfl (fun ls hl => ?_)
  refine lv_iload_n hx hb dX0_led_5 rfl (lv_at hl 1 rfl) ?_
  refine lv_bipush (v := 12) hx hb dX0_led_6 (by decide) ?_
  refine lv_irem hx hb dX0_led_8 (by decide) ?_
  refine lv_istore_n (lv' := [(3, .int (x1 - x1 / 12 * 12)), (2, .int (x1 / 12)), (0, .int x1), (1, .int x2)]) hx hb dX0_led_9 rfl hl (by decide) rfl (fun ls hl => ?_)
  refine lv_iload_n hx hb dX0_led_10 rfl (lv_at hl 3 rfl) ?_
  refine lv_iconst (v := 2) hx hb dX0_led_11 (by decide) ?_
  have J3 : ∀ (w2 : Int32) (ls : Array Slot), w2 = (x_led_j25_s0 x1 x2) → True → lv_has ls 4 [(3, .int (x1 - x1 / 12 * 12)), (2, .int (x1 / 12)), (0, .int x1), (1, .int x2)] → W p l e (rm_ 0) s m av below meth c s.heap [] 0 0 Q (F0 m 25 ls [.int w2]) := by
    intro w2  ls ew2 hT hl
    subst ew2
    refine lv_istore_n (lv' := [(2, .int (x_led_j25_s0 x1 x2)), (3, .int (x1 - x1 / 12 * 12)), (0, .int x1), (1, .int x2)]) hx hb dX0_led_25 rfl hl (by decide) rfl (fun ls hl => ?_)
    refine lv_iload_n hx hb dX0_led_26 rfl (lv_at hl 3 rfl) ?_
    have J7 : ∀ (w6 : Int32) (ls : Array Slot), w6 = (x_led_j57_s0 x1 x2) → True → lv_has ls 4 [(2, .int (x_led_j25_s0 x1 x2)), (3, .int (x1 - x1 / 12 * 12)), (0, .int x1), (1, .int x2)] → W p l e (rm_ 0) s m av below meth c s.heap [] 0 0 Q (F0 m 57 ls [.int w6]) := by
      intro w6  ls ew6 hT hl
      subst ew6
      refine lv_istore_n (lv' := [(3, .int (x_led_j57_s0 x1 x2)), (2, .int (x_led_j25_s0 x1 x2)), (0, .int x1), (1, .int x2)]) hx hb dX0_led_57 rfl hl (by decide) rfl (fun ls hl => ?_)
      refine lv_bipush (v := 12) hx hb dX0_led_58 (by decide) ?_
      refine lv_iload_n hx hb dX0_led_60 rfl (lv_at hl 1 rfl) ?_
      refine lv_imul hx hb dX0_led_61 ?_
      refine lv_iload_n hx hb dX0_led_62 rfl (lv_at hl 0 rfl) ?_
      refine lv_iadd hx hb dX0_led_63 ?_
      exact s_ri (y := yX0_led) hx hb hrt (rfl) hlk hQ (Eq.symm rfl) dX0_led_64
    refine lv_if_ne (tgt := 34) hx hb dX0_led_27 (by decide) (fun c4 => ?_) (fun c4 => ?_)
    · refine lv_iload_n hx hb dX0_led_34 rfl (lv_at hl 3 rfl) ?_
      refine lv_iconst (v := 1) hx hb dX0_led_35 (by decide) ?_
      refine lv_icmp_ne (tgt := 48) hx hb dX0_led_36 (by decide) (fun c5 => ?_) (fun c5 => ?_)
      · refine lv_iload_n hx hb dX0_led_48 rfl (lv_at hl 1 rfl) ?_
        refine lv_bipush (v := 12) hx hb dX0_led_49 (by decide) ?_
        refine lv_iadd hx hb dX0_led_51 ?_
        refine lv_iconst (v := 1) hx hb dX0_led_52 (by decide) ?_
        refine lv_isub hx hb dX0_led_53 ?_
        refine lv_bipush (v := 12) hx hb dX0_led_54 (by decide) ?_
        refine lv_irem hx hb dX0_led_56 (by decide) ?_
        exact J7 _  _ (Eq.symm (Eq.trans (if_neg c4) (if_neg c5))) trivial  (lv_sub hl [0, 1, 2, 3] rfl)
      · refine lv_iload_n hx hb dX0_led_39 rfl (lv_at hl 1 rfl) ?_
        refine lv_iconst (v := 1) hx hb dX0_led_40 (by decide) ?_
        refine lv_iadd hx hb dX0_led_41 ?_
        refine lv_bipush (v := 12) hx hb dX0_led_42 (by decide) ?_
        refine lv_irem hx hb dX0_led_44 (by decide) ?_
        refine lv_goto (tgt := 57) hx hb dX0_led_45 (by decide) ?_
        exact J7 _  _ (Eq.symm (Eq.trans (if_neg c4) (if_pos c5))) trivial  (lv_sub hl [0, 1, 2, 3] rfl)
    · refine lv_iload_n hx hb dX0_led_30 rfl (lv_at hl 1 rfl) ?_
      refine lv_goto (tgt := 57) hx hb dX0_led_31 (by decide) ?_
      exact J7 _  _ (Eq.symm (if_pos c4)) trivial  (lv_sub hl [0, 1, 2, 3] rfl)
  refine lv_icmp_ge (tgt := 24) hx hb dX0_led_12 (by decide) (fun c1 => ?_) (fun c1 => ?_)
  · refine lv_iload_n hx hb dX0_led_24 rfl (lv_at hl 1 rfl) ?_
    exact J3 _  _ (Eq.symm (if_pos c1)) trivial  (lv_sub hl [0, 1, 2, 3] rfl)
  · refine lv_iload_n hx hb dX0_led_15 rfl (lv_at hl 1 rfl) ?_
    refine lv_iconst (v := 1) hx hb dX0_led_16 (by decide) ?_
    refine lv_iadd hx hb dX0_led_17 ?_
    refine lv_bipush (v := 12) hx hb dX0_led_18 (by decide) ?_
    refine lv_irem hx hb dX0_led_20 (by decide) ?_
    refine lv_goto (tgt := 25) hx hb dX0_led_21 (by decide) ?_
    exact J3 _  _ (Eq.symm (if_neg c1)) trivial  (lv_sub hl [0, 1, 2, 3] rfl)
def x_isFault (x1 : Int32) (x2 : Int32) (x3 : Int32) : Int32 := (if x1 = 0 then 1 else (if x1 = 1 then (if (x_in x2 1 11) = 0 then 0 else (if (x_in x3 0 47) = 0 then 0 else 1)) else (if x1 = 2 then (if (x_in x2 1 12) = 0 then 0 else (if (x_in x3 0 24) = 0 then 0 else 1)) else (if x1 = 3 then (x_in x2 1 11) else (if x1 = 4 then (if (x_in x2 0 47) = 0 then 0 else (if (x_in x3 x2 47) = 0 then 0 else 1)) else 0)))))
theorem x_isFault_b (x1 : Int32) (x2 : Int32) (x3 : Int32) : x_isFault x1 x2 x3 = 0 ∨ x_isFault x1 x2 x3 = 1 := by
  grind [x_isFault, x_in]
set_option maxHeartbeats 4000000 in
theorem st_x_isFault (l : Launch) (x1 : Int32) (x2 : Int32) (x3 : Int32) : SI l yX0_isFault cX0_isFault 3 .boolean (rm_ 1) [.int x1, .int x2, .int x3] (x_isFault x1 x2 x3) := by
  refine s_startI RX0 rfl (by decide) (Nat.le_of_ble_eq_true rfl) ?_
  intro p e s m av below meth c ls Q X hrt hlk hl hQ
  have hx := X.1
  have hb := X.2.1
  have hown := X.2.2.2.1
  have hts := X.2.2.2.2
  have hl : lv_has ls 3 [(0, .int x1), (1, .int x2), (2, .int x3)] := hl
  refine lv_iload_n hx hb dX0_isFault_0 rfl (lv_at hl 0 rfl) ?_
  by_cases c1 : x1 = 0
  · refine lv_tableIn (off := 35) (tgt := 36) hx hb dX0_isFault_1 (by rw [c1]; decide) (by rw [c1]; decide) (by rw [c1]; rfl) (by decide) ?_
    refine lv_iconst (v := 1) hx hb dX0_isFault_36 (by decide) ?_
    exact s_ri (y := yX0_isFault) hx hb hrt (rfl) hlk hQ (Eq.symm (if_pos c1)) dX0_isFault_37
  · by_cases c2 : x1 = 1
    · refine lv_tableIn (off := 37) (tgt := 38) hx hb dX0_isFault_1 (by rw [c2]; decide) (by rw [c2]; decide) (by rw [c2]; rfl) (by decide) ?_
      refine lv_iload_n hx hb dX0_isFault_38 rfl (lv_at hl 1 rfl) ?_
      refine lv_iconst (v := 1) hx hb dX0_isFault_39 (by decide) ?_
      refine lv_bipush (v := 11) hx hb dX0_isFault_40 (by decide) ?_
      refine s_ci X (st_x_in l x2 1 11) 3 (lw_S q280 q281 q58 q282) ⟨rfl, rfl⟩ (by decide +kernel) ⟨by decide, by decide⟩ ⟨by decide, by decide⟩ rfl hl.1 rfl (Nat.le_of_ble_eq_true rfl) dX0_isFault_42 ?_
      refine lv_if_eq (tgt := 62) hx hb dX0_isFault_45 (by decide) (fun c3 => ?_) (fun c3 => ?_)
      · refine lv_iconst (v := 0) hx hb dX0_isFault_62 (by decide) ?_
        exact s_ri (y := yX0_isFault) hx hb hrt (rfl) hlk hQ (Eq.symm (Eq.trans (if_neg c1) (Eq.trans (if_pos c2) (if_pos c3)))) dX0_isFault_63
      · refine lv_iload_n hx hb dX0_isFault_48 rfl (lv_at hl 2 rfl) ?_
        refine lv_iconst (v := 0) hx hb dX0_isFault_49 (by decide) ?_
        refine lv_bipush (v := 47) hx hb dX0_isFault_50 (by decide) ?_
        refine s_ci X (st_x_in l x3 0 47) 3 (lw_S q280 q281 q58 q282) ⟨rfl, rfl⟩ (by decide +kernel) ⟨by decide, by decide⟩ ⟨by decide, by decide⟩ rfl hl.1 rfl (Nat.le_of_ble_eq_true rfl) dX0_isFault_52 ?_
        refine lv_if_eq (tgt := 62) hx hb dX0_isFault_55 (by decide) (fun c4 => ?_) (fun c4 => ?_)
        · refine lv_iconst (v := 0) hx hb dX0_isFault_62 (by decide) ?_
          exact s_ri (y := yX0_isFault) hx hb hrt (rfl) hlk hQ (Eq.symm (Eq.trans (if_neg c1) (Eq.trans (if_pos c2) (Eq.trans (if_neg c3) (if_pos c4))))) dX0_isFault_63
        · refine lv_iconst (v := 1) hx hb dX0_isFault_58 (by decide) ?_
          refine lv_goto (tgt := 63) hx hb dX0_isFault_59 (by decide) ?_
          exact s_ri (y := yX0_isFault) hx hb hrt (rfl) hlk hQ (Eq.symm (Eq.trans (if_neg c1) (Eq.trans (if_pos c2) (Eq.trans (if_neg c3) (if_neg c4))))) dX0_isFault_63
    · by_cases c5 : x1 = 2
      · refine lv_tableIn (off := 63) (tgt := 64) hx hb dX0_isFault_1 (by rw [c5]; decide) (by rw [c5]; decide) (by rw [c5]; rfl) (by decide) ?_
        refine lv_iload_n hx hb dX0_isFault_64 rfl (lv_at hl 1 rfl) ?_
        refine lv_iconst (v := 1) hx hb dX0_isFault_65 (by decide) ?_
        refine lv_bipush (v := 12) hx hb dX0_isFault_66 (by decide) ?_
        refine s_ci X (st_x_in l x2 1 12) 3 (lw_S q280 q281 q58 q282) ⟨rfl, rfl⟩ (by decide +kernel) ⟨by decide, by decide⟩ ⟨by decide, by decide⟩ rfl hl.1 rfl (Nat.le_of_ble_eq_true rfl) dX0_isFault_68 ?_
        refine lv_if_eq (tgt := 88) hx hb dX0_isFault_71 (by decide) (fun c6 => ?_) (fun c6 => ?_)
        · refine lv_iconst (v := 0) hx hb dX0_isFault_88 (by decide) ?_
          exact s_ri (y := yX0_isFault) hx hb hrt (rfl) hlk hQ (Eq.symm (Eq.trans (if_neg c1) (Eq.trans (if_neg c2) (Eq.trans (if_pos c5) (if_pos c6))))) dX0_isFault_89
        · refine lv_iload_n hx hb dX0_isFault_74 rfl (lv_at hl 2 rfl) ?_
          refine lv_iconst (v := 0) hx hb dX0_isFault_75 (by decide) ?_
          refine lv_bipush (v := 24) hx hb dX0_isFault_76 (by decide) ?_
          refine s_ci X (st_x_in l x3 0 24) 3 (lw_S q280 q281 q58 q282) ⟨rfl, rfl⟩ (by decide +kernel) ⟨by decide, by decide⟩ ⟨by decide, by decide⟩ rfl hl.1 rfl (Nat.le_of_ble_eq_true rfl) dX0_isFault_78 ?_
          refine lv_if_eq (tgt := 88) hx hb dX0_isFault_81 (by decide) (fun c7 => ?_) (fun c7 => ?_)
          · refine lv_iconst (v := 0) hx hb dX0_isFault_88 (by decide) ?_
            exact s_ri (y := yX0_isFault) hx hb hrt (rfl) hlk hQ (Eq.symm (Eq.trans (if_neg c1) (Eq.trans (if_neg c2) (Eq.trans (if_pos c5) (Eq.trans (if_neg c6) (if_pos c7)))))) dX0_isFault_89
          · refine lv_iconst (v := 1) hx hb dX0_isFault_84 (by decide) ?_
            refine lv_goto (tgt := 89) hx hb dX0_isFault_85 (by decide) ?_
            exact s_ri (y := yX0_isFault) hx hb hrt (rfl) hlk hQ (Eq.symm (Eq.trans (if_neg c1) (Eq.trans (if_neg c2) (Eq.trans (if_pos c5) (Eq.trans (if_neg c6) (if_neg c7)))))) dX0_isFault_89
      · by_cases c8 : x1 = 3
        · refine lv_tableIn (off := 89) (tgt := 90) hx hb dX0_isFault_1 (by rw [c8]; decide) (by rw [c8]; decide) (by rw [c8]; rfl) (by decide) ?_
          refine lv_iload_n hx hb dX0_isFault_90 rfl (lv_at hl 1 rfl) ?_
          refine lv_iconst (v := 1) hx hb dX0_isFault_91 (by decide) ?_
          refine lv_bipush (v := 11) hx hb dX0_isFault_92 (by decide) ?_
          refine s_ci X (st_x_in l x2 1 11) 3 (lw_S q280 q281 q58 q282) ⟨rfl, rfl⟩ (by decide +kernel) ⟨by decide, by decide⟩ ⟨by decide, by decide⟩ rfl hl.1 rfl (Nat.le_of_ble_eq_true rfl) dX0_isFault_94 ?_
          exact s_ri (y := yX0_isFault) hx hb hrt (nz_ (x_in_b x2 1 11)) hlk hQ (Eq.symm (Eq.trans (if_neg c1) (Eq.trans (if_neg c2) (Eq.trans (if_neg c5) (if_pos c8))))) dX0_isFault_97
        · by_cases c9 : x1 = 4
          · refine lv_tableIn (off := 97) (tgt := 98) hx hb dX0_isFault_1 (by rw [c9]; decide) (by rw [c9]; decide) (by rw [c9]; rfl) (by decide) ?_
            refine lv_iload_n hx hb dX0_isFault_98 rfl (lv_at hl 1 rfl) ?_
            refine lv_iconst (v := 0) hx hb dX0_isFault_99 (by decide) ?_
            refine lv_bipush (v := 47) hx hb dX0_isFault_100 (by decide) ?_
            refine s_ci X (st_x_in l x2 0 47) 3 (lw_S q280 q281 q58 q282) ⟨rfl, rfl⟩ (by decide +kernel) ⟨by decide, by decide⟩ ⟨by decide, by decide⟩ rfl hl.1 rfl (Nat.le_of_ble_eq_true rfl) dX0_isFault_102 ?_
            refine lv_if_eq (tgt := 122) hx hb dX0_isFault_105 (by decide) (fun c10 => ?_) (fun c10 => ?_)
            · refine lv_iconst (v := 0) hx hb dX0_isFault_122 (by decide) ?_
              exact s_ri (y := yX0_isFault) hx hb hrt (rfl) hlk hQ (Eq.symm (Eq.trans (if_neg c1) (Eq.trans (if_neg c2) (Eq.trans (if_neg c5) (Eq.trans (if_neg c8) (Eq.trans (if_pos c9) (if_pos c10))))))) dX0_isFault_123
            · refine lv_iload_n hx hb dX0_isFault_108 rfl (lv_at hl 2 rfl) ?_
              refine lv_iload_n hx hb dX0_isFault_109 rfl (lv_at hl 1 rfl) ?_
              refine lv_bipush (v := 47) hx hb dX0_isFault_110 (by decide) ?_
              refine s_ci X (st_x_in l x3 x2 47) 3 (lw_S q280 q281 q58 q282) ⟨rfl, rfl⟩ (by decide +kernel) ⟨by decide, by decide⟩ ⟨by decide, by decide⟩ rfl hl.1 rfl (Nat.le_of_ble_eq_true rfl) dX0_isFault_112 ?_
              refine lv_if_eq (tgt := 122) hx hb dX0_isFault_115 (by decide) (fun c11 => ?_) (fun c11 => ?_)
              · refine lv_iconst (v := 0) hx hb dX0_isFault_122 (by decide) ?_
                exact s_ri (y := yX0_isFault) hx hb hrt (rfl) hlk hQ (Eq.symm (Eq.trans (if_neg c1) (Eq.trans (if_neg c2) (Eq.trans (if_neg c5) (Eq.trans (if_neg c8) (Eq.trans (if_pos c9) (Eq.trans (if_neg c10) (if_pos c11)))))))) dX0_isFault_123
              · refine lv_iconst (v := 1) hx hb dX0_isFault_118 (by decide) ?_
                refine lv_goto (tgt := 123) hx hb dX0_isFault_119 (by decide) ?_
                exact s_ri (y := yX0_isFault) hx hb hrt (rfl) hlk hQ (Eq.symm (Eq.trans (if_neg c1) (Eq.trans (if_neg c2) (Eq.trans (if_neg c5) (Eq.trans (if_neg c8) (Eq.trans (if_pos c9) (Eq.trans (if_neg c10) (if_neg c11)))))))) dX0_isFault_123
          · refine lv_tableOut (tgt := 124) hx hb dX0_isFault_1 (sw_out _ _ _ (fun k hk => by match k, hk with | 0, _ => exact c1 | 1, _ => exact c2 | 2, _ => exact c5 | 3, _ => exact c8 | 4, _ => exact c9)) (by decide) ?_
            refine lv_iconst (v := 0) hx hb dX0_isFault_124 (by decide) ?_
            exact s_ri (y := yX0_isFault) hx hb hrt (rfl) hlk hQ (Eq.symm (Eq.trans (if_neg c1) (Eq.trans (if_neg c2) (Eq.trans (if_neg c5) (Eq.trans (if_neg c8) (if_neg c9)))))) dX0_isFault_125
def x_max (x1 : Int32) (x2 : Int32) : Int32 := (if x1 < x2 then x2 else x1)
set_option maxHeartbeats 4000000 in
theorem st_x_max (l : Launch) (x1 : Int32) (x2 : Int32) : SI l yJ9_max cJ9_max 2 .int (rm_ 0) [.int x1, .int x2] (x_max x1 x2) := by
  refine s_startIF RJ9 rfl (by decide +kernel) (Nat.le_of_ble_eq_true rfl) ?_
  intro p e s m av below meth c ls Q X hrt hlk hl hQ
  have hx := X.1
  have hb := X.2.1
  have hown := X.2.2.2.1
  have hts := X.2.2.2.2
  have hl : lv_has ls 2 [(0, .int x1), (1, .int x2)] := hl
  refine lv_iload_n hx hb dJ9_max_0 rfl (lv_at hl 0 rfl) ?_
  refine lv_iload_n hx hb dJ9_max_1 rfl (lv_at hl 1 rfl) ?_
  refine lv_icmp_lt (tgt := 9) hx hb dJ9_max_2 (by decide) (fun c1 => ?_) (fun c1 => ?_)
  · refine lv_iload_n hx hb dJ9_max_9 rfl (lv_at hl 1 rfl) ?_
    exact s_ri (y := yJ9_max) hx hb hrt (rfl) hlk hQ (Eq.symm (if_pos c1)) dJ9_max_10
  · refine lv_iload_n hx hb dJ9_max_5 rfl (lv_at hl 0 rfl) ?_
    refine lv_goto (tgt := 10) hx hb dJ9_max_6 (by decide) ?_
    exact s_ri (y := yJ9_max) hx hb hrt (rfl) hlk hQ (Eq.symm (if_neg c1)) dJ9_max_10
def x_dueOf_v10 (x1 : Int32) (x2 : Int32) : Int32 := ((((x1 - 1) + x2) - ((x1 - 1) + x2) / 12 * 12) + 1)
def x_dueOf (x1 : Int32) (x2 : Int32) (x3 : Int32) (x4 : Int32) (x5 : Int32) : Int32 := (if x3 = 1 then (if x5 ≤ x2 then (((((x_dueOf_v10 x1 x2) - 1) + x4) - (((x_dueOf_v10 x1 x2) - 1) + x4) / 12 * 12) + 1) else (x_dueOf_v10 x1 x2)) else (if x3 = 2 then (if (x_dueOf_v10 x1 x2) = x4 then x5 else (x_dueOf_v10 x1 x2)) else (if x3 = 3 then (x_max 0 ((x_dueOf_v10 x1 x2) - x4)) else (if x3 = 4 then (if (x_in x2 x4 x5) = 0 then (x_dueOf_v10 x1 x2) else 0) else (x_dueOf_v10 x1 x2)))))
set_option maxHeartbeats 4000000 in
theorem st_x_dueOf (l : Launch) (x1 : Int32) (x2 : Int32) (x3 : Int32) (x4 : Int32) (x5 : Int32) : SI l yX0_dueOf cX0_dueOf 6 .int (rm_ 1) [.int x1, .int x2, .int x3, .int x4, .int x5] (x_dueOf x1 x2 x3 x4 x5) := by
  refine s_startI RX0 rfl (by decide) (Nat.le_of_ble_eq_true rfl) ?_
  intro p e s m av below meth c ls Q X hrt hlk hl hQ
  have hx := X.1
  have hb := X.2.1
  have hown := X.2.2.2.1
  have hts := X.2.2.2.2
  have hl : lv_has ls 6 [(0, .int x1), (1, .int x2), (2, .int x3), (3, .int x4), (4, .int x5)] := hl
  refine lv_iload_n hx hb dX0_dueOf_0 rfl (lv_at hl 0 rfl) ?_
  refine lv_iconst (v := 1) hx hb dX0_dueOf_1 (by decide) ?_
  refine lv_isub hx hb dX0_dueOf_2 ?_
  refine lv_iload_n hx hb dX0_dueOf_3 rfl (lv_at hl 1 rfl) ?_
  refine lv_iadd hx hb dX0_dueOf_4 ?_
  refine lv_bipush (v := 12) hx hb dX0_dueOf_5 (by decide) ?_
  refine lv_irem hx hb dX0_dueOf_7 (by decide) ?_
  refine lv_iconst (v := 1) hx hb dX0_dueOf_8 (by decide) ?_
  refine lv_iadd hx hb dX0_dueOf_9 ?_
  refine lv_istore (lv' := [(5, .int (x_dueOf_v10 x1 x2)), (0, .int x1), (1, .int x2), (2, .int x3), (3, .int x4), (4, .int x5)]) hx hb dX0_dueOf_10 hl (by decide) rfl (fun ls hl => ?_)
  refine lv_iload_n hx hb dX0_dueOf_12 rfl (lv_at hl 3 rfl) ?_
  by_cases c1 : x3 = 1
  · refine lv_tableIn (off := 31) (tgt := 44) hx hb dX0_dueOf_13 (by rw [c1]; decide) (by rw [c1]; decide) (by rw [c1]; rfl) (by decide) ?_
    refine lv_iload_n hx hb dX0_dueOf_44 rfl (lv_at hl 2 rfl) ?_
    refine lv_iload hx hb dX0_dueOf_45 (lv_at hl 5 rfl) ?_
    refine lv_icmp_ge (tgt := 55) hx hb dX0_dueOf_47 (by decide) (fun c2 => ?_) (fun c2 => ?_)
    · refine lv_iload hx hb dX0_dueOf_55 (lv_at hl 0 rfl) ?_
      refine lv_iconst (v := 1) hx hb dX0_dueOf_57 (by decide) ?_
      refine lv_isub hx hb dX0_dueOf_58 ?_
      refine lv_iload_n hx hb dX0_dueOf_59 rfl (lv_at hl 4 rfl) ?_
      refine lv_iadd hx hb dX0_dueOf_60 ?_
      refine lv_bipush (v := 12) hx hb dX0_dueOf_61 (by decide) ?_
      refine lv_irem hx hb dX0_dueOf_63 (by decide) ?_
      refine lv_iconst (v := 1) hx hb dX0_dueOf_64 (by decide) ?_
      refine lv_iadd hx hb dX0_dueOf_65 ?_
      exact s_ri (y := yX0_dueOf) hx hb hrt (rfl) hlk hQ (Eq.symm (Eq.trans (if_pos c1) (if_pos c2))) dX0_dueOf_66
    · refine lv_iload hx hb dX0_dueOf_50 (lv_at hl 0 rfl) ?_
      refine lv_goto (tgt := 66) hx hb dX0_dueOf_52 (by decide) ?_
      exact s_ri (y := yX0_dueOf) hx hb hrt (rfl) hlk hQ (Eq.symm (Eq.trans (if_pos c1) (if_neg c2))) dX0_dueOf_66
  · by_cases c3 : x3 = 2
    · refine lv_tableIn (off := 54) (tgt := 67) hx hb dX0_dueOf_13 (by rw [c3]; decide) (by rw [c3]; decide) (by rw [c3]; rfl) (by decide) ?_
      refine lv_iload hx hb dX0_dueOf_67 (lv_at hl 0 rfl) ?_
      refine lv_iload_n hx hb dX0_dueOf_69 rfl (lv_at hl 4 rfl) ?_
      refine lv_icmp_ne (tgt := 78) hx hb dX0_dueOf_70 (by decide) (fun c4 => ?_) (fun c4 => ?_)
      · refine lv_iload hx hb dX0_dueOf_78 (lv_at hl 0 rfl) ?_
        exact s_ri (y := yX0_dueOf) hx hb hrt (rfl) hlk hQ (Eq.symm (Eq.trans (if_neg c1) (Eq.trans (if_pos c3) (if_neg c4)))) dX0_dueOf_80
      · refine lv_iload hx hb dX0_dueOf_73 (lv_at hl 5 rfl) ?_
        refine lv_goto (tgt := 80) hx hb dX0_dueOf_75 (by decide) ?_
        exact s_ri (y := yX0_dueOf) hx hb hrt (rfl) hlk hQ (Eq.symm (Eq.trans (if_neg c1) (Eq.trans (if_pos c3) (if_pos c4)))) dX0_dueOf_80
    · by_cases c5 : x3 = 3
      · refine lv_tableIn (off := 68) (tgt := 81) hx hb dX0_dueOf_13 (by rw [c5]; decide) (by rw [c5]; decide) (by rw [c5]; rfl) (by decide) ?_
        refine lv_iconst (v := 0) hx hb dX0_dueOf_81 (by decide) ?_
        refine lv_iload hx hb dX0_dueOf_82 (lv_at hl 0 rfl) ?_
        refine lv_iload_n hx hb dX0_dueOf_84 rfl (lv_at hl 4 rfl) ?_
        refine lv_isub hx hb dX0_dueOf_85 ?_
        refine s_ci X (st_x_max l 0 ((x_dueOf_v10 x1 x2) - x4)) 2 (lw_S q1009 q609 q74 q610) ⟨rfl, rfl⟩ (by decide +kernel) ⟨by decide, by decide⟩ ⟨by decide, by decide⟩ rfl hl.1 rfl (Nat.le_of_ble_eq_true rfl) dX0_dueOf_86 ?_
        exact s_ri (y := yX0_dueOf) hx hb hrt (rfl) hlk hQ (Eq.symm (Eq.trans (if_neg c1) (Eq.trans (if_neg c3) (if_pos c5)))) dX0_dueOf_89
      · by_cases c6 : x3 = 4
        · refine lv_tableIn (off := 77) (tgt := 90) hx hb dX0_dueOf_13 (by rw [c6]; decide) (by rw [c6]; decide) (by rw [c6]; rfl) (by decide) ?_
          refine lv_iload_n hx hb dX0_dueOf_90 rfl (lv_at hl 2 rfl) ?_
          refine lv_iload_n hx hb dX0_dueOf_91 rfl (lv_at hl 4 rfl) ?_
          refine lv_iload hx hb dX0_dueOf_92 (lv_at hl 5 rfl) ?_
          refine s_ci X (st_x_in l x2 x4 x5) 3 (lw_S q280 q281 q58 q282) ⟨rfl, rfl⟩ (by decide +kernel) ⟨by decide, by decide⟩ ⟨by decide, by decide⟩ rfl hl.1 rfl (Nat.le_of_ble_eq_true rfl) dX0_dueOf_94 ?_
          refine lv_if_eq (tgt := 104) hx hb dX0_dueOf_97 (by decide) (fun c7 => ?_) (fun c7 => ?_)
          · refine lv_iload hx hb dX0_dueOf_104 (lv_at hl 0 rfl) ?_
            exact s_ri (y := yX0_dueOf) hx hb hrt (rfl) hlk hQ (Eq.symm (Eq.trans (if_neg c1) (Eq.trans (if_neg c3) (Eq.trans (if_neg c5) (Eq.trans (if_pos c6) (if_pos c7)))))) dX0_dueOf_106
          · refine lv_iconst (v := 0) hx hb dX0_dueOf_100 (by decide) ?_
            refine lv_goto (tgt := 106) hx hb dX0_dueOf_101 (by decide) ?_
            exact s_ri (y := yX0_dueOf) hx hb hrt (rfl) hlk hQ (Eq.symm (Eq.trans (if_neg c1) (Eq.trans (if_neg c3) (Eq.trans (if_neg c5) (Eq.trans (if_pos c6) (if_neg c7)))))) dX0_dueOf_106
        · refine lv_tableOut (tgt := 107) hx hb dX0_dueOf_13 (sw_out _ _ _ (fun k hk => by match k, hk with | 0, _ => exact c1 | 1, _ => exact c3 | 2, _ => exact c5 | 3, _ => exact c6)) (by decide) ?_
          refine lv_iload hx hb dX0_dueOf_107 (lv_at hl 0 rfl) ?_
          exact s_ri (y := yX0_dueOf) hx hb hrt (rfl) hlk hQ (Eq.symm (Eq.trans (if_neg c1) (Eq.trans (if_neg c3) (Eq.trans (if_neg c5) (if_neg c6))))) dX0_dueOf_109
def x_abs (x1 : Int64) : Int64 := (if 0 ≤ x1 then x1 else (-x1))
set_option maxHeartbeats 4000000 in
theorem st_x_abs (l : Launch) (x1 : Int64) : SL l yJ9_abs cJ9_abs 2 (rm_ 0) [.long x1] (x_abs x1) := by
  refine s_startLF RJ9 rfl (by decide +kernel) (Nat.le_of_ble_eq_true rfl) ?_
  intro p e s m av below meth c ls Q X hrt hlk hl hQ
  have hx := X.1
  have hb := X.2.1
  have hown := X.2.2.2.1
  have hts := X.2.2.2.2
  have hl : lv_has ls 2 [(0, .long x1)] := hl
  refine lv_lload_n hx hb dJ9_abs_0 rfl (lv_at hl 0 rfl) ?_
  refine lv_lconst (v := 0) hx hb dJ9_abs_1 (by decide) ?_
  refine hl_ge (tgt := 11) hx hb dJ9_abs_2 dJ9_abs_3 (by decide) (fun c1 => ?_) (fun c1 => ?_)
  · refine lv_lload_n hx hb dJ9_abs_11 rfl (lv_at hl 0 rfl) ?_
    exact s_rl (y := yJ9_abs) hx hb hrt hlk hQ (Eq.symm (if_pos c1)) dJ9_abs_12
  · refine lv_lload_n hx hb dJ9_abs_6 rfl (lv_at hl 0 rfl) ?_
    refine lv_lneg hx hb dJ9_abs_7 ?_
    refine lv_goto (tgt := 12) hx hb dJ9_abs_8 (by decide) ?_
    exact s_rl (y := yJ9_abs) hx hb hrt hlk hQ (Eq.symm (if_neg c1)) dJ9_abs_12
def x_floorMod (x1 : Int32) (x2 : Int32) : Int32 := (if 0 ≤ (x1 ^^^ x2) then (x1 - x1 / x2 * x2) else (if (x1 - x1 / x2 * x2) = 0 then (x1 - x1 / x2 * x2) else ((x1 - x1 / x2 * x2) + x2)))
set_option maxHeartbeats 4000000 in
theorem st_x_floorMod (l : Launch) (x1 : Int32) (x2 : Int32) (h2 : ¬ x2 = 0) : SI l yJ9_floorMod cJ9_floorMod 3 .int (rm_ 0) [.int x1, .int x2] (x_floorMod x1 x2) := by
  refine s_startIF RJ9 rfl (by decide +kernel) (Nat.le_of_ble_eq_true rfl) ?_
  intro p e s m av below meth c ls Q X hrt hlk hl hQ
  have hx := X.1
  have hb := X.2.1
  have hown := X.2.2.2.1
  have hts := X.2.2.2.2
  have hl : lv_has ls 3 [(0, .int x1), (1, .int x2)] := hl
  refine lv_iload_n hx hb dJ9_floorMod_0 rfl (lv_at hl 0 rfl) ?_
  refine lv_iload_n hx hb dJ9_floorMod_1 rfl (lv_at hl 1 rfl) ?_
  refine lv_irem hx hb dJ9_floorMod_2 (h2) ?_
  refine lv_istore_n (lv' := [(2, .int (x1 - x1 / x2 * x2)), (0, .int x1), (1, .int x2)]) hx hb dJ9_floorMod_3 rfl hl (by decide) rfl (fun ls hl => ?_)
  refine lv_iload_n hx hb dJ9_floorMod_4 rfl (lv_at hl 1 rfl) ?_
  refine lv_iload_n hx hb dJ9_floorMod_5 rfl (lv_at hl 2 rfl) ?_
  refine lv_ixor hx hb dJ9_floorMod_6 ?_
  refine lv_if_ge (tgt := 18) hx hb dJ9_floorMod_7 (by decide) (fun c1 => ?_) (fun c1 => ?_)
  · refine lv_iload_n hx hb dJ9_floorMod_18 rfl (lv_at hl 0 rfl) ?_
    exact s_ri (y := yJ9_floorMod) hx hb hrt (rfl) hlk hQ (Eq.symm (if_pos c1)) dJ9_floorMod_19
  · refine lv_iload_n hx hb dJ9_floorMod_10 rfl (lv_at hl 0 rfl) ?_
    refine lv_if_eq (tgt := 18) hx hb dJ9_floorMod_11 (by decide) (fun c2 => ?_) (fun c2 => ?_)
    · refine lv_iload_n hx hb dJ9_floorMod_18 rfl (lv_at hl 0 rfl) ?_
      exact s_ri (y := yJ9_floorMod) hx hb hrt (rfl) hlk hQ (Eq.symm (Eq.trans (if_neg c1) (if_pos c2))) dJ9_floorMod_19
    · refine lv_iload_n hx hb dJ9_floorMod_14 rfl (lv_at hl 0 rfl) ?_
      refine lv_iload_n hx hb dJ9_floorMod_15 rfl (lv_at hl 2 rfl) ?_
      refine lv_iadd hx hb dJ9_floorMod_16 ?_
      exact s_ri (y := yJ9_floorMod) hx hb hrt (rfl) hlk hQ (Eq.symm (Eq.trans (if_neg c1) (if_neg c2))) dJ9_floorMod_17
def x_floorModL (x1 : Int64) (x2 : Int64) : Int64 := (if 0 ≤ (x1 ^^^ x2) then (x1 - x1 / x2 * x2) else (if (x1 - x1 / x2 * x2) = 0 then (x1 - x1 / x2 * x2) else ((x1 - x1 / x2 * x2) + x2)))
set_option maxHeartbeats 4000000 in
theorem st_x_floorModL (l : Launch) (x1 : Int64) (x2 : Int64) (h2 : ¬ x2 = 0) : SL l yJ9_floorMod_2 cJ9_floorMod_2 6 (rm_ 0) [.long x1, .long x2] (x_floorModL x1 x2) := by
  refine s_startLF RJ9 rfl (by decide +kernel) (Nat.le_of_ble_eq_true rfl) ?_
  intro p e s m av below meth c ls Q X hrt hlk hl hQ
  have hx := X.1
  have hb := X.2.1
  have hown := X.2.2.2.1
  have hts := X.2.2.2.2
  have hl : lv_has ls 6 [(0, .long x1), (2, .long x2)] := hl
  refine lv_lload_n hx hb dJ9_floorMod_2_0 rfl (lv_at hl 0 rfl) ?_
  refine lv_lload_n hx hb dJ9_floorMod_2_1 rfl (lv_at hl 1 rfl) ?_
  refine lv_lrem hx hb dJ9_floorMod_2_2 (h2) ?_
  refine lv_lstore (lv' := [(4, .long (x1 - x1 / x2 * x2)), (0, .long x1), (2, .long x2)]) hx hb dJ9_floorMod_2_3 hl (by decide) rfl (fun ls hl => ?_)
  refine lv_lload_n hx hb dJ9_floorMod_2_5 rfl (lv_at hl 1 rfl) ?_
  refine lv_lload_n hx hb dJ9_floorMod_2_6 rfl (lv_at hl 2 rfl) ?_
  refine lv_lxor hx hb dJ9_floorMod_2_7 ?_
  refine lv_lconst (v := 0) hx hb dJ9_floorMod_2_8 (by decide) ?_
  refine hl_ge (tgt := 25) hx hb dJ9_floorMod_2_9 dJ9_floorMod_2_10 (by decide) (fun c1 => ?_) (fun c1 => ?_)
  · refine lv_lload hx hb dJ9_floorMod_2_25 (lv_at hl 0 rfl) ?_
    exact s_rl (y := yJ9_floorMod_2) hx hb hrt hlk hQ (Eq.symm (if_pos c1)) dJ9_floorMod_2_27
  · refine lv_lload hx hb dJ9_floorMod_2_13 (lv_at hl 0 rfl) ?_
    refine lv_lconst (v := 0) hx hb dJ9_floorMod_2_15 (by decide) ?_
    refine hl_eq (tgt := 25) hx hb dJ9_floorMod_2_16 dJ9_floorMod_2_17 (by decide) (fun c2 => ?_) (fun c2 => ?_)
    · refine lv_lload hx hb dJ9_floorMod_2_25 (lv_at hl 0 rfl) ?_
      exact s_rl (y := yJ9_floorMod_2) hx hb hrt hlk hQ (Eq.symm (Eq.trans (if_neg c1) (if_pos c2))) dJ9_floorMod_2_27
    · refine lv_lload hx hb dJ9_floorMod_2_20 (lv_at hl 0 rfl) ?_
      refine lv_lload_n hx hb dJ9_floorMod_2_22 rfl (lv_at hl 2 rfl) ?_
      refine lv_ladd hx hb dJ9_floorMod_2_23 ?_
      exact s_rl (y := yJ9_floorMod_2) hx hb hrt hlk hQ (Eq.symm (Eq.trans (if_neg c1) (if_neg c2))) dJ9_floorMod_2_24
def x_found (S : XS) (x1 : Int32) : Int32 × XS := ((-3), (xu (xu S 0 0 x1) 1 (Int32.toNatClampNeg x1) ((S.1 1 (Int32.toNatClampNeg x1)) + 1)))
theorem x_found_N (S : XS) (x1 : Int32) : (x_found S x1).2.2.2.2 = S.2.2.2 := by
  unfold x_found
  exact rfl
set_option maxHeartbeats 4000000 in
theorem xt_found (l : Launch) (D : va_G) (d : Nat → ClassId) (A : Nat → Prop) (ad : XK → Nat) (S : XS) (x1 : Int32) (h1 : 0 ≤ x1 ∧ x1 < 6) : XI l yX0_found cX0_found 2 .int (rm_ 0) D d A ad S [.ref (ad (0, 0)), .int x1] (x_found S x1) := by
  refine x_startI RX0 rfl (by decide) (Nat.le_of_ble_eq_true rfl) ?_
  intro p e s m av below meth c ls Q X hrt hlk hl hR hQ
  have hx := X.1.1.1
  have hb := X.1.1.2.1
  have hown := X.1.1.2.2.2.1
  have hts := X.1.1.2.2.2.2
  have hS : va_S A s.heap s.heap [] := va_S.rf
  have hl : lv_has ls 2 [(0, .ref (ad (0, 0))), (1, .int x1)] := hl
  refine lv_aload_n hx hb dX0_found_0 rfl (lv_at hl 0 rfl) ?_
  refine lv_iload_n hx hb dX0_found_1 rfl (lv_at hl 1 rfl) ?_
  refine xp_i X.1 hR hS 0 (by decide) rfl rfl rfl q96 dX0_found_2 (fun H locs hR hS => ?_)
  refine lv_aload_n hx hb dX0_found_5 rfl (lv_at hl 0 rfl) ?_
  refine xg_a X.1 hR 1 (by decide) (by decide) q97 dX0_found_6 ?_
  refine lv_iload_n hx hb dX0_found_9 rfl (lv_at hl 1 rfl) ?_
  refine lv_dup2_11 hx hb dX0_found_10 rfl rfl ?_
  refine x_ld X.1 hR ⟨by decide, rfl⟩ (ixl 6 6 (by decide) rfl (h1)) (v := S.1 1 (Int32.toNatClampNeg x1)) ((xu_k _ (by decide) _ _ _).trans rfl) dX0_found_11 ?_
  refine lv_iconst (v := 1) hx hb dX0_found_12 (by decide) ?_
  refine lv_iadd hx hb dX0_found_13 ?_
  refine x_st X.1 hR hS ⟨by decide, rfl⟩ (ixl 6 6 (by decide) rfl (h1)) dX0_found_14 (fun H locs hR hS => ?_)
  refine lv_bipush (v := (-3)) hx hb dX0_found_15 (by decide) ?_
  exact x_ri hx hb hrt (rfl) hlk hR hS hQ rfl dX0_found_17
def x_say (S : XS) (x1 : Int32) (x2 : Int32) : Int32 × XS := (x2, (xu S 2 0 x1))
theorem x_say_N (S : XS) (x1 : Int32) (x2 : Int32) : (x_say S x1 x2).2.2.2.2 = S.2.2.2 := by
  unfold x_say
  exact rfl
set_option maxHeartbeats 4000000 in
theorem xt_say (l : Launch) (D : va_G) (d : Nat → ClassId) (A : Nat → Prop) (ad : XK → Nat) (S : XS) (x1 : Int32) (x2 : Int32) : XI l yX0_say cX0_say 3 .int (rm_ 0) D d A ad S [.ref (ad (0, 0)), .int x1, .int x2] (x_say S x1 x2) := by
  refine x_startI RX0 rfl (by decide) (Nat.le_of_ble_eq_true rfl) ?_
  intro p e s m av below meth c ls Q X hrt hlk hl hR hQ
  have hx := X.1.1.1
  have hb := X.1.1.2.1
  have hown := X.1.1.2.2.2.1
  have hts := X.1.1.2.2.2.2
  have hS : va_S A s.heap s.heap [] := va_S.rf
  have hl : lv_has ls 3 [(0, .ref (ad (0, 0))), (1, .int x1), (2, .int x2)] := hl
  refine lv_aload_n hx hb dX0_say_0 rfl (lv_at hl 0 rfl) ?_
  refine lv_iload_n hx hb dX0_say_1 rfl (lv_at hl 1 rfl) ?_
  refine xp_i X.1 hR hS 2 (by decide) rfl rfl rfl q98 dX0_say_2 (fun H locs hR hS => ?_)
  refine lv_iload_n hx hb dX0_say_5 rfl (lv_at hl 2 rfl) ?_
  exact x_ri hx hb hrt (rfl) hlk hR hS hQ rfl dX0_say_6
def x_asked (S : XS) : Int32 := (S.1 2 0)
set_option maxHeartbeats 4000000 in
theorem xt_asked (l : Launch) (D : va_G) (d : Nat → ClassId) (A : Nat → Prop) (ad : XK → Nat) (S : XS) : XI l yX0_asked cX0_asked 1 .int (rm_ 0) D d A ad S [.ref (ad (0, 0))] ((x_asked S), S) := by
  refine x_startI RX0 rfl (by decide) (Nat.le_of_ble_eq_true rfl) ?_
  intro p e s m av below meth c ls Q X hrt hlk hl hR hQ
  have hx := X.1.1.1
  have hb := X.1.1.2.1
  have hown := X.1.1.2.2.2.1
  have hts := X.1.1.2.2.2.2
  have hS : va_S A s.heap s.heap [] := va_S.rf
  have hl : lv_has ls 1 [(0, .ref (ad (0, 0)))] := hl
  refine lv_aload_n hx hb dX0_asked_0 rfl (lv_at hl 0 rfl) ?_
  refine xg_i X.1 hR 2 (by decide) rfl q98 rfl dX0_asked_1 ?_
  exact x_ri hx hb hrt (rfl) hlk hR hS hQ (hF1 rfl) dX0_asked_4
def x_upper (S : XS) : Int64 := (S.2.1 18)
set_option maxHeartbeats 4000000 in
theorem xt_upper (l : Launch) (D : va_G) (d : Nat → ClassId) (A : Nat → Prop) (ad : XK → Nat) (S : XS) : XL l yX0_upper cX0_upper 1 (rm_ 0) D d A ad S [.ref (ad (0, 0))] ((x_upper S), S) := by
  refine x_startL RX0 rfl (by decide) (Nat.le_of_ble_eq_true rfl) ?_
  intro p e s m av below meth c ls Q X hrt hlk hl hR hQ
  have hx := X.1.1.1
  have hb := X.1.1.2.1
  have hown := X.1.1.2.2.2.1
  have hts := X.1.1.2.2.2.2
  have hS : va_S A s.heap s.heap [] := va_S.rf
  have hl : lv_has ls 1 [(0, .ref (ad (0, 0)))] := hl
  refine lv_aload_n hx hb dX0_upper_0 rfl (lv_at hl 0 rfl) ?_
  refine xg_l X.1 hR 18 (by decide) rfl q115 (v := S.2.1 18) rfl dX0_upper_1 ?_
  exact x_rl hx hb hrt hlk hR hS hQ (hF1 rfl) dX0_upper_4
def x_lower (S : XS) : Int64 := (S.2.1 19)
set_option maxHeartbeats 4000000 in
theorem xt_lower (l : Launch) (D : va_G) (d : Nat → ClassId) (A : Nat → Prop) (ad : XK → Nat) (S : XS) : XL l yX0_lower cX0_lower 1 (rm_ 0) D d A ad S [.ref (ad (0, 0))] ((x_lower S), S) := by
  refine x_startL RX0 rfl (by decide) (Nat.le_of_ble_eq_true rfl) ?_
  intro p e s m av below meth c ls Q X hrt hlk hl hR hQ
  have hx := X.1.1.1
  have hb := X.1.1.2.1
  have hown := X.1.1.2.2.2.1
  have hts := X.1.1.2.2.2.2
  have hS : va_S A s.heap s.heap [] := va_S.rf
  have hl : lv_has ls 1 [(0, .ref (ad (0, 0)))] := hl
  refine lv_aload_n hx hb dX0_lower_0 rfl (lv_at hl 0 rfl) ?_
  refine xg_l X.1 hR 19 (by decide) rfl q116 (v := S.2.1 19) rfl dX0_lower_1 ?_
  exact x_rl hx hb hrt hlk hR hS hQ (hF1 rfl) dX0_lower_4
def x_finding (S : XS) : Int32 := (S.1 0 0)
set_option maxHeartbeats 4000000 in
theorem xt_finding (l : Launch) (D : va_G) (d : Nat → ClassId) (A : Nat → Prop) (ad : XK → Nat) (S : XS) : XI l yX0_finding cX0_finding 1 .int (rm_ 0) D d A ad S [.ref (ad (0, 0))] ((x_finding S), S) := by
  refine x_startI RX0 rfl (by decide) (Nat.le_of_ble_eq_true rfl) ?_
  intro p e s m av below meth c ls Q X hrt hlk hl hR hQ
  have hx := X.1.1.1
  have hb := X.1.1.2.1
  have hown := X.1.1.2.2.2.1
  have hts := X.1.1.2.2.2.2
  have hS : va_S A s.heap s.heap [] := va_S.rf
  have hl : lv_has ls 1 [(0, .ref (ad (0, 0)))] := hl
  refine lv_aload_n hx hb dX0_finding_0 rfl (lv_at hl 0 rfl) ?_
  refine xg_i X.1 hR 0 (by decide) rfl q96 rfl dX0_finding_1 ?_
  exact x_ri hx hb hrt (rfl) hlk hR hS hQ (hF1 rfl) dX0_finding_4
def x_isTrain (S : XS) (x1 : Int32) : Int32 := (x_in x1 0 ((S.1 5 0) - 1))
theorem x_isTrain_b (S : XS) (x1 : Int32) : x_isTrain S x1 = 0 ∨ x_isTrain S x1 = 1 := by
  exact x_in_b _ _ _
set_option maxHeartbeats 4000000 in
theorem xt_isTrain (l : Launch) (D : va_G) (d : Nat → ClassId) (A : Nat → Prop) (ad : XK → Nat) (S : XS) (x1 : Int32) : XI l yX0_isTrain cX0_isTrain 2 .boolean (rm_ 1) D d A ad S [.ref (ad (0, 0)), .int x1] ((x_isTrain S x1), S) := by
  refine x_startI RX0 rfl (by decide) (Nat.le_of_ble_eq_true rfl) ?_
  intro p e s m av below meth c ls Q X hrt hlk hl hR hQ
  have hx := X.1.1.1
  have hb := X.1.1.2.1
  have hown := X.1.1.2.2.2.1
  have hts := X.1.1.2.2.2.2
  have hS : va_S A s.heap s.heap [] := va_S.rf
  have hl : lv_has ls 2 [(0, .ref (ad (0, 0))), (1, .int x1)] := hl
  refine lv_iload_n hx hb dX0_isTrain_0 rfl (lv_at hl 1 rfl) ?_
  refine lv_iconst (v := 0) hx hb dX0_isTrain_1 (by decide) ?_
  refine lv_aload_n hx hb dX0_isTrain_2 rfl (lv_at hl 0 rfl) ?_
  refine xg_i X.1 hR 5 (by decide) rfl q101 rfl dX0_isTrain_3 ?_
  refine lv_iconst (v := 1) hx hb dX0_isTrain_6 (by decide) ?_
  refine lv_isub hx hb dX0_isTrain_7 ?_
  refine s_ci X.1.1 (st_x_in l x1 0 ((S.1 5 0) - 1)) 3 (lw_S q280 q281 q58 q282) ⟨rfl, rfl⟩ (by decide +kernel) ⟨by decide, by decide⟩ ⟨by decide, by decide⟩ rfl hl.1 rfl (Nat.le_of_ble_eq_true rfl) dX0_isTrain_8 ?_
  exact x_ri hx hb hrt (nz_ (x_in_b x1 0 ((S.1 5 0) - 1))) hlk hR hS hQ (hF1 rfl) dX0_isTrain_11
