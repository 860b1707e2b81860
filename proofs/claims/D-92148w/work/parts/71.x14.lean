/-! PRINTED by gen/run_x14.py -/
set_option maxRecDepth 100000
theorem nt_2 : ∀ k, k < 10 → (TT2 k).2.1 ≠ "this$0" := by decide +kernel
/-- a train's fields, new -/
def trF (fs : List Value) (n : Int32) : List Value := ((((fs.set 1 (.int 30)).set 2 (.int 1000)).set 3 (.int 1000)).set 7 (.int (-9))).set 0 (.int n)
theorem trF_len (fs : List Value) (n : Int32) : (trF fs n).length = fs.length := by simp only [trF, List.length_set]
set_option maxHeartbeats 4000000 in
theorem o_train2 (l : Launch) (D : va_G) (d : Nat → ClassId) (q t : Nat) (n : Int32) (fs : List Value) (hf : 10 ≤ fs.length) : OV l yX2_init cX2_init 3 (rm_ 1) D d q 2 11 fs [.ref q, .ref t, .int n] (trF fs n) := by
  refine o_start RX2 rfl rfl (by decide) (Nat.le_of_ble_eq_true rfl) ?_
  intro p e s m av below meth c ls Q X hrt hlk hnm hl hq hQ
  have hx := X.1.1.1
  have hb := X.1.1.2.1
  have hts := X.1.1.2.2.2.2
  have hS : va_S (fun x => x = q) s.heap s.heap [] := va_S.rf
  have hl : lv_has ls 3 [(0, .ref q), (1, .ref t), (2, .int n)] := hl
  refine lv_aload_n hx hb dX2_init_0 rfl (lv_at hl 0 rfl) ?_
  refine lv_aload_n hx hb dX2_init_1 rfl (lv_at hl 1 rfl) ?_
  refine o_putX X hq hS (CN := RX2) (T := TT2) (N := 10) rfl in_T2 ty_T2 (by decide +kernel) q409 q350 q388 hnm dX2_init_2 fun H locs hq hS => ?_
  refine lv_aload_n hx hb dX2_init_5 rfl (lv_at hl 0 rfl) ?_
  refine W.objInit hx hb X.1.1.2.2.2.1 (hts _ q354) (hts _ q88) (hts _ q89) rfl (hl.1.trans X.1.1.2.2.1.symm) rfl dX2_init_6 (Nat.le_of_ble_eq_true rfl) (Nat.le_of_ble_eq_true rfl) ?_
  have hq := hq.1
  refine lv_aload_n hx hb dX2_init_9 rfl (lv_at hl 0 rfl) ?_
  refine lv_bipush (v := 30) hx hb dX2_init_10 (by decide) ?_
  refine o_put X hq hS (CN := RX2) (T := TT2) (N := 10) rfl in_T2 ty_T2 nm_T2 1 (by decide) q358 rfl  rfl rfl (by first | omega | (simp only [List.length_set]; omega)) dX2_init_12 fun H locs hq hS => ?_
  refine lv_aload_n hx hb dX2_init_15 rfl (lv_at hl 0 rfl) ?_
  refine lv_sipush (v := 1000) hx hb dX2_init_16 (by decide) ?_
  refine o_put X hq hS (CN := RX2) (T := TT2) (N := 10) rfl in_T2 ty_T2 nm_T2 2 (by decide) q361 rfl  rfl rfl (by first | omega | (simp only [List.length_set]; omega)) dX2_init_19 fun H locs hq hS => ?_
  refine lv_aload_n hx hb dX2_init_22 rfl (lv_at hl 0 rfl) ?_
  refine lv_sipush (v := 1000) hx hb dX2_init_23 (by decide) ?_
  refine o_put X hq hS (CN := RX2) (T := TT2) (N := 10) rfl in_T2 ty_T2 nm_T2 3 (by decide) q363 rfl  rfl rfl (by first | omega | (simp only [List.length_set]; omega)) dX2_init_26 fun H locs hq hS => ?_
  refine lv_aload_n hx hb dX2_init_29 rfl (lv_at hl 0 rfl) ?_
  refine lv_bipush (v := (-9)) hx hb dX2_init_30 (by decide) ?_
  refine o_put X hq hS (CN := RX2) (T := TT2) (N := 10) rfl in_T2 ty_T2 nm_T2 7 (by decide) q377 rfl  rfl rfl (by first | omega | (simp only [List.length_set]; omega)) dX2_init_32 fun H locs hq hS => ?_
  refine lv_aload_n hx hb dX2_init_35 rfl (lv_at hl 0 rfl) ?_
  refine lv_iload_n hx hb dX2_init_36 rfl (lv_at hl 2 rfl) ?_
  refine o_putF X hq hS (CN := RX2) (T := TT2) (N := 10) rfl in_T2 ty_T2 nm_T2 0 (by decide) q355 rfl rfl hnm  rfl rfl (by first | omega | (simp only [List.length_set]; omega)) dX2_init_37 fun H locs hq hS => ?_
  exact o_ret hx hb hrt hlk hq hS hQ rfl dX2_init_40
set_option maxHeartbeats 4000000 in
theorem o_train3 (l : Launch) (D : va_G) (d : Nat → ClassId) (q t : Nat) (n : Int32) (fs : List Value) (hf : 12 ≤ fs.length) : OV l yX2_init cX2_init 3 (rm_ 1) D d q 3 14 fs [.ref q, .ref t, .int n] (trF fs n) := by
  refine o_start RX2 rfl rfl (by decide) (Nat.le_of_ble_eq_true rfl) ?_
  intro p e s m av below meth c ls Q X hrt hlk hnm hl hq hQ
  have hx := X.1.1.1
  have hb := X.1.1.2.1
  have hts := X.1.1.2.2.2.2
  have hS : va_S (fun x => x = q) s.heap s.heap [] := va_S.rf
  have hl : lv_has ls 3 [(0, .ref q), (1, .ref t), (2, .int n)] := hl
  refine lv_aload_n hx hb dX2_init_0 rfl (lv_at hl 0 rfl) ?_
  refine lv_aload_n hx hb dX2_init_1 rfl (lv_at hl 1 rfl) ?_
  refine o_putX X hq hS (CN := RX3) (T := TT3) (N := 12) rfl in_T3 ty_T3 (by decide +kernel) q449 q424 q388 hnm dX2_init_2 fun H locs hq hS => ?_
  refine lv_aload_n hx hb dX2_init_5 rfl (lv_at hl 0 rfl) ?_
  refine W.objInit hx hb X.1.1.2.2.2.1 (hts _ q354) (hts _ q88) (hts _ q89) rfl (hl.1.trans X.1.1.2.2.1.symm) rfl dX2_init_6 (Nat.le_of_ble_eq_true rfl) (Nat.le_of_ble_eq_true rfl) ?_
  have hq := hq.1
  refine lv_aload_n hx hb dX2_init_9 rfl (lv_at hl 0 rfl) ?_
  refine lv_bipush (v := 30) hx hb dX2_init_10 (by decide) ?_
  refine o_put X hq hS (CN := RX3) (T := TT3) (N := 12) rfl in_T3 ty_T3 nm_T3 1 (by decide) q358 rfl  rfl rfl (by first | omega | (simp only [List.length_set]; omega)) dX2_init_12 fun H locs hq hS => ?_
  refine lv_aload_n hx hb dX2_init_15 rfl (lv_at hl 0 rfl) ?_
  refine lv_sipush (v := 1000) hx hb dX2_init_16 (by decide) ?_
  refine o_put X hq hS (CN := RX3) (T := TT3) (N := 12) rfl in_T3 ty_T3 nm_T3 2 (by decide) q361 rfl  rfl rfl (by first | omega | (simp only [List.length_set]; omega)) dX2_init_19 fun H locs hq hS => ?_
  refine lv_aload_n hx hb dX2_init_22 rfl (lv_at hl 0 rfl) ?_
  refine lv_sipush (v := 1000) hx hb dX2_init_23 (by decide) ?_
  refine o_put X hq hS (CN := RX3) (T := TT3) (N := 12) rfl in_T3 ty_T3 nm_T3 3 (by decide) q363 rfl  rfl rfl (by first | omega | (simp only [List.length_set]; omega)) dX2_init_26 fun H locs hq hS => ?_
  refine lv_aload_n hx hb dX2_init_29 rfl (lv_at hl 0 rfl) ?_
  refine lv_bipush (v := (-9)) hx hb dX2_init_30 (by decide) ?_
  refine o_put X hq hS (CN := RX3) (T := TT3) (N := 12) rfl in_T3 ty_T3 nm_T3 7 (by decide) q377 rfl  rfl rfl (by first | omega | (simp only [List.length_set]; omega)) dX2_init_32 fun H locs hq hS => ?_
  refine lv_aload_n hx hb dX2_init_35 rfl (lv_at hl 0 rfl) ?_
  refine lv_iload_n hx hb dX2_init_36 rfl (lv_at hl 2 rfl) ?_
  refine o_putF X hq hS (CN := RX3) (T := TT3) (N := 12) rfl in_T3 ty_T3 nm_T3 0 (by decide) q355 rfl rfl hnm  rfl rfl (by first | omega | (simp only [List.length_set]; omega)) dX2_init_37 fun H locs hq hS => ?_
  exact o_ret hx hb hrt hlk hq hS hQ rfl dX2_init_40
set_option maxHeartbeats 4000000 in
theorem o_train4 (l : Launch) (D : va_G) (d : Nat → ClassId) (q t : Nat) (n : Int32) (fs : List Value) (hf : 11 ≤ fs.length) : OV l yX2_init cX2_init 3 (rm_ 1) D d q 4 13 fs [.ref q, .ref t, .int n] (trF fs n) := by
  refine o_start RX2 rfl rfl (by decide) (Nat.le_of_ble_eq_true rfl) ?_
  intro p e s m av below meth c ls Q X hrt hlk hnm hl hq hQ
  have hx := X.1.1.1
  have hb := X.1.1.2.1
  have hts := X.1.1.2.2.2.2
  have hS : va_S (fun x => x = q) s.heap s.heap [] := va_S.rf
  have hl : lv_has ls 3 [(0, .ref q), (1, .ref t), (2, .int n)] := hl
  refine lv_aload_n hx hb dX2_init_0 rfl (lv_at hl 0 rfl) ?_
  refine lv_aload_n hx hb dX2_init_1 rfl (lv_at hl 1 rfl) ?_
  refine o_putX X hq hS (CN := RX4) (T := TT4) (N := 11) rfl in_T4 ty_T4 (by decide +kernel) q477 q456 q388 hnm dX2_init_2 fun H locs hq hS => ?_
  refine lv_aload_n hx hb dX2_init_5 rfl (lv_at hl 0 rfl) ?_
  refine W.objInit hx hb X.1.1.2.2.2.1 (hts _ q354) (hts _ q88) (hts _ q89) rfl (hl.1.trans X.1.1.2.2.1.symm) rfl dX2_init_6 (Nat.le_of_ble_eq_true rfl) (Nat.le_of_ble_eq_true rfl) ?_
  have hq := hq.1
  refine lv_aload_n hx hb dX2_init_9 rfl (lv_at hl 0 rfl) ?_
  refine lv_bipush (v := 30) hx hb dX2_init_10 (by decide) ?_
  refine o_put X hq hS (CN := RX4) (T := TT4) (N := 11) rfl in_T4 ty_T4 nm_T4 1 (by decide) q358 rfl  rfl rfl (by first | omega | (simp only [List.length_set]; omega)) dX2_init_12 fun H locs hq hS => ?_
  refine lv_aload_n hx hb dX2_init_15 rfl (lv_at hl 0 rfl) ?_
  refine lv_sipush (v := 1000) hx hb dX2_init_16 (by decide) ?_
  refine o_put X hq hS (CN := RX4) (T := TT4) (N := 11) rfl in_T4 ty_T4 nm_T4 2 (by decide) q361 rfl  rfl rfl (by first | omega | (simp only [List.length_set]; omega)) dX2_init_19 fun H locs hq hS => ?_
  refine lv_aload_n hx hb dX2_init_22 rfl (lv_at hl 0 rfl) ?_
  refine lv_sipush (v := 1000) hx hb dX2_init_23 (by decide) ?_
  refine o_put X hq hS (CN := RX4) (T := TT4) (N := 11) rfl in_T4 ty_T4 nm_T4 3 (by decide) q363 rfl  rfl rfl (by first | omega | (simp only [List.length_set]; omega)) dX2_init_26 fun H locs hq hS => ?_
  refine lv_aload_n hx hb dX2_init_29 rfl (lv_at hl 0 rfl) ?_
  refine lv_bipush (v := (-9)) hx hb dX2_init_30 (by decide) ?_
  refine o_put X hq hS (CN := RX4) (T := TT4) (N := 11) rfl in_T4 ty_T4 nm_T4 7 (by decide) q377 rfl  rfl rfl (by first | omega | (simp only [List.length_set]; omega)) dX2_init_32 fun H locs hq hS => ?_
  refine lv_aload_n hx hb dX2_init_35 rfl (lv_at hl 0 rfl) ?_
  refine lv_iload_n hx hb dX2_init_36 rfl (lv_at hl 2 rfl) ?_
  refine o_putF X hq hS (CN := RX4) (T := TT4) (N := 11) rfl in_T4 ty_T4 nm_T4 0 (by decide) q355 rfl rfl hnm  rfl rfl (by first | omega | (simp only [List.length_set]; omega)) dX2_init_37 fun H locs hq hS => ?_
  exact o_ret hx hb hrt hlk hq hS hQ rfl dX2_init_40
set_option maxHeartbeats 4000000 in
theorem o_train5 (l : Launch) (D : va_G) (d : Nat → ClassId) (q t : Nat) (n : Int32) (fs : List Value) (hf : 14 ≤ fs.length) : OV l yX2_init cX2_init 3 (rm_ 1) D d q 5 17 fs [.ref q, .ref t, .int n] (trF fs n) := by
  refine o_start RX2 rfl rfl (by decide) (Nat.le_of_ble_eq_true rfl) ?_
  intro p e s m av below meth c ls Q X hrt hlk hnm hl hq hQ
  have hx := X.1.1.1
  have hb := X.1.1.2.1
  have hts := X.1.1.2.2.2.2
  have hS : va_S (fun x => x = q) s.heap s.heap [] := va_S.rf
  have hl : lv_has ls 3 [(0, .ref q), (1, .ref t), (2, .int n)] := hl
  refine lv_aload_n hx hb dX2_init_0 rfl (lv_at hl 0 rfl) ?_
  refine lv_aload_n hx hb dX2_init_1 rfl (lv_at hl 1 rfl) ?_
  refine o_putX X hq hS (CN := RX5) (T := TT5) (N := 14) rfl in_T5 ty_T5 (by decide +kernel) q512 q484 q388 hnm dX2_init_2 fun H locs hq hS => ?_
  refine lv_aload_n hx hb dX2_init_5 rfl (lv_at hl 0 rfl) ?_
  refine W.objInit hx hb X.1.1.2.2.2.1 (hts _ q354) (hts _ q88) (hts _ q89) rfl (hl.1.trans X.1.1.2.2.1.symm) rfl dX2_init_6 (Nat.le_of_ble_eq_true rfl) (Nat.le_of_ble_eq_true rfl) ?_
  have hq := hq.1
  refine lv_aload_n hx hb dX2_init_9 rfl (lv_at hl 0 rfl) ?_
  refine lv_bipush (v := 30) hx hb dX2_init_10 (by decide) ?_
  refine o_put X hq hS (CN := RX5) (T := TT5) (N := 14) rfl in_T5 ty_T5 nm_T5 1 (by decide) q358 rfl  rfl rfl (by first | omega | (simp only [List.length_set]; omega)) dX2_init_12 fun H locs hq hS => ?_
  refine lv_aload_n hx hb dX2_init_15 rfl (lv_at hl 0 rfl) ?_
  refine lv_sipush (v := 1000) hx hb dX2_init_16 (by decide) ?_
  refine o_put X hq hS (CN := RX5) (T := TT5) (N := 14) rfl in_T5 ty_T5 nm_T5 2 (by decide) q361 rfl  rfl rfl (by first | omega | (simp only [List.length_set]; omega)) dX2_init_19 fun H locs hq hS => ?_
  refine lv_aload_n hx hb dX2_init_22 rfl (lv_at hl 0 rfl) ?_
  refine lv_sipush (v := 1000) hx hb dX2_init_23 (by decide) ?_
  refine o_put X hq hS (CN := RX5) (T := TT5) (N := 14) rfl in_T5 ty_T5 nm_T5 3 (by decide) q363 rfl  rfl rfl (by first | omega | (simp only [List.length_set]; omega)) dX2_init_26 fun H locs hq hS => ?_
  refine lv_aload_n hx hb dX2_init_29 rfl (lv_at hl 0 rfl) ?_
  refine lv_bipush (v := (-9)) hx hb dX2_init_30 (by decide) ?_
  refine o_put X hq hS (CN := RX5) (T := TT5) (N := 14) rfl in_T5 ty_T5 nm_T5 7 (by decide) q377 rfl  rfl rfl (by first | omega | (simp only [List.length_set]; omega)) dX2_init_32 fun H locs hq hS => ?_
  refine lv_aload_n hx hb dX2_init_35 rfl (lv_at hl 0 rfl) ?_
  refine lv_iload_n hx hb dX2_init_36 rfl (lv_at hl 2 rfl) ?_
  refine o_putF X hq hS (CN := RX5) (T := TT5) (N := 14) rfl in_T5 ty_T5 nm_T5 0 (by decide) q355 rfl rfl hnm  rfl rfl (by first | omega | (simp only [List.length_set]; omega)) dX2_init_37 fun H locs hq hS => ?_
  exact o_ret hx hb hrt hlk hq hS hQ rfl dX2_init_40
set_option maxHeartbeats 4000000 in
theorem o_plate3 (l : Launch) (D : va_G) (d : Nat → ClassId) (q t : Nat) (n : Int32) (nn : Nat) (fs : List Value) (hf : 12 ≤ fs.length) : OV l yX3_init cX3_init 4 (rm_ 3) D d q 3 14 fs [.ref q, .ref t, .int n, .ref nn] ((trF fs n).set 10 (.ref nn)) := by
  refine o_start RX3 rfl rfl (by decide) (Nat.le_of_ble_eq_true rfl) ?_
  intro p e s m av below meth c ls Q X hrt hlk hnm hl hq hQ
  have hx := X.1.1.1
  have hb := X.1.1.2.1
  have hts := X.1.1.2.2.2.2
  have hS : va_S (fun x => x = q) s.heap s.heap [] := va_S.rf
  have hl : lv_has ls 4 [(0, .ref q), (1, .ref t), (2, .int n), (3, .ref nn)] := hl
  refine lv_aload_n hx hb dX3_init_0 rfl (lv_at hl 0 rfl) ?_
  refine lv_aload_n hx hb dX3_init_1 rfl (lv_at hl 1 rfl) ?_
  refine o_putX X hq hS (CN := RX3) (T := TT3) (N := 12) rfl in_T3 ty_T3 (by decide +kernel) q437 q424 q432 hnm dX3_init_2 fun H locs hq hS => ?_
  refine lv_aload_n hx hb dX3_init_5 rfl (lv_at hl 0 rfl) ?_
  refine lv_aload_n hx hb dX3_init_6 rfl (lv_at hl 1 rfl) ?_
  refine lv_iload_n hx hb dX3_init_7 rfl (lv_at hl 2 rfl) ?_
  refine o_call X hq hS (As := [.ref t, .int n]) (o_train3 l D d q t n fs hf) 2 q428 q352 q69 q353 ⟨rfl, rfl⟩ rfl ⟨by decide, by decide, rfl⟩ ⟨by decide, by decide⟩ ⟨by simp [rm_], by simp [rm_]⟩ rfl hl.1 rfl (by decide) dX3_init_8 fun H locs hq hS => ?_
  have hf : 12 ≤ (trF fs n).length := by rw [trF_len]; exact hf
  refine lv_aload_n hx hb dX3_init_11 rfl (lv_at hl 0 rfl) ?_
  refine lv_aload_n hx hb dX3_init_12 rfl (lv_at hl 3 rfl) ?_
  refine o_putF X hq hS (CN := RX3) (T := TT3) (N := 12) rfl in_T3 ty_T3 nm_T3 10 (by decide) q429 rfl rfl hnm  rfl rfl (by first | omega | (simp only [List.length_set]; omega)) dX3_init_13 fun H locs hq hS => ?_
  exact o_ret hx hb hrt hlk hq hS hQ rfl dX3_init_16
set_option maxHeartbeats 4000000 in
theorem o_plate5 (l : Launch) (D : va_G) (d : Nat → ClassId) (q t : Nat) (n : Int32) (nn : Nat) (fs : List Value) (hf : 14 ≤ fs.length) : OV l yX3_init cX3_init 4 (rm_ 3) D d q 5 17 fs [.ref q, .ref t, .int n, .ref nn] ((trF fs n).set 10 (.ref nn)) := by
  refine o_start RX3 rfl rfl (by decide) (Nat.le_of_ble_eq_true rfl) ?_
  intro p e s m av below meth c ls Q X hrt hlk hnm hl hq hQ
  have hx := X.1.1.1
  have hb := X.1.1.2.1
  have hts := X.1.1.2.2.2.2
  have hS : va_S (fun x => x = q) s.heap s.heap [] := va_S.rf
  have hl : lv_has ls 4 [(0, .ref q), (1, .ref t), (2, .int n), (3, .ref nn)] := hl
  refine lv_aload_n hx hb dX3_init_0 rfl (lv_at hl 0 rfl) ?_
  refine lv_aload_n hx hb dX3_init_1 rfl (lv_at hl 1 rfl) ?_
  refine o_putX X hq hS (CN := RX5) (T := TT5) (N := 14) rfl in_T5 ty_T5 (by decide +kernel) q501 q484 q432 hnm dX3_init_2 fun H locs hq hS => ?_
  refine lv_aload_n hx hb dX3_init_5 rfl (lv_at hl 0 rfl) ?_
  refine lv_aload_n hx hb dX3_init_6 rfl (lv_at hl 1 rfl) ?_
  refine lv_iload_n hx hb dX3_init_7 rfl (lv_at hl 2 rfl) ?_
  refine o_call X hq hS (As := [.ref t, .int n]) (o_train5 l D d q t n fs hf) 2 q428 q352 q69 q353 ⟨rfl, rfl⟩ rfl ⟨by decide, by decide, rfl⟩ ⟨by decide, by decide⟩ ⟨by simp [rm_], by simp [rm_]⟩ rfl hl.1 rfl (by decide) dX3_init_8 fun H locs hq hS => ?_
  have hf : 14 ≤ (trF fs n).length := by rw [trF_len]; exact hf
  refine lv_aload_n hx hb dX3_init_11 rfl (lv_at hl 0 rfl) ?_
  refine lv_aload_n hx hb dX3_init_12 rfl (lv_at hl 3 rfl) ?_
  refine o_putF X hq hS (CN := RX5) (T := TT5) (N := 14) rfl in_T5 ty_T5 nm_T5 10 (by decide) q429 rfl rfl hnm  rfl rfl (by first | omega | (simp only [List.length_set]; omega)) dX3_init_13 fun H locs hq hS => ?_
  exact o_ret hx hb hrt hlk hq hS hQ rfl dX3_init_16
set_option maxHeartbeats 4000000 in
theorem o_snail4 (l : Launch) (D : va_G) (d : Nat → ClassId) (q t : Nat) (n : Int32) (nn : Nat) (fs : List Value) (hf : 11 ≤ fs.length) : OV l yX4_init cX4_init 4 (rm_ 3) D d q 4 13 fs [.ref q, .ref t, .int n, .ref nn] ((trF fs n).set 10 (.ref nn)) := by
  refine o_start RX4 rfl rfl (by decide) (Nat.le_of_ble_eq_true rfl) ?_
  intro p e s m av below meth c ls Q X hrt hlk hnm hl hq hQ
  have hx := X.1.1.1
  have hb := X.1.1.2.1
  have hts := X.1.1.2.2.2.2
  have hS : va_S (fun x => x = q) s.heap s.heap [] := va_S.rf
  have hl : lv_has ls 4 [(0, .ref q), (1, .ref t), (2, .int n), (3, .ref nn)] := hl
  refine lv_aload_n hx hb dX4_init_0 rfl (lv_at hl 0 rfl) ?_
  refine lv_aload_n hx hb dX4_init_1 rfl (lv_at hl 1 rfl) ?_
  refine o_putX X hq hS (CN := RX4) (T := TT4) (N := 11) rfl in_T4 ty_T4 (by decide +kernel) q465 q456 q462 hnm dX4_init_2 fun H locs hq hS => ?_
  refine lv_aload_n hx hb dX4_init_5 rfl (lv_at hl 0 rfl) ?_
  refine lv_aload_n hx hb dX4_init_6 rfl (lv_at hl 1 rfl) ?_
  refine lv_iload_n hx hb dX4_init_7 rfl (lv_at hl 2 rfl) ?_
  refine o_call X hq hS (As := [.ref t, .int n]) (o_train4 l D d q t n fs hf) 2 q460 q352 q69 q353 ⟨rfl, rfl⟩ rfl ⟨by decide, by decide, rfl⟩ ⟨by decide, by decide⟩ ⟨by simp [rm_], by simp [rm_]⟩ rfl hl.1 rfl (by decide) dX4_init_8 fun H locs hq hS => ?_
  have hf : 11 ≤ (trF fs n).length := by rw [trF_len]; exact hf
  refine lv_aload_n hx hb dX4_init_11 rfl (lv_at hl 0 rfl) ?_
  refine lv_aload_n hx hb dX4_init_12 rfl (lv_at hl 3 rfl) ?_
  refine o_putF X hq hS (CN := RX4) (T := TT4) (N := 11) rfl in_T4 ty_T4 nm_T4 10 (by decide) q461 rfl rfl hnm  rfl rfl (by first | omega | (simp only [List.length_set]; omega)) dX4_init_13 fun H locs hq hS => ?_
  exact o_ret hx hb hrt hlk hq hS hQ rfl dX4_init_16
set_option maxHeartbeats 4000000 in
theorem o_barrel5 (l : Launch) (D : va_G) (d : Nat → ClassId) (q t : Nat) (n : Int32) (nn pp : Nat) (fs : List Value) (hf : 14 ≤ fs.length) : OV l yX5_init cX5_init 5 (rm_ 5) D d q 5 17 fs [.ref q, .ref t, .int n, .ref nn, .ref pp] (((trF fs n).set 10 (.ref nn)).set 12 (.ref pp)) := by
  refine o_start RX5 rfl rfl (by decide) (Nat.le_of_ble_eq_true rfl) ?_
  intro p e s m av below meth c ls Q X hrt hlk hnm hl hq hQ
  have hx := X.1.1.1
  have hb := X.1.1.2.1
  have hts := X.1.1.2.2.2.2
  have hS : va_S (fun x => x = q) s.heap s.heap [] := va_S.rf
  have hl : lv_has ls 5 [(0, .ref q), (1, .ref t), (2, .int n), (3, .ref nn), (4, .ref pp)] := hl
  refine lv_aload_n hx hb dX5_init_0 rfl (lv_at hl 0 rfl) ?_
  refine lv_aload_n hx hb dX5_init_1 rfl (lv_at hl 1 rfl) ?_
  refine o_putX X hq hS (CN := RX5) (T := TT5) (N := 14) rfl in_T5 ty_T5 (by decide +kernel) q497 q484 q492 hnm dX5_init_2 fun H locs hq hS => ?_
  refine lv_aload_n hx hb dX5_init_5 rfl (lv_at hl 0 rfl) ?_
  refine lv_aload_n hx hb dX5_init_6 rfl (lv_at hl 1 rfl) ?_
  refine lv_iload_n hx hb dX5_init_7 rfl (lv_at hl 2 rfl) ?_
  refine lv_aload_n hx hb dX5_init_8 rfl (lv_at hl 3 rfl) ?_
  refine o_call X hq hS (As := [.ref t, .int n, .ref nn]) (o_plate5 l D d q t n nn fs hf) 3 q488 q426 q70 q427 ⟨rfl, rfl⟩ rfl ⟨by decide, by decide, rfl⟩ ⟨by decide, by decide⟩ ⟨by simp [rm_], by simp [rm_]⟩ rfl hl.1 rfl (by decide) dX5_init_9 fun H locs hq hS => ?_
  have hf : 14 ≤ ((trF fs n).set 10 (.ref nn)).length := by rw [List.length_set, trF_len]; exact hf
  refine lv_aload_n hx hb dX5_init_12 rfl (lv_at hl 0 rfl) ?_
  refine lv_aload hx hb dX5_init_13 (lv_at hl 4 rfl) ?_
  refine o_putF X hq hS (CN := RX5) (T := TT5) (N := 14) rfl in_T5 ty_T5 nm_T5 12 (by decide) q489 rfl rfl hnm  rfl rfl (by first | omega | (simp only [List.length_set]; omega)) dX5_init_15 fun H locs hq hS => ?_
  exact o_ret hx hb hrt hlk hq hS hQ rfl dX5_init_18
