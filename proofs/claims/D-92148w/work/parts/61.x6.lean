/-! PRINTED by gen/run_x6.py -/
set_option maxRecDepth 100000
def x_hands_v29 (S : XS) (x1 : Int32) : Int32 := (S.1 60 (Int32.toNatClampNeg x1))
def x_hands (S : XS) (x1 : Int32) (x2 : Int32) : Int32 × XS := (if 0 ≤ (x_need S (x_in x2 0 1439) x1).1 then ((x_hands_v29 S x1), (xu S 60 (Int32.toNatClampNeg x1) x2)) else ((x_need S (x_in x2 0 1439) x1).1, (x_need S (x_in x2 0 1439) x1).2))
theorem x_hands_N (S : XS) (x1 : Int32) (x2 : Int32) : (x_hands S x1 x2).2.2.2.2 = S.2.2.2 := by
  unfold x_hands
  refine ifI (P := fun (z : Int32 × XS) => z.2.2.2.2 = S.2.2.2) (fun c1 => ?_) (fun c1 => ?_)
  · exact rfl
  · have hN10 : (x_need S (x_in x2 0 1439) x1).2.2.2.2 = S.2.2.2 := x_need_N S (x_in x2 0 1439) x1
    exact hN10
theorem x_hands_o2 (S : XS) (x1 : Int32) (x2 : Int32) (hI : XInv S) (hN10 : (x_need S (x_in x2 0 1439) x1).2.2.2.2 = S.2.2.2) (hI10 : XInv (x_need S (x_in x2 0 1439) x1).2) (c1 : 0 ≤ (x_need S (x_in x2 0 1439) x1).1) (okc1_0 : 0 ≤ x1 ∧ x1 < 4) (okc1_1 : ¬ (x_in x2 0 1439) = 0) (okc1_2 : ¬ S.2.2.2 5 (Int32.toNatClampNeg x1) = 0) : 0 ≤ x2 ∧ x2 < 1440 := by 
  have bl_x1 := Int32.toInt_lt x1
  have bl_x2 := Int32.toInt_lt x2
  try simp only [x_in_eq, x_isTower_eq] at *
  try simp only [i_le, i_lt, i_eq, Int32.reduceToInt] at *
  try simp only [Int32.reduceToInt] at *
  omega
theorem x_hands_inv (S : XS) (x1 : Int32) (x2 : Int32) (hI : XInv S) : XInv (x_hands S x1 x2).2 := by
  unfold x_hands
  refine ifI (P := fun (z : Int32 × XS) => XInv z.2) (fun c1 => ?_) (fun c1 => ?_)
  · have hN10 : (x_need S (x_in x2 0 1439) x1).2.2.2.2 = S.2.2.2 := x_need_N S (x_in x2 0 1439) x1
    have hI10 : XInv (x_need S (x_in x2 0 1439) x1).2 := x_need_inv S (x_in x2 0 1439) x1 (hI)
    have okc1_0 : 0 ≤ x1 ∧ x1 < 4 := (x_need_ok S (x_in x2 0 1439) x1 hI c1).2.1
    have okc1_1 : ¬ (x_in x2 0 1439) = 0 := (x_need_ok S (x_in x2 0 1439) x1 hI c1).2.2.1
    have okc1_2 : ¬ S.2.2.2 5 (Int32.toNatClampNeg x1) = 0 := (x_need_ok S (x_in x2 0 1439) x1 hI c1).2.2.2
    exact (XInv_60 hI _ _ (x_hands_o2 S x1 x2 hI hN10 hI10 c1 okc1_0 okc1_1 okc1_2))
  · have hI10 : XInv (x_need S (x_in x2 0 1439) x1).2 := x_need_inv S (x_in x2 0 1439) x1 (hI)
    exact hI10
set_option maxHeartbeats 4000000 in
theorem xt_hands (l : Launch) (D : va_G) (d : Nat → ClassId) (A : Nat → Prop) (ad : XK → Nat) (S : XS) (x1 : Int32) (x2 : Int32) (hI : XInv S) : XI l yX0_hands cX0_hands 5 .int (rm_ 3) D d A ad S [.ref (ad (0, 0)), .int x1, .int x2] (x_hands S x1 x2) := by
  refine x_startI RX0 rfl (by decide) (Nat.le_of_ble_eq_true rfl) ?_
  intro p e s m av below meth c ls Q X hrt hlk hl hR hQ
  have hx := X.1.1.1
  have hb := X.1.1.2.1
  have hown := X.1.1.2.2.2.1
  have hts := X.1.1.2.2.2.2
  have hS : va_S A s.heap s.heap [] := va_S.rf
  have hl : lv_has ls 5 [(0, .ref (ad (0, 0))), (1, .int x1), (2, .int x2)] := hl
  refine lv_aload_n hx hb dX0_hands_0 rfl (lv_at hl 0 rfl) ?_
  refine lv_iload_n hx hb dX0_hands_1 rfl (lv_at hl 2 rfl) ?_
  refine lv_iconst (v := 0) hx hb dX0_hands_2 (by decide) ?_
  refine lv_sipush (v := 1439) hx hb dX0_hands_3 (by decide) ?_
  refine s_ci X.1.1 (st_x_in l x2 0 1439) 3 (lw_S q280 q281 q58 q282) ⟨rfl, rfl⟩ (by decide +kernel) ⟨by decide, by decide⟩ ⟨by decide, by decide⟩ rfl hl.1 rfl (Nat.le_of_ble_eq_true rfl) dX0_hands_6 ?_
  refine lv_iload_n hx hb dX0_hands_9 rfl (lv_at hl 1 rfl) ?_
  refine x_bi hS (xr_V X hR x_lv0 (ci := 0) (fs := x_fs ad S) rfl rfl (xt_need l D d A ad S (x_in x2 0 1439) x1 (hI)) 2 (lw_V q747 q749 qs5 q58 q750) ⟨rfl, rfl⟩ (by decide +kernel) ⟨by decide, by decide⟩ ⟨by decide, by decide⟩ rfl hl.1 rfl (Nat.le_of_ble_eq_true rfl) dX0_hands_10) (fun H locs hR hS => ?_)
  have hN10 : (x_need S (x_in x2 0 1439) x1).2.2.2.2 = S.2.2.2 := x_need_N S (x_in x2 0 1439) x1
  have hI10 : XInv (x_need S (x_in x2 0 1439) x1).2 := x_need_inv S (x_in x2 0 1439) x1 (hI)
  refine lv_istore_n (lv' := [(3, .int (x_need S (x_in x2 0 1439) x1).1), (0, .ref (ad (0, 0))), (1, .int x1), (2, .int x2)]) hx hb dX0_hands_13 rfl hl (by decide) rfl (fun ls hl => ?_)
  refine lv_iload_n hx hb dX0_hands_14 rfl (lv_at hl 0 rfl) ?_
  refine lv_if_ge (tgt := 20) hx hb dX0_hands_15 (by decide) (fun c1 => ?_) (fun c1 => ?_)
  · have okc1 := x_need_ok S (x_in x2 0 1439) x1 hI c1
    have hR : XR D d A ad S H := okc1.1 ▸ hR
    have okc1_0 : 0 ≤ x1 ∧ x1 < 4 := okc1.2.1
    have okc1_1 : ¬ (x_in x2 0 1439) = 0 := okc1.2.2.1
    have okc1_2 : ¬ S.2.2.2 5 (Int32.toNatClampNeg x1) = 0 := okc1.2.2.2
    refine lv_aload_n hx hb dX0_hands_20 rfl (lv_at hl 1 rfl) ?_
    refine xg_a X.1 hR 7 (by decide) (by decide) q104 dX0_hands_21 ?_
    refine lv_iload_n hx hb dX0_hands_24 rfl (lv_at hl 2 rfl) ?_
    refine x_ldw X hR (ixl 4 4 (by decide) rfl (okc1_0)) (okc1_2) dX0_hands_25 ?_
    refine xgw X hR (x_lvw (tn4 (okc1_0)) (okc1_2)) 0 (Or.inl (by decide)) (Or.inr q696) rfl dX0_hands_26 ?_
    refine lv_istore (lv' := [(4, .int (x_hands_v29 S x1)), (3, .int (x_need S (x_in x2 0 1439) x1).1), (0, .ref (ad (0, 0))), (1, .int x1), (2, .int x2)]) hx hb dX0_hands_29 hl (by decide) rfl (fun ls hl => ?_)
    refine lv_aload_n hx hb dX0_hands_31 rfl (lv_at hl 2 rfl) ?_
    refine xg_a X.1 hR 7 (by decide) (by decide) q104 dX0_hands_32 ?_
    refine lv_iload_n hx hb dX0_hands_35 rfl (lv_at hl 3 rfl) ?_
    refine x_ldw X hR (ixl 4 4 (by decide) rfl (okc1_0)) (okc1_2) dX0_hands_36 ?_
    refine lv_iload_n hx hb dX0_hands_37 rfl (lv_at hl 4 rfl) ?_
    refine xpw X hR hS (x_lvw (tn4 (okc1_0)) (okc1_2)) 0 (Or.inl (by decide)) rfl (Or.inr q696) rfl dX0_hands_38 (fun H locs hR hS => ?_)
    refine lv_iload hx hb dX0_hands_41 (lv_at hl 0 rfl) ?_
    exact x_ri hx hb hrt (rfl) hlk hR hS hQ (if_pos c1) dX0_hands_43
  · refine lv_iload_n hx hb dX0_hands_18 rfl (lv_at hl 0 rfl) ?_
    exact x_ri hx hb hrt (rfl) hlk hR hS hQ (if_neg c1) dX0_hands_19
def x_rate_v31 (S : XS) (x1 : Int32) : Int32 := (S.1 62 (Int32.toNatClampNeg x1))
def x_rate (S : XS) (x1 : Int32) (x2 : Int32) : Int32 × XS := (if 0 ≤ (x_need S (x_in x2 (-3600) 3600) x1).1 then ((x_rate_v31 S x1), (xu S 62 (Int32.toNatClampNeg x1) x2)) else ((x_need S (x_in x2 (-3600) 3600) x1).1, (x_need S (x_in x2 (-3600) 3600) x1).2))
theorem x_rate_N (S : XS) (x1 : Int32) (x2 : Int32) : (x_rate S x1 x2).2.2.2.2 = S.2.2.2 := by
  unfold x_rate
  refine ifI (P := fun (z : Int32 × XS) => z.2.2.2.2 = S.2.2.2) (fun c1 => ?_) (fun c1 => ?_)
  · exact rfl
  · have hN12 : (x_need S (x_in x2 (-3600) 3600) x1).2.2.2.2 = S.2.2.2 := x_need_N S (x_in x2 (-3600) 3600) x1
    exact hN12
theorem x_rate_o2 (S : XS) (x1 : Int32) (x2 : Int32) (hI : XInv S) (hN12 : (x_need S (x_in x2 (-3600) 3600) x1).2.2.2.2 = S.2.2.2) (hI12 : XInv (x_need S (x_in x2 (-3600) 3600) x1).2) (c1 : 0 ≤ (x_need S (x_in x2 (-3600) 3600) x1).1) (okc1_0 : 0 ≤ x1 ∧ x1 < 4) (okc1_1 : ¬ (x_in x2 (-3600) 3600) = 0) (okc1_2 : ¬ S.2.2.2 5 (Int32.toNatClampNeg x1) = 0) : (-3600) ≤ x2 ∧ x2 ≤ 3600 := by 
  have bl_x1 := Int32.toInt_lt x1
  have bl_x2 := Int32.toInt_lt x2
  try simp only [x_in_eq, x_isTower_eq] at *
  try simp only [i_le, i_lt, i_eq, Int32.reduceToInt] at *
  try simp only [Int32.reduceToInt] at *
  omega
theorem x_rate_inv (S : XS) (x1 : Int32) (x2 : Int32) (hI : XInv S) : XInv (x_rate S x1 x2).2 := by
  unfold x_rate
  refine ifI (P := fun (z : Int32 × XS) => XInv z.2) (fun c1 => ?_) (fun c1 => ?_)
  · have hN12 : (x_need S (x_in x2 (-3600) 3600) x1).2.2.2.2 = S.2.2.2 := x_need_N S (x_in x2 (-3600) 3600) x1
    have hI12 : XInv (x_need S (x_in x2 (-3600) 3600) x1).2 := x_need_inv S (x_in x2 (-3600) 3600) x1 (hI)
    have okc1_0 : 0 ≤ x1 ∧ x1 < 4 := (x_need_ok S (x_in x2 (-3600) 3600) x1 hI c1).2.1
    have okc1_1 : ¬ (x_in x2 (-3600) 3600) = 0 := (x_need_ok S (x_in x2 (-3600) 3600) x1 hI c1).2.2.1
    have okc1_2 : ¬ S.2.2.2 5 (Int32.toNatClampNeg x1) = 0 := (x_need_ok S (x_in x2 (-3600) 3600) x1 hI c1).2.2.2
    exact (XInv_62 hI _ _ (x_rate_o2 S x1 x2 hI hN12 hI12 c1 okc1_0 okc1_1 okc1_2))
  · have hI12 : XInv (x_need S (x_in x2 (-3600) 3600) x1).2 := x_need_inv S (x_in x2 (-3600) 3600) x1 (hI)
    exact hI12
set_option maxHeartbeats 4000000 in
theorem xt_rate (l : Launch) (D : va_G) (d : Nat → ClassId) (A : Nat → Prop) (ad : XK → Nat) (S : XS) (x1 : Int32) (x2 : Int32) (hI : XInv S) : XI l yX0_rate cX0_rate 5 .int (rm_ 3) D d A ad S [.ref (ad (0, 0)), .int x1, .int x2] (x_rate S x1 x2) := by
  refine x_startI RX0 rfl (by decide) (Nat.le_of_ble_eq_true rfl) ?_
  intro p e s m av below meth c ls Q X hrt hlk hl hR hQ
  have hx := X.1.1.1
  have hb := X.1.1.2.1
  have hown := X.1.1.2.2.2.1
  have hts := X.1.1.2.2.2.2
  have hS : va_S A s.heap s.heap [] := va_S.rf
  have hl : lv_has ls 5 [(0, .ref (ad (0, 0))), (1, .int x1), (2, .int x2)] := hl
  refine lv_aload_n hx hb dX0_rate_0 rfl (lv_at hl 0 rfl) ?_
  refine lv_iload_n hx hb dX0_rate_1 rfl (lv_at hl 2 rfl) ?_
  refine lv_sipush (v := (-3600)) hx hb dX0_rate_2 (by decide) ?_
  refine lv_sipush (v := 3600) hx hb dX0_rate_5 (by decide) ?_
  refine s_ci X.1.1 (st_x_in l x2 (-3600) 3600) 3 (lw_S q280 q281 q58 q282) ⟨rfl, rfl⟩ (by decide +kernel) ⟨by decide, by decide⟩ ⟨by decide, by decide⟩ rfl hl.1 rfl (Nat.le_of_ble_eq_true rfl) dX0_rate_8 ?_
  refine lv_iload_n hx hb dX0_rate_11 rfl (lv_at hl 1 rfl) ?_
  refine x_bi hS (xr_V X hR x_lv0 (ci := 0) (fs := x_fs ad S) rfl rfl (xt_need l D d A ad S (x_in x2 (-3600) 3600) x1 (hI)) 2 (lw_V q747 q749 qs5 q58 q750) ⟨rfl, rfl⟩ (by decide +kernel) ⟨by decide, by decide⟩ ⟨by decide, by decide⟩ rfl hl.1 rfl (Nat.le_of_ble_eq_true rfl) dX0_rate_12) (fun H locs hR hS => ?_)
  have hN12 : (x_need S (x_in x2 (-3600) 3600) x1).2.2.2.2 = S.2.2.2 := x_need_N S (x_in x2 (-3600) 3600) x1
  have hI12 : XInv (x_need S (x_in x2 (-3600) 3600) x1).2 := x_need_inv S (x_in x2 (-3600) 3600) x1 (hI)
  refine lv_istore_n (lv' := [(3, .int (x_need S (x_in x2 (-3600) 3600) x1).1), (0, .ref (ad (0, 0))), (1, .int x1), (2, .int x2)]) hx hb dX0_rate_15 rfl hl (by decide) rfl (fun ls hl => ?_)
  refine lv_iload_n hx hb dX0_rate_16 rfl (lv_at hl 0 rfl) ?_
  refine lv_if_ge (tgt := 22) hx hb dX0_rate_17 (by decide) (fun c1 => ?_) (fun c1 => ?_)
  · have okc1 := x_need_ok S (x_in x2 (-3600) 3600) x1 hI c1
    have hR : XR D d A ad S H := okc1.1 ▸ hR
    have okc1_0 : 0 ≤ x1 ∧ x1 < 4 := okc1.2.1
    have okc1_1 : ¬ (x_in x2 (-3600) 3600) = 0 := okc1.2.2.1
    have okc1_2 : ¬ S.2.2.2 5 (Int32.toNatClampNeg x1) = 0 := okc1.2.2.2
    refine lv_aload_n hx hb dX0_rate_22 rfl (lv_at hl 1 rfl) ?_
    refine xg_a X.1 hR 7 (by decide) (by decide) q104 dX0_rate_23 ?_
    refine lv_iload_n hx hb dX0_rate_26 rfl (lv_at hl 2 rfl) ?_
    refine x_ldw X hR (ixl 4 4 (by decide) rfl (okc1_0)) (okc1_2) dX0_rate_27 ?_
    refine xgw X hR (x_lvw (tn4 (okc1_0)) (okc1_2)) 2 (Or.inl (by decide)) (Or.inr q700) rfl dX0_rate_28 ?_
    refine lv_istore (lv' := [(4, .int (x_rate_v31 S x1)), (3, .int (x_need S (x_in x2 (-3600) 3600) x1).1), (0, .ref (ad (0, 0))), (1, .int x1), (2, .int x2)]) hx hb dX0_rate_31 hl (by decide) rfl (fun ls hl => ?_)
    refine lv_aload_n hx hb dX0_rate_33 rfl (lv_at hl 2 rfl) ?_
    refine xg_a X.1 hR 7 (by decide) (by decide) q104 dX0_rate_34 ?_
    refine lv_iload_n hx hb dX0_rate_37 rfl (lv_at hl 3 rfl) ?_
    refine x_ldw X hR (ixl 4 4 (by decide) rfl (okc1_0)) (okc1_2) dX0_rate_38 ?_
    refine lv_iload_n hx hb dX0_rate_39 rfl (lv_at hl 4 rfl) ?_
    refine xpw X hR hS (x_lvw (tn4 (okc1_0)) (okc1_2)) 2 (Or.inl (by decide)) rfl (Or.inr q700) rfl dX0_rate_40 (fun H locs hR hS => ?_)
    refine lv_iload hx hb dX0_rate_43 (lv_at hl 0 rfl) ?_
    exact x_ri hx hb hrt (rfl) hlk hR hS hQ (if_pos c1) dX0_rate_45
  · refine lv_iload_n hx hb dX0_rate_20 rfl (lv_at hl 0 rfl) ?_
    exact x_ri hx hb hrt (rfl) hlk hR hS hQ (if_neg c1) dX0_rate_21
def x_go_j30_s0 (S : XS) (x1 : Int32) : Int32 := (if (S.1 64 (Int32.toNatClampNeg x1)) = 0 then 0 else 1)
def x_go (S : XS) (x1 : Int32) (x2 : Int32) : Int32 × XS := (if 0 ≤ (x_need S 1 x1).1 then ((x_go_j30_s0 S x1), (xu S 64 (Int32.toNatClampNeg x1) x2)) else ((x_need S 1 x1).1, (x_need S 1 x1).2))
theorem x_go_N (S : XS) (x1 : Int32) (x2 : Int32) : (x_go S x1 x2).2.2.2.2 = S.2.2.2 := by
  unfold x_go
  refine ifI (P := fun (z : Int32 × XS) => z.2.2.2.2 = S.2.2.2) (fun c1 => ?_) (fun c1 => ?_)
  · exact rfl
  · have hN3 : (x_need S 1 x1).2.2.2.2 = S.2.2.2 := x_need_N S 1 x1
    exact hN3
theorem x_go_inv (S : XS) (x1 : Int32) (x2 : Int32) (hz_x2 : x2 = 0 ∨ x2 = 1) (hI : XInv S) : XInv (x_go S x1 x2).2 := by
  unfold x_go
  refine ifI (P := fun (z : Int32 × XS) => XInv z.2) (fun c1 => ?_) (fun c1 => ?_)
  · exact (XInv_xu hI _ _ _ (by decide))
  · have hI3 : XInv (x_need S 1 x1).2 := x_need_inv S 1 x1 (hI)
    exact hI3
set_option maxHeartbeats 4000000 in
theorem xt_go (l : Launch) (D : va_G) (d : Nat → ClassId) (A : Nat → Prop) (ad : XK → Nat) (S : XS) (x1 : Int32) (x2 : Int32) (hz_x2 : x2 = 0 ∨ x2 = 1) (hI : XInv S) : XI l yX0_go cX0_go 5 .int (rm_ 3) D d A ad S [.ref (ad (0, 0)), .int x1, .int x2] (x_go S x1 x2) := by
  refine x_startI RX0 rfl (by decide) (Nat.le_of_ble_eq_true rfl) ?_
  intro p e s m av below meth c ls Q X hrt hlk hl hR hQ
  have hx := X.1.1.1
  have hb := X.1.1.2.1
  have hown := X.1.1.2.2.2.1
  have hts := X.1.1.2.2.2.2
  have hS : va_S A s.heap s.heap [] := va_S.rf
  have hl : lv_has ls 5 [(0, .ref (ad (0, 0))), (1, .int x1), (2, .int x2)] := hl
  refine lv_aload_n hx hb dX0_go_0 rfl (lv_at hl 0 rfl) ?_
  refine lv_iconst (v := 1) hx hb dX0_go_1 (by decide) ?_
  refine lv_iload_n hx hb dX0_go_2 rfl (lv_at hl 1 rfl) ?_
  refine x_bi hS (xr_V X hR x_lv0 (ci := 0) (fs := x_fs ad S) rfl rfl (xt_need l D d A ad S 1 x1 (hI)) 2 (lw_V q747 q749 qs5 q58 q750) ⟨rfl, rfl⟩ (by decide +kernel) ⟨by decide, by decide⟩ ⟨by decide, by decide⟩ rfl hl.1 rfl (Nat.le_of_ble_eq_true rfl) dX0_go_3) (fun H locs hR hS => ?_)
  have hN3 : (x_need S 1 x1).2.2.2.2 = S.2.2.2 := x_need_N S 1 x1
  have hI3 : XInv (x_need S 1 x1).2 := x_need_inv S 1 x1 (hI)
  refine lv_istore_n (lv' := [(3, .int (x_need S 1 x1).1), (0, .ref (ad (0, 0))), (1, .int x1), (2, .int x2)]) hx hb dX0_go_6 rfl hl (by decide) rfl (fun ls hl => ?_)
  refine lv_iload_n hx hb dX0_go_7 rfl (lv_at hl 0 rfl) ?_
  refine lv_if_ge (tgt := 13) hx hb dX0_go_8 (by decide) (fun c1 => ?_) (fun c1 => ?_)
  · have okc1 := x_need_ok S 1 x1 hI c1
    have hR : XR D d A ad S H := okc1.1 ▸ hR
    have okc1_0 : 0 ≤ x1 ∧ x1 < 4 := okc1.2.1
    have okc1_1 : ¬ (1 : Int32) = 0 := okc1.2.2.1
    have okc1_2 : ¬ S.2.2.2 5 (Int32.toNatClampNeg x1) = 0 := okc1.2.2.2
    refine lv_aload_n hx hb dX0_go_13 rfl (lv_at hl 1 rfl) ?_
    refine xg_a X.1 hR 7 (by decide) (by decide) q104 dX0_go_14 ?_
    refine lv_iload_n hx hb dX0_go_17 rfl (lv_at hl 2 rfl) ?_
    refine x_ldw X hR (ixl 4 4 (by decide) rfl (okc1_0)) (okc1_2) dX0_go_18 ?_
    refine xgw X hR (x_lvw (tn4 (okc1_0)) (okc1_2)) 4 (Or.inl (by decide)) (Or.inr q704) rfl dX0_go_19 ?_
    have J4 : ∀ (w3 : Int32) (H : Heap) (locs : List Loc) (ls : Array Slot), w3 = (x_go_j30_s0 S x1) → XR D d A ad S H → va_S A s.heap H locs → lv_has ls 5 [(3, .int (x_need S 1 x1).1), (0, .ref (ad (0, 0))), (1, .int x1), (2, .int x2)] → W p l e (rm_ 3) s m av below meth c H locs 0 0 Q (F0 m 30 ls [.int w3]) := by
      intro w3 H locs ls ew3 hR hS hl
      subst ew3
      refine lv_istore (lv' := [(4, .int (x_go_j30_s0 S x1)), (3, .int (x_need S 1 x1).1), (0, .ref (ad (0, 0))), (1, .int x1), (2, .int x2)]) hx hb dX0_go_30 hl (by decide) rfl (fun ls hl => ?_)
      refine lv_aload_n hx hb dX0_go_32 rfl (lv_at hl 2 rfl) ?_
      refine xg_a X.1 hR 7 (by decide) (by decide) q104 dX0_go_33 ?_
      refine lv_iload_n hx hb dX0_go_36 rfl (lv_at hl 3 rfl) ?_
      refine x_ldw X hR (ixl 4 4 (by decide) rfl (okc1_0)) (okc1_2) dX0_go_37 ?_
      refine lv_iload_n hx hb dX0_go_38 rfl (lv_at hl 4 rfl) ?_
      refine xpwz X hR hS (x_lvw (tn4 (okc1_0)) (okc1_2)) 4 (Or.inl (by decide)) rfl (Or.inr q704) rfl (hz_x2) dX0_go_39 (fun H locs hR hS => ?_)
      refine lv_iload hx hb dX0_go_42 (lv_at hl 0 rfl) ?_
      exact x_ri hx hb hrt (rfl) hlk hR hS hQ (if_pos c1) dX0_go_44
    refine lv_if_eq (tgt := 29) hx hb dX0_go_22 (by decide) (fun c2 => ?_) (fun c2 => ?_)
    · refine lv_iconst (v := 0) hx hb dX0_go_29 (by decide) ?_
      exact J4 _ _ _  _ (Eq.symm (if_pos c2)) hR hS  (lv_sub hl [0, 1, 2, 3] rfl)
    · refine lv_iconst (v := 1) hx hb dX0_go_25 (by decide) ?_
      refine lv_goto (tgt := 30) hx hb dX0_go_26 (by decide) ?_
      exact J4 _ _ _  _ (Eq.symm (if_neg c2)) hR hS  (lv_sub hl [0, 1, 2, 3] rfl)
  · refine lv_iload_n hx hb dX0_go_11 rfl (lv_at hl 0 rfl) ?_
    exact x_ri hx hb hrt (rfl) hlk hR hS hQ (if_neg c1) dX0_go_12
def x_windGoing_v28 (S : XS) (x1 : Int32) : Int32 := (S.1 63 (Int32.toNatClampNeg x1))
def x_windGoing (S : XS) (x1 : Int32) (x2 : Int32) : Int32 × XS := (if 0 ≤ (x_need S (x_in x2 0 100000) x1).1 then ((x_windGoing_v28 S x1), (xu S 63 (Int32.toNatClampNeg x1) x2)) else ((x_need S (x_in x2 0 100000) x1).1, (x_need S (x_in x2 0 100000) x1).2))
theorem x_windGoing_N (S : XS) (x1 : Int32) (x2 : Int32) : (x_windGoing S x1 x2).2.2.2.2 = S.2.2.2 := by
  unfold x_windGoing
  refine ifI (P := fun (z : Int32 × XS) => z.2.2.2.2 = S.2.2.2) (fun c1 => ?_) (fun c1 => ?_)
  · exact rfl
  · have hN9 : (x_need S (x_in x2 0 100000) x1).2.2.2.2 = S.2.2.2 := x_need_N S (x_in x2 0 100000) x1
    exact hN9
theorem x_windGoing_inv (S : XS) (x1 : Int32) (x2 : Int32) (hI : XInv S) : XInv (x_windGoing S x1 x2).2 := by
  unfold x_windGoing
  refine ifI (P := fun (z : Int32 × XS) => XInv z.2) (fun c1 => ?_) (fun c1 => ?_)
  · exact (XInv_xu hI _ _ _ (by decide))
  · have hI9 : XInv (x_need S (x_in x2 0 100000) x1).2 := x_need_inv S (x_in x2 0 100000) x1 (hI)
    exact hI9
set_option maxHeartbeats 4000000 in
theorem xt_windGoing (l : Launch) (D : va_G) (d : Nat → ClassId) (A : Nat → Prop) (ad : XK → Nat) (S : XS) (x1 : Int32) (x2 : Int32) (hI : XInv S) : XI l yX0_windGoing cX0_windGoing 5 .int (rm_ 3) D d A ad S [.ref (ad (0, 0)), .int x1, .int x2] (x_windGoing S x1 x2) := by
  refine x_startI RX0 rfl (by decide) (Nat.le_of_ble_eq_true rfl) ?_
  intro p e s m av below meth c ls Q X hrt hlk hl hR hQ
  have hx := X.1.1.1
  have hb := X.1.1.2.1
  have hown := X.1.1.2.2.2.1
  have hts := X.1.1.2.2.2.2
  have hS : va_S A s.heap s.heap [] := va_S.rf
  have hl : lv_has ls 5 [(0, .ref (ad (0, 0))), (1, .int x1), (2, .int x2)] := hl
  refine lv_aload_n hx hb dX0_windGoing_0 rfl (lv_at hl 0 rfl) ?_
  refine lv_iload_n hx hb dX0_windGoing_1 rfl (lv_at hl 2 rfl) ?_
  refine lv_iconst (v := 0) hx hb dX0_windGoing_2 (by decide) ?_
  refine lv_ldc hx hb hown (hts _ q522) dX0_windGoing_3 ?_
  refine s_ci X.1.1 (st_x_in l x2 0 100000) 3 (lw_S q280 q281 q58 q282) ⟨rfl, rfl⟩ (by decide +kernel) ⟨by decide, by decide⟩ ⟨by decide, by decide⟩ rfl hl.1 rfl (Nat.le_of_ble_eq_true rfl) dX0_windGoing_5 ?_
  refine lv_iload_n hx hb dX0_windGoing_8 rfl (lv_at hl 1 rfl) ?_
  refine x_bi hS (xr_V X hR x_lv0 (ci := 0) (fs := x_fs ad S) rfl rfl (xt_need l D d A ad S (x_in x2 0 100000) x1 (hI)) 2 (lw_V q747 q749 qs5 q58 q750) ⟨rfl, rfl⟩ (by decide +kernel) ⟨by decide, by decide⟩ ⟨by decide, by decide⟩ rfl hl.1 rfl (Nat.le_of_ble_eq_true rfl) dX0_windGoing_9) (fun H locs hR hS => ?_)
  have hN9 : (x_need S (x_in x2 0 100000) x1).2.2.2.2 = S.2.2.2 := x_need_N S (x_in x2 0 100000) x1
  have hI9 : XInv (x_need S (x_in x2 0 100000) x1).2 := x_need_inv S (x_in x2 0 100000) x1 (hI)
  refine lv_istore_n (lv' := [(3, .int (x_need S (x_in x2 0 100000) x1).1), (0, .ref (ad (0, 0))), (1, .int x1), (2, .int x2)]) hx hb dX0_windGoing_12 rfl hl (by decide) rfl (fun ls hl => ?_)
  refine lv_iload_n hx hb dX0_windGoing_13 rfl (lv_at hl 0 rfl) ?_
  refine lv_if_ge (tgt := 19) hx hb dX0_windGoing_14 (by decide) (fun c1 => ?_) (fun c1 => ?_)
  · have okc1 := x_need_ok S (x_in x2 0 100000) x1 hI c1
    have hR : XR D d A ad S H := okc1.1 ▸ hR
    have okc1_0 : 0 ≤ x1 ∧ x1 < 4 := okc1.2.1
    have okc1_1 : ¬ (x_in x2 0 100000) = 0 := okc1.2.2.1
    have okc1_2 : ¬ S.2.2.2 5 (Int32.toNatClampNeg x1) = 0 := okc1.2.2.2
    refine lv_aload_n hx hb dX0_windGoing_19 rfl (lv_at hl 1 rfl) ?_
    refine xg_a X.1 hR 7 (by decide) (by decide) q104 dX0_windGoing_20 ?_
    refine lv_iload_n hx hb dX0_windGoing_23 rfl (lv_at hl 2 rfl) ?_
    refine x_ldw X hR (ixl 4 4 (by decide) rfl (okc1_0)) (okc1_2) dX0_windGoing_24 ?_
    refine xgw X hR (x_lvw (tn4 (okc1_0)) (okc1_2)) 3 (Or.inl (by decide)) (Or.inr q702) rfl dX0_windGoing_25 ?_
    refine lv_istore (lv' := [(4, .int (x_windGoing_v28 S x1)), (3, .int (x_need S (x_in x2 0 100000) x1).1), (0, .ref (ad (0, 0))), (1, .int x1), (2, .int x2)]) hx hb dX0_windGoing_28 hl (by decide) rfl (fun ls hl => ?_)
    refine lv_aload_n hx hb dX0_windGoing_30 rfl (lv_at hl 2 rfl) ?_
    refine xg_a X.1 hR 7 (by decide) (by decide) q104 dX0_windGoing_31 ?_
    refine lv_iload_n hx hb dX0_windGoing_34 rfl (lv_at hl 3 rfl) ?_
    refine x_ldw X hR (ixl 4 4 (by decide) rfl (okc1_0)) (okc1_2) dX0_windGoing_35 ?_
    refine lv_iload_n hx hb dX0_windGoing_36 rfl (lv_at hl 4 rfl) ?_
    refine xpw X hR hS (x_lvw (tn4 (okc1_0)) (okc1_2)) 3 (Or.inl (by decide)) rfl (Or.inr q702) rfl dX0_windGoing_37 (fun H locs hR hS => ?_)
    refine lv_iload hx hb dX0_windGoing_40 (lv_at hl 0 rfl) ?_
    exact x_ri hx hb hrt (rfl) hlk hR hS hQ (if_pos c1) dX0_windGoing_42
  · refine lv_iload_n hx hb dX0_windGoing_17 rfl (lv_at hl 0 rfl) ?_
    exact x_ri hx hb hrt (rfl) hlk hR hS hQ (if_neg c1) dX0_windGoing_18
def x_silence_j36_s0 (x2 : Int32) (x3 : Int32) (x4 : Int32) : Int32 := (if (x_in x2 0 23) = 0 then 0 else (if (x_in x3 0 23) = 0 then 0 else (if (x_in x4 0 1) = 0 then 0 else 1)))
def x_silence (S : XS) (x1 : Int32) (x2 : Int32) (x3 : Int32) (x4 : Int32) : Int32 × XS := (if 0 ≤ (x_need S (x_silence_j36_s0 x2 x3 x4) x1).1 then (1, (xu (xu (xu S 66 (Int32.toNatClampNeg x1) x2) 67 (Int32.toNatClampNeg x1) x3) 68 (Int32.toNatClampNeg x1) x4)) else ((x_need S (x_silence_j36_s0 x2 x3 x4) x1).1, (x_need S (x_silence_j36_s0 x2 x3 x4) x1).2))
theorem x_silence_N (S : XS) (x1 : Int32) (x2 : Int32) (x3 : Int32) (x4 : Int32) : (x_silence S x1 x2 x3 x4).2.2.2.2 = S.2.2.2 := by
  unfold x_silence
  refine ifI (P := fun (z : Int32 × XS) => z.2.2.2.2 = S.2.2.2) (fun c6 => ?_) (fun c6 => ?_)
  · exact rfl
  · have hN37 : (x_need S (x_silence_j36_s0 x2 x3 x4) x1).2.2.2.2 = S.2.2.2 := x_need_N S (x_silence_j36_s0 x2 x3 x4) x1
    exact hN37
theorem x_silence_inv (S : XS) (x1 : Int32) (x2 : Int32) (x3 : Int32) (x4 : Int32) (hI : XInv S) : XInv (x_silence S x1 x2 x3 x4).2 := by
  unfold x_silence
  refine ifI (P := fun (z : Int32 × XS) => XInv z.2) (fun c6 => ?_) (fun c6 => ?_)
  · exact (XInv_xu (XInv_xu (XInv_xu hI _ _ _ (by decide)) _ _ _ (by decide)) _ _ _ (by decide))
  · have hI37 : XInv (x_need S (x_silence_j36_s0 x2 x3 x4) x1).2 := x_need_inv S (x_silence_j36_s0 x2 x3 x4) x1 (hI)
    exact hI37
set_option maxHeartbeats 4000000 in
theorem xt_silence (l : Launch) (D : va_G) (d : Nat → ClassId) (A : Nat → Prop) (ad : XK → Nat) (S : XS) (x1 : Int32) (x2 : Int32) (x3 : Int32) (x4 : Int32) (hI : XInv S) : XI l yX0_silence cX0_silence 6 .int (rm_ 3) D d A ad S [.ref (ad (0, 0)), .int x1, .int x2, .int x3, .int x4] (x_silence S x1 x2 x3 x4) := by
  refine x_startI RX0 rfl (by decide) (Nat.le_of_ble_eq_true rfl) ?_
  intro p e s m av below meth c ls Q X hrt hlk hl hR hQ
  have hx := X.1.1.1
  have hb := X.1.1.2.1
  have hown := X.1.1.2.2.2.1
  have hts := X.1.1.2.2.2.2
  have hS : va_S A s.heap s.heap [] := va_S.rf
  have hl : lv_has ls 6 [(0, .ref (ad (0, 0))), (1, .int x1), (2, .int x2), (3, .int x3), (4, .int x4)] := hl
  refine lv_aload_n hx hb dX0_silence_0 rfl (lv_at hl 0 rfl) ?_
  refine lv_iload_n hx hb dX0_silence_1 rfl (lv_at hl 2 rfl) ?_
  refine lv_iconst (v := 0) hx hb dX0_silence_2 (by decide) ?_
  refine lv_bipush (v := 23) hx hb dX0_silence_3 (by decide) ?_
  refine s_ci X.1.1 (st_x_in l x2 0 23) 3 (lw_S q280 q281 q58 q282) ⟨rfl, rfl⟩ (by decide +kernel) ⟨by decide, by decide⟩ ⟨by decide, by decide⟩ rfl hl.1 rfl (Nat.le_of_ble_eq_true rfl) dX0_silence_5 ?_
  have J5 : ∀ (w4 : Int32) (H : Heap) (locs : List Loc) (ls : Array Slot), w4 = (x_silence_j36_s0 x2 x3 x4) → XR D d A ad S H → va_S A s.heap H locs → lv_has ls 6 [(0, .ref (ad (0, 0))), (1, .int x1), (2, .int x2), (3, .int x3), (4, .int x4)] → W p l e (rm_ 3) s m av below meth c H locs 0 0 Q (F0 m 36 ls [.int w4, .ref (ad (0, 0))]) := by
    intro w4 H locs ls ew4 hR hS hl
    subst ew4
    refine lv_iload_n hx hb dX0_silence_36 rfl (lv_at hl 1 rfl) ?_
    refine x_bi hS (xr_V X hR x_lv0 (ci := 0) (fs := x_fs ad S) rfl rfl (xt_need l D d A ad S (x_silence_j36_s0 x2 x3 x4) x1 (hI)) 2 (lw_V q747 q749 qs5 q58 q750) ⟨rfl, rfl⟩ (by decide +kernel) ⟨by decide, by decide⟩ ⟨by decide, by decide⟩ rfl hl.1 rfl (Nat.le_of_ble_eq_true rfl) dX0_silence_37) (fun H locs hR hS => ?_)
    have hN37 : (x_need S (x_silence_j36_s0 x2 x3 x4) x1).2.2.2.2 = S.2.2.2 := x_need_N S (x_silence_j36_s0 x2 x3 x4) x1
    have hI37 : XInv (x_need S (x_silence_j36_s0 x2 x3 x4) x1).2 := x_need_inv S (x_silence_j36_s0 x2 x3 x4) x1 (hI)
    refine lv_istore (lv' := [(5, .int (x_need S (x_silence_j36_s0 x2 x3 x4) x1).1), (0, .ref (ad (0, 0))), (1, .int x1), (2, .int x2), (3, .int x3), (4, .int x4)]) hx hb dX0_silence_40 hl (by decide) rfl (fun ls hl => ?_)
    refine lv_iload hx hb dX0_silence_42 (lv_at hl 0 rfl) ?_
    refine lv_if_ge (tgt := 50) hx hb dX0_silence_44 (by decide) (fun c6 => ?_) (fun c6 => ?_)
    · have okc6 := x_need_ok S (x_silence_j36_s0 x2 x3 x4) x1 hI c6
      have hR : XR D d A ad S H := okc6.1 ▸ hR
      have okc6_0 : 0 ≤ x1 ∧ x1 < 4 := okc6.2.1
      have okc6_1 : ¬ (x_silence_j36_s0 x2 x3 x4) = 0 := okc6.2.2.1
      have okc6_2 : ¬ S.2.2.2 5 (Int32.toNatClampNeg x1) = 0 := okc6.2.2.2
      refine lv_aload_n hx hb dX0_silence_50 rfl (lv_at hl 1 rfl) ?_
      refine xg_a X.1 hR 7 (by decide) (by decide) q104 dX0_silence_51 ?_
      refine lv_iload_n hx hb dX0_silence_54 rfl (lv_at hl 2 rfl) ?_
      refine x_ldw X hR (ixl 4 4 (by decide) rfl (okc6_0)) (okc6_2) dX0_silence_55 ?_
      refine lv_iload_n hx hb dX0_silence_56 rfl (lv_at hl 3 rfl) ?_
      refine xpw X hR hS (x_lvw (tn4 (okc6_0)) (okc6_2)) 6 (Or.inr (by decide)) rfl (Or.inr q708) rfl dX0_silence_57 (fun H locs hR hS => ?_)
      refine lv_aload_n hx hb dX0_silence_60 rfl (lv_at hl 1 rfl) ?_
      refine xg_a X.1 hR 7 (by decide) (by decide) q104 dX0_silence_61 ?_
      refine lv_iload_n hx hb dX0_silence_64 rfl (lv_at hl 2 rfl) ?_
      refine x_ldw X hR (ixl 4 4 (by decide) rfl (okc6_0)) (okc6_2) dX0_silence_65 ?_
      refine lv_iload_n hx hb dX0_silence_66 rfl (lv_at hl 4 rfl) ?_
      refine xpw X hR hS (x_lvw (tn4 (okc6_0)) (okc6_2)) 7 (Or.inr (by decide)) rfl (Or.inr q710) rfl dX0_silence_67 (fun H locs hR hS => ?_)
      refine lv_aload_n hx hb dX0_silence_70 rfl (lv_at hl 1 rfl) ?_
      refine xg_a X.1 hR 7 (by decide) (by decide) q104 dX0_silence_71 ?_
      refine lv_iload_n hx hb dX0_silence_74 rfl (lv_at hl 2 rfl) ?_
      refine x_ldw X hR (ixl 4 4 (by decide) rfl (okc6_0)) (okc6_2) dX0_silence_75 ?_
      refine lv_iload hx hb dX0_silence_76 (lv_at hl 5 rfl) ?_
      refine xpw X hR hS (x_lvw (tn4 (okc6_0)) (okc6_2)) 8 (Or.inr (by decide)) rfl (Or.inr q712) rfl dX0_silence_78 (fun H locs hR hS => ?_)
      refine lv_iconst (v := 1) hx hb dX0_silence_81 (by decide) ?_
      exact x_ri hx hb hrt (rfl) hlk hR hS hQ (if_pos c6) dX0_silence_82
    · refine lv_iload hx hb dX0_silence_47 (lv_at hl 0 rfl) ?_
      exact x_ri hx hb hrt (rfl) hlk hR hS hQ (if_neg c6) dX0_silence_49
  refine lv_if_eq (tgt := 35) hx hb dX0_silence_8 (by decide) (fun c1 => ?_) (fun c1 => ?_)
  · refine lv_iconst (v := 0) hx hb dX0_silence_35 (by decide) ?_
    exact J5 _ _ _  _ (Eq.symm (if_pos c1)) hR hS  (lv_sub hl [0, 1, 2, 3, 4] rfl)
  · refine lv_iload_n hx hb dX0_silence_11 rfl (lv_at hl 3 rfl) ?_
    refine lv_iconst (v := 0) hx hb dX0_silence_12 (by decide) ?_
    refine lv_bipush (v := 23) hx hb dX0_silence_13 (by decide) ?_
    refine s_ci X.1.1 (st_x_in l x3 0 23) 3 (lw_S q280 q281 q58 q282) ⟨rfl, rfl⟩ (by decide +kernel) ⟨by decide, by decide⟩ ⟨by decide, by decide⟩ rfl hl.1 rfl (Nat.le_of_ble_eq_true rfl) dX0_silence_15 ?_
    refine lv_if_eq (tgt := 35) hx hb dX0_silence_18 (by decide) (fun c2 => ?_) (fun c2 => ?_)
    · refine lv_iconst (v := 0) hx hb dX0_silence_35 (by decide) ?_
      exact J5 _ _ _  _ (Eq.symm (Eq.trans (if_neg c1) (if_pos c2))) hR hS  (lv_sub hl [0, 1, 2, 3, 4] rfl)
    · refine lv_iload hx hb dX0_silence_21 (lv_at hl 4 rfl) ?_
      refine lv_iconst (v := 0) hx hb dX0_silence_23 (by decide) ?_
      refine lv_iconst (v := 1) hx hb dX0_silence_24 (by decide) ?_
      refine s_ci X.1.1 (st_x_in l x4 0 1) 3 (lw_S q280 q281 q58 q282) ⟨rfl, rfl⟩ (by decide +kernel) ⟨by decide, by decide⟩ ⟨by decide, by decide⟩ rfl hl.1 rfl (Nat.le_of_ble_eq_true rfl) dX0_silence_25 ?_
      refine lv_if_eq (tgt := 35) hx hb dX0_silence_28 (by decide) (fun c3 => ?_) (fun c3 => ?_)
      · refine lv_iconst (v := 0) hx hb dX0_silence_35 (by decide) ?_
        exact J5 _ _ _  _ (Eq.symm (Eq.trans (if_neg c1) (Eq.trans (if_neg c2) (if_pos c3)))) hR hS  (lv_sub hl [0, 1, 2, 3, 4] rfl)
      · refine lv_iconst (v := 1) hx hb dX0_silence_31 (by decide) ?_
        refine lv_goto (tgt := 36) hx hb dX0_silence_32 (by decide) ?_
        exact J5 _ _ _  _ (Eq.symm (Eq.trans (if_neg c1) (Eq.trans (if_neg c2) (if_neg c3)))) hR hS  (lv_sub hl [0, 1, 2, 3, 4] rfl)
def x_forward_L23 (x1 : Int32) (x2 : Int32) : Nat → Int32 → XS → Int32 × XS
  | 0, y4_23, S_23 => (y4_23, S_23)
  | f23 + 1, y4_23, S_23 => (if x2 ≤ y4_23 then (y4_23, S_23) else (x_forward_L23 x1 x2 f23 (y4_23 + 1) (x_w_forward S_23 (Int32.toNatClampNeg x1))))
theorem x_forward_L23_s (x1 : Int32) (x2 : Int32) (f23 : Nat) (y4_23 : Int32) (S_23 : XS) : x_forward_L23 x1 x2 (f23 + 1) y4_23 S_23 = (if x2 ≤ y4_23 then (y4_23, S_23) else (x_forward_L23 x1 x2 f23 (y4_23 + 1) (x_w_forward S_23 (Int32.toNatClampNeg x1)))) := rfl
def x_forward_R23 (S : XS) (x1 : Int32) (x2 : Int32) : Int32 × XS := x_forward_L23 x1 x2 (fz ((x2 - 0 : Int32).toNatClampNeg + 1)) 0 S
theorem x_forward_o3 (S : XS) (x1 : Int32) (x2 : Int32) (y4_23 : Int32) (S_23 : XS) (hI : XInv S) (hN10 : (x_need S (x_in x2 0 1500) x1).2.2.2.2 = S.2.2.2) (hI10 : XInv (x_need S (x_in x2 0 1500) x1).2) (c1 : 0 ≤ (x_need S (x_in x2 0 1500) x1).1) (okc1_0 : 0 ≤ x1 ∧ x1 < 4) (okc1_1 : ¬ (x_in x2 0 1500) = 0) (okc1_2 : ¬ S.2.2.2 5 (Int32.toNatClampNeg x1) = 0) (hi4 : 0 ≤ y4_23) (hJ : XInv S_23) (hM : S_23.2.2.2 = S.2.2.2) (c2 : ¬ x2 ≤ y4_23) (hN35 : (x_w_forward S_23 (Int32.toNatClampNeg x1)).2.2.2 = S_23.2.2.2) (hI35 : XInv (x_w_forward S_23 (Int32.toNatClampNeg x1))) : 0 ≤ (y4_23 + 1) := by 
  have bl_x1 := Int32.toInt_lt x1
  have bl_x2 := Int32.toInt_lt x2
  have bl_y4_23 := Int32.toInt_lt y4_23
  try simp only [x_in_eq, x_isTower_eq] at *
  try simp only [i_le, i_lt, i_eq, Int32.reduceToInt] at *
  first | (have e_0 := a32 (x := y4_23) (y := 1) (by (try simp only [Int32.reduceToInt]); omega); (try simp only [Int32.reduceToInt] at e_0)) | skip
  try simp only [Int32.reduceToInt] at *
  omega
theorem x_forward_L23_P (S : XS) (x1 : Int32) (x2 : Int32) (hI : XInv S) (c1 : 0 ≤ (x_need S (x_in x2 0 1500) x1).1) : ∀ (f23 : Nat) (y4_23 : Int32) (S_23 : XS), (0 ≤ y4_23) → (XInv S_23) → (S_23.2.2.2 = S.2.2.2) → (XInv (x_forward_L23 x1 x2 f23 y4_23 S_23).2) ∧ ((x_forward_L23 x1 x2 f23 y4_23 S_23).2.2.2.2 = S.2.2.2) := by
  intro f23
  induction f23 with
  | zero =>
    intro y4_23 S_23 hi4 hJ hM
    exact ⟨hJ, hM⟩
  | succ f23 ih =>
    intro y4_23 S_23 hi4 hJ hM
    rw [x_forward_L23_s]
    refine ifI (P := fun (z : Int32 × XS) => (XInv z.2) ∧ (z.2.2.2.2 = S.2.2.2)) (fun c2 => ?_) (fun c2 => ?_)
    · exact ⟨hJ, hM⟩
    · have hN10 : (x_need S (x_in x2 0 1500) x1).2.2.2.2 = S.2.2.2 := x_need_N S (x_in x2 0 1500) x1
      have hI10 : XInv (x_need S (x_in x2 0 1500) x1).2 := x_need_inv S (x_in x2 0 1500) x1 (hI)
      have okc1_0 : 0 ≤ x1 ∧ x1 < 4 := (x_need_ok S (x_in x2 0 1500) x1 hI c1).2.1
      have okc1_1 : ¬ (x_in x2 0 1500) = 0 := (x_need_ok S (x_in x2 0 1500) x1 hI c1).2.2.1
      have okc1_2 : ¬ S.2.2.2 5 (Int32.toNatClampNeg x1) = 0 := (x_need_ok S (x_in x2 0 1500) x1 hI c1).2.2.2
      have hN35 : (x_w_forward S_23 (Int32.toNatClampNeg x1)).2.2.2 = S_23.2.2.2 := x_w_forward_N S_23 (Int32.toNatClampNeg x1)
      have hI35 : XInv (x_w_forward S_23 (Int32.toNatClampNeg x1)) := x_w_forward_inv S_23 (Int32.toNatClampNeg x1) (hJ) (tn4 (okc1_0)) (by show ¬ S_23.2.2.2 5 (Int32.toNatClampNeg x1) = 0; rw [hM]; exact okc1_2)
      exact ih (y4_23 + 1) (x_w_forward S_23 (Int32.toNatClampNeg x1)) (x_forward_o3 S x1 x2 y4_23 S_23 hI hN10 hI10 c1 okc1_0 okc1_1 okc1_2 hi4 hJ hM c2 hN35 hI35) (hI35) ((hN35.trans hM))
theorem x_forward_R23_P (S : XS) (x1 : Int32) (x2 : Int32) (hI : XInv S) (c1 : 0 ≤ (x_need S (x_in x2 0 1500) x1).1) : (XInv (x_forward_R23 S x1 x2).2) ∧ ((x_forward_R23 S x1 x2).2.2.2.2 = S.2.2.2) := by
  unfold x_forward_R23
  exact x_forward_L23_P S x1 x2 hI c1 (fz ((x2 - 0 : Int32).toNatClampNeg + 1)) 0 S (by decide) (hI) (rfl)
theorem x_forward_o4 (S : XS) (x1 : Int32) (x2 : Int32) (y4_23 : Int32) (S_23 : XS) (hI : XInv S) (hN10 : (x_need S (x_in x2 0 1500) x1).2.2.2.2 = S.2.2.2) (hI10 : XInv (x_need S (x_in x2 0 1500) x1).2) (c1 : 0 ≤ (x_need S (x_in x2 0 1500) x1).1) (okc1_0 : 0 ≤ x1 ∧ x1 < 4) (okc1_1 : ¬ (x_in x2 0 1500) = 0) (okc1_2 : ¬ S.2.2.2 5 (Int32.toNatClampNeg x1) = 0) (hi4 : 0 ≤ y4_23) (hJ : XInv S_23) (hM : S_23.2.2.2 = S.2.2.2) (c2 : ¬ x2 ≤ y4_23) (hN35 : (x_w_forward S_23 (Int32.toNatClampNeg x1)).2.2.2 = S_23.2.2.2) (hI35 : XInv (x_w_forward S_23 (Int32.toNatClampNeg x1))) : y4_23 < x2 := by 
  have bl_x1 := Int32.toInt_lt x1
  have bl_x2 := Int32.toInt_lt x2
  have bl_y4_23 := Int32.toInt_lt y4_23
  try simp only [x_in_eq, x_isTower_eq] at *
  try simp only [i_le, i_lt, i_eq, Int32.reduceToInt] at *
  try simp only [Int32.reduceToInt] at *
  omega
def x_forward (S : XS) (x1 : Int32) (x2 : Int32) : Int32 × XS := (if 0 ≤ (x_need S (x_in x2 0 1500) x1).1 then (((x_forward_R23 S x1 x2).2.1 60 (Int32.toNatClampNeg x1)), (x_forward_R23 S x1 x2).2) else ((x_need S (x_in x2 0 1500) x1).1, (x_need S (x_in x2 0 1500) x1).2))
theorem x_forward_N (S : XS) (x1 : Int32) (x2 : Int32) (hI : XInv S) : (x_forward S x1 x2).2.2.2.2 = S.2.2.2 := by
  unfold x_forward
  refine ifI (P := fun (z : Int32 × XS) => z.2.2.2.2 = S.2.2.2) (fun c1 => ?_) (fun c1 => ?_)
  · have hMp : (x_forward_R23 S x1 x2).2.2.2.2 = S.2.2.2 := (x_forward_R23_P S x1 x2 hI c1).2
    exact hMp
  · have hN10 : (x_need S (x_in x2 0 1500) x1).2.2.2.2 = S.2.2.2 := x_need_N S (x_in x2 0 1500) x1
    exact hN10
theorem x_forward_inv (S : XS) (x1 : Int32) (x2 : Int32) (hI : XInv S) : XInv (x_forward S x1 x2).2 := by
  unfold x_forward
  refine ifI (P := fun (z : Int32 × XS) => XInv z.2) (fun c1 => ?_) (fun c1 => ?_)
  · have hJp : XInv (x_forward_R23 S x1 x2).2 := (x_forward_R23_P S x1 x2 hI c1).1
    exact hJp
  · have hI10 : XInv (x_need S (x_in x2 0 1500) x1).2 := x_need_inv S (x_in x2 0 1500) x1 (hI)
    exact hI10
set_option maxHeartbeats 4000000 in
theorem xt_forward (l : Launch) (D : va_G) (d : Nat → ClassId) (A : Nat → Prop) (ad : XK → Nat) (S : XS) (x1 : Int32) (x2 : Int32) (hI : XInv S) : XI l yX0_forward cX0_forward 5 .int (rm_ 5) D d A ad S [.ref (ad (0, 0)), .int x1, .int x2] (x_forward S x1 x2) := by
  refine x_startI RX0 rfl (by decide) (Nat.le_of_ble_eq_true rfl) ?_
  intro p e s m av below meth c ls Q X hrt hlk hl hR hQ
  have hx := X.1.1.1
  have hb := X.1.1.2.1
  have hown := X.1.1.2.2.2.1
  have hts := X.1.1.2.2.2.2
  have hS : va_S A s.heap s.heap [] := va_S.rf
  have hl : lv_has ls 5 [(0, .ref (ad (0, 0))), (1, .int x1), (2, .int x2)] := hl
  refine lv_aload_n hx hb dX0_forward_0 rfl (lv_at hl 0 rfl) ?_
  refine lv_iload_n hx hb dX0_forward_1 rfl (lv_at hl 2 rfl) ?_
  refine lv_iconst (v := 0) hx hb dX0_forward_2 (by decide) ?_
  refine lv_sipush (v := 1500) hx hb dX0_forward_3 (by decide) ?_
  refine s_ci X.1.1 (st_x_in l x2 0 1500) 3 (lw_S q280 q281 q58 q282) ⟨rfl, rfl⟩ (by decide +kernel) ⟨by decide, by decide⟩ ⟨by decide, by decide⟩ rfl hl.1 rfl (Nat.le_of_ble_eq_true rfl) dX0_forward_6 ?_
  refine lv_iload_n hx hb dX0_forward_9 rfl (lv_at hl 1 rfl) ?_
  refine x_bi hS (xr_V X hR x_lv0 (ci := 0) (fs := x_fs ad S) rfl rfl (xt_need l D d A ad S (x_in x2 0 1500) x1 (hI)) 2 (lw_V q747 q749 qs5 q58 q750) ⟨rfl, rfl⟩ (by decide +kernel) ⟨by decide, by decide⟩ ⟨by decide, by decide⟩ rfl hl.1 rfl (Nat.le_of_ble_eq_true rfl) dX0_forward_10) (fun H locs hR hS => ?_)
  have hN10 : (x_need S (x_in x2 0 1500) x1).2.2.2.2 = S.2.2.2 := x_need_N S (x_in x2 0 1500) x1
  have hI10 : XInv (x_need S (x_in x2 0 1500) x1).2 := x_need_inv S (x_in x2 0 1500) x1 (hI)
  refine lv_istore_n (lv' := [(3, .int (x_need S (x_in x2 0 1500) x1).1), (0, .ref (ad (0, 0))), (1, .int x1), (2, .int x2)]) hx hb dX0_forward_13 rfl hl (by decide) rfl (fun ls hl => ?_)
  refine lv_iload_n hx hb dX0_forward_14 rfl (lv_at hl 0 rfl) ?_
  refine lv_if_ge (tgt := 20) hx hb dX0_forward_15 (by decide) (fun c1 => ?_) (fun c1 => ?_)
  · have okc1 := x_need_ok S (x_in x2 0 1500) x1 hI c1
    have hR : XR D d A ad S H := okc1.1 ▸ hR
    have okc1_0 : 0 ≤ x1 ∧ x1 < 4 := okc1.2.1
    have okc1_1 : ¬ (x_in x2 0 1500) = 0 := okc1.2.2.1
    have okc1_2 : ¬ S.2.2.2 5 (Int32.toNatClampNeg x1) = 0 := okc1.2.2.2
    refine lv_iconst (v := 0) hx hb dX0_forward_20 (by decide) ?_
    refine lv_istore (lv' := [(4, .int 0), (3, .int (x_need S (x_in x2 0 1500) x1).1), (0, .ref (ad (0, 0))), (1, .int x1), (2, .int x2)]) hx hb dX0_forward_21 hl (by decide) rfl (fun ls hl => ?_)
    have K23 : ∀ (H : Heap) (locs : List Loc) (ls : Array Slot), (XInv (x_forward_R23 S x1 x2).2) → ((x_forward_R23 S x1 x2).2.2.2.2 = S.2.2.2) → XR D d A ad (x_forward_R23 S x1 x2).2 H → va_S A s.heap H locs → lv_has ls 5 [(4, .int (x_forward_R23 S x1 x2).1), (3, .int (x_need S (x_in x2 0 1500) x1).1), (0, .ref (ad (0, 0))), (1, .int x1), (2, .int x2)] → W p l e (rm_ 5) s m av below meth c H locs 0 0 Q (F0 m 44 ls []) := by
      intro H locs ls hJp hMp hR hS hl
      refine lv_aload_n hx hb dX0_forward_44 rfl (lv_at hl 2 rfl) ?_
      refine xg_a X.1 hR 7 (by decide) (by decide) q104 dX0_forward_45 ?_
      refine lv_iload_n hx hb dX0_forward_48 rfl (lv_at hl 3 rfl) ?_
      refine x_ldw X hR (ixl 4 4 (by decide) rfl (okc1_0)) (by show ¬ (x_forward_R23 S x1 x2).2.2.2.2 5 (Int32.toNatClampNeg x1) = 0; rw [hMp]; exact okc1_2) dX0_forward_49 ?_
      refine xgw X hR (x_lvw (tn4 (okc1_0)) (by show ¬ (x_forward_R23 S x1 x2).2.2.2.2 5 (Int32.toNatClampNeg x1) = 0; rw [hMp]; exact okc1_2)) 0 (Or.inl (by decide)) (Or.inr q696) rfl dX0_forward_50 ?_
      exact x_ri hx hb hrt (rfl) hlk hR hS hQ (if_pos c1) dX0_forward_53
    have L23 : ∀ (f23 : Nat) (y4_23 : Int32) (S_23 : XS) (H : Heap) (locs : List Loc) (ls : Array Slot), (x2 - y4_23 : Int32).toNatClampNeg < f23 → 0 ≤ y4_23 → XInv S_23 → S_23.2.2.2 = S.2.2.2 → x_forward_L23 x1 x2 (f23) y4_23 S_23 = (x_forward_R23 S x1 x2) → XR D d A ad S_23 H → va_S A s.heap H locs → lv_has ls 5 [(4, .int y4_23), (3, .int (x_need S (x_in x2 0 1500) x1).1), (0, .ref (ad (0, 0))), (1, .int x1), (2, .int x2)] → W p l e (rm_ 5) s m av below meth c H locs 0 0 Q (F0 m 23 ls []) := by
      intro f23
      induction f23 with
      | zero => intro y4_23 S_23 H locs ls hf; exact absurd hf (Nat.not_lt_zero _)
      | succ f23 ih =>
        intro y4_23 S_23 H locs ls hf hi4 hJ hM hE hR hS hl
        refine lv_iload hx hb dX0_forward_23 (lv_at hl 0 rfl) ?_
        refine lv_iload_n hx hb dX0_forward_25 rfl (lv_at hl 4 rfl) ?_
        refine lv_icmp_ge (tgt := 44) hx hb dX0_forward_26 (by decide) (fun c2 => ?_) (fun c2 => ?_)
        · have e0 : (x_forward_R23 S x1 x2) = (y4_23, S_23) := Eq.trans (Eq.symm hE) (Eq.trans (x_forward_L23_s _ _ _ _ _) (if_pos c2))
          exact K23 _ _ _ ((by rw [e0]; exact hJ)) ((by rw [e0]; exact hM)) (by rw [e0]; exact hR) hS (by rw [e0]; exact lv_sub hl [0, 1, 2, 3, 4] rfl)
        · refine lv_aload_n hx hb dX0_forward_29 rfl (lv_at hl 2 rfl) ?_
          refine xg_a X.1 hR 7 (by decide) (by decide) q104 dX0_forward_30 ?_
          refine lv_iload_n hx hb dX0_forward_33 rfl (lv_at hl 3 rfl) ?_
          refine x_ldw X hR (ixl 4 4 (by decide) rfl (okc1_0)) (by show ¬ S_23.2.2.2 5 (Int32.toNatClampNeg x1) = 0; rw [hM]; exact okc1_2) dX0_forward_34 ?_
          refine x_bv hS (xr_V X hR (x_lvw (tn4 (okc1_0)) (by show ¬ S_23.2.2.2 5 (Int32.toNatClampNeg x1) = 0; rw [hM]; exact okc1_2)) (ci := 6) (fs := x_tw ad S_23 (Int32.toNatClampNeg x1)) rfl rfl (xt_w_forward l D d A ad S_23 (Int32.toNatClampNeg x1) (hJ) (tn4 (okc1_0)) (by show ¬ S_23.2.2.2 5 (Int32.toNatClampNeg x1) = 0; rw [hM]; exact okc1_2)) 0 (lw_V q770 q771 q772 q77 q773) ⟨rfl, rfl⟩ (by decide +kernel) ⟨by decide, by decide⟩ ⟨by decide, by decide⟩ rfl hl.1 rfl (Nat.le_of_ble_eq_true rfl) dX0_forward_35) (fun H locs hR hS => ?_)
          have hN35 : (x_w_forward S_23 (Int32.toNatClampNeg x1)).2.2.2 = S_23.2.2.2 := x_w_forward_N S_23 (Int32.toNatClampNeg x1)
          have hI35 : XInv (x_w_forward S_23 (Int32.toNatClampNeg x1)) := x_w_forward_inv S_23 (Int32.toNatClampNeg x1) (hJ) (tn4 (okc1_0)) (by show ¬ S_23.2.2.2 5 (Int32.toNatClampNeg x1) = 0; rw [hM]; exact okc1_2)
          refine lv_iinc (v := (y4_23 + 1)) (lv' := [(4, .int (y4_23 + 1)), (3, .int (x_need S (x_in x2 0 1500) x1).1), (0, .ref (ad (0, 0))), (1, .int x1), (2, .int x2)]) hx hb dX0_forward_38 hl (k := 0) rfl rfl (by decide) rfl (fun ls hl => ?_)
          refine lv_goto (tgt := 23) hx hb dX0_forward_41 (by decide) ?_
          exact ih (y4_23 + 1) (x_w_forward S_23 (Int32.toNatClampNeg x1)) _ _  _ (Nat.lt_of_lt_of_le (up_ hi4 (x_forward_o4 S x1 x2 y4_23 S_23 hI hN10 hI10 c1 okc1_0 okc1_1 okc1_2 hi4 hJ hM c2 hN35 hI35)) (Nat.le_of_lt_succ hf)) (x_forward_o3 S x1 x2 y4_23 S_23 hI hN10 hI10 c1 okc1_0 okc1_1 okc1_2 hi4 hJ hM c2 hN35 hI35) (hI35) ((hN35.trans hM)) (Eq.trans (Eq.symm (Eq.trans (x_forward_L23_s _ _ _ _ _) (if_neg c2))) hE) hR hS (lv_sub hl [0, 1, 2, 3, 4] rfl)
    exact L23 _ 0 S _ _  _ (fz_lt _) (by decide) (hI) (rfl) rfl hR hS (lv_sub hl [0, 1, 2, 3, 4] rfl)
  · refine lv_iload_n hx hb dX0_forward_18 rfl (lv_at hl 0 rfl) ?_
    exact x_ri hx hb hrt (rfl) hlk hR hS hQ (if_neg c1) dX0_forward_19
def x_back_L23 (x1 : Int32) (x2 : Int32) : Nat → Int32 → XS → Int32 × XS
  | 0, y4_23, S_23 => (y4_23, S_23)
  | f23 + 1, y4_23, S_23 => (if x2 ≤ y4_23 then (y4_23, S_23) else (x_back_L23 x1 x2 f23 (y4_23 + 1) (x_w_back S_23 (Int32.toNatClampNeg x1))))
theorem x_back_L23_s (x1 : Int32) (x2 : Int32) (f23 : Nat) (y4_23 : Int32) (S_23 : XS) : x_back_L23 x1 x2 (f23 + 1) y4_23 S_23 = (if x2 ≤ y4_23 then (y4_23, S_23) else (x_back_L23 x1 x2 f23 (y4_23 + 1) (x_w_back S_23 (Int32.toNatClampNeg x1)))) := rfl
def x_back_R23 (S : XS) (x1 : Int32) (x2 : Int32) : Int32 × XS := x_back_L23 x1 x2 (fz ((x2 - 0 : Int32).toNatClampNeg + 1)) 0 S
theorem x_back_o3 (S : XS) (x1 : Int32) (x2 : Int32) (y4_23 : Int32) (S_23 : XS) (hI : XInv S) (hN10 : (x_need S (x_in x2 0 1500) x1).2.2.2.2 = S.2.2.2) (hI10 : XInv (x_need S (x_in x2 0 1500) x1).2) (c1 : 0 ≤ (x_need S (x_in x2 0 1500) x1).1) (okc1_0 : 0 ≤ x1 ∧ x1 < 4) (okc1_1 : ¬ (x_in x2 0 1500) = 0) (okc1_2 : ¬ S.2.2.2 5 (Int32.toNatClampNeg x1) = 0) (hi4 : 0 ≤ y4_23) (hJ : XInv S_23) (hM : S_23.2.2.2 = S.2.2.2) (c2 : ¬ x2 ≤ y4_23) (hN35 : (x_w_back S_23 (Int32.toNatClampNeg x1)).2.2.2 = S_23.2.2.2) (hI35 : XInv (x_w_back S_23 (Int32.toNatClampNeg x1))) : 0 ≤ (y4_23 + 1) := by 
  have bl_x1 := Int32.toInt_lt x1
  have bl_x2 := Int32.toInt_lt x2
  have bl_y4_23 := Int32.toInt_lt y4_23
  try simp only [x_in_eq, x_isTower_eq] at *
  try simp only [i_le, i_lt, i_eq, Int32.reduceToInt] at *
  first | (have e_0 := a32 (x := y4_23) (y := 1) (by (try simp only [Int32.reduceToInt]); omega); (try simp only [Int32.reduceToInt] at e_0)) | skip
  try simp only [Int32.reduceToInt] at *
  omega
theorem x_back_L23_P (S : XS) (x1 : Int32) (x2 : Int32) (hI : XInv S) (c1 : 0 ≤ (x_need S (x_in x2 0 1500) x1).1) : ∀ (f23 : Nat) (y4_23 : Int32) (S_23 : XS), (0 ≤ y4_23) → (XInv S_23) → (S_23.2.2.2 = S.2.2.2) → (XInv (x_back_L23 x1 x2 f23 y4_23 S_23).2) ∧ ((x_back_L23 x1 x2 f23 y4_23 S_23).2.2.2.2 = S.2.2.2) := by
  intro f23
  induction f23 with
  | zero =>
    intro y4_23 S_23 hi4 hJ hM
    exact ⟨hJ, hM⟩
  | succ f23 ih =>
    intro y4_23 S_23 hi4 hJ hM
    rw [x_back_L23_s]
    refine ifI (P := fun (z : Int32 × XS) => (XInv z.2) ∧ (z.2.2.2.2 = S.2.2.2)) (fun c2 => ?_) (fun c2 => ?_)
    · exact ⟨hJ, hM⟩
    · have hN10 : (x_need S (x_in x2 0 1500) x1).2.2.2.2 = S.2.2.2 := x_need_N S (x_in x2 0 1500) x1
      have hI10 : XInv (x_need S (x_in x2 0 1500) x1).2 := x_need_inv S (x_in x2 0 1500) x1 (hI)
      have okc1_0 : 0 ≤ x1 ∧ x1 < 4 := (x_need_ok S (x_in x2 0 1500) x1 hI c1).2.1
      have okc1_1 : ¬ (x_in x2 0 1500) = 0 := (x_need_ok S (x_in x2 0 1500) x1 hI c1).2.2.1
      have okc1_2 : ¬ S.2.2.2 5 (Int32.toNatClampNeg x1) = 0 := (x_need_ok S (x_in x2 0 1500) x1 hI c1).2.2.2
      have hN35 : (x_w_back S_23 (Int32.toNatClampNeg x1)).2.2.2 = S_23.2.2.2 := x_w_back_N S_23 (Int32.toNatClampNeg x1)
      have hI35 : XInv (x_w_back S_23 (Int32.toNatClampNeg x1)) := x_w_back_inv S_23 (Int32.toNatClampNeg x1) (hJ) (tn4 (okc1_0)) (by show ¬ S_23.2.2.2 5 (Int32.toNatClampNeg x1) = 0; rw [hM]; exact okc1_2)
      exact ih (y4_23 + 1) (x_w_back S_23 (Int32.toNatClampNeg x1)) (x_back_o3 S x1 x2 y4_23 S_23 hI hN10 hI10 c1 okc1_0 okc1_1 okc1_2 hi4 hJ hM c2 hN35 hI35) (hI35) ((hN35.trans hM))
theorem x_back_R23_P (S : XS) (x1 : Int32) (x2 : Int32) (hI : XInv S) (c1 : 0 ≤ (x_need S (x_in x2 0 1500) x1).1) : (XInv (x_back_R23 S x1 x2).2) ∧ ((x_back_R23 S x1 x2).2.2.2.2 = S.2.2.2) := by
  unfold x_back_R23
  exact x_back_L23_P S x1 x2 hI c1 (fz ((x2 - 0 : Int32).toNatClampNeg + 1)) 0 S (by decide) (hI) (rfl)
theorem x_back_o4 (S : XS) (x1 : Int32) (x2 : Int32) (y4_23 : Int32) (S_23 : XS) (hI : XInv S) (hN10 : (x_need S (x_in x2 0 1500) x1).2.2.2.2 = S.2.2.2) (hI10 : XInv (x_need S (x_in x2 0 1500) x1).2) (c1 : 0 ≤ (x_need S (x_in x2 0 1500) x1).1) (okc1_0 : 0 ≤ x1 ∧ x1 < 4) (okc1_1 : ¬ (x_in x2 0 1500) = 0) (okc1_2 : ¬ S.2.2.2 5 (Int32.toNatClampNeg x1) = 0) (hi4 : 0 ≤ y4_23) (hJ : XInv S_23) (hM : S_23.2.2.2 = S.2.2.2) (c2 : ¬ x2 ≤ y4_23) (hN35 : (x_w_back S_23 (Int32.toNatClampNeg x1)).2.2.2 = S_23.2.2.2) (hI35 : XInv (x_w_back S_23 (Int32.toNatClampNeg x1))) : y4_23 < x2 := by 
  have bl_x1 := Int32.toInt_lt x1
  have bl_x2 := Int32.toInt_lt x2
  have bl_y4_23 := Int32.toInt_lt y4_23
  try simp only [x_in_eq, x_isTower_eq] at *
  try simp only [i_le, i_lt, i_eq, Int32.reduceToInt] at *
  try simp only [Int32.reduceToInt] at *
  omega
def x_back (S : XS) (x1 : Int32) (x2 : Int32) : Int32 × XS := (if 0 ≤ (x_need S (x_in x2 0 1500) x1).1 then (((x_back_R23 S x1 x2).2.1 60 (Int32.toNatClampNeg x1)), (x_back_R23 S x1 x2).2) else ((x_need S (x_in x2 0 1500) x1).1, (x_need S (x_in x2 0 1500) x1).2))
theorem x_back_N (S : XS) (x1 : Int32) (x2 : Int32) (hI : XInv S) : (x_back S x1 x2).2.2.2.2 = S.2.2.2 := by
  unfold x_back
  refine ifI (P := fun (z : Int32 × XS) => z.2.2.2.2 = S.2.2.2) (fun c1 => ?_) (fun c1 => ?_)
  · have hMp : (x_back_R23 S x1 x2).2.2.2.2 = S.2.2.2 := (x_back_R23_P S x1 x2 hI c1).2
    exact hMp
  · have hN10 : (x_need S (x_in x2 0 1500) x1).2.2.2.2 = S.2.2.2 := x_need_N S (x_in x2 0 1500) x1
    exact hN10
theorem x_back_inv (S : XS) (x1 : Int32) (x2 : Int32) (hI : XInv S) : XInv (x_back S x1 x2).2 := by
  unfold x_back
  refine ifI (P := fun (z : Int32 × XS) => XInv z.2) (fun c1 => ?_) (fun c1 => ?_)
  · have hJp : XInv (x_back_R23 S x1 x2).2 := (x_back_R23_P S x1 x2 hI c1).1
    exact hJp
  · have hI10 : XInv (x_need S (x_in x2 0 1500) x1).2 := x_need_inv S (x_in x2 0 1500) x1 (hI)
    exact hI10
set_option maxHeartbeats 4000000 in
theorem xt_back (l : Launch) (D : va_G) (d : Nat → ClassId) (A : Nat → Prop) (ad : XK → Nat) (S : XS) (x1 : Int32) (x2 : Int32) (hI : XInv S) : XI l yX0_back cX0_back 5 .int (rm_ 3) D d A ad S [.ref (ad (0, 0)), .int x1, .int x2] (x_back S x1 x2) := by
  refine x_startI RX0 rfl (by decide) (Nat.le_of_ble_eq_true rfl) ?_
  intro p e s m av below meth c ls Q X hrt hlk hl hR hQ
  have hx := X.1.1.1
  have hb := X.1.1.2.1
  have hown := X.1.1.2.2.2.1
  have hts := X.1.1.2.2.2.2
  have hS : va_S A s.heap s.heap [] := va_S.rf
  have hl : lv_has ls 5 [(0, .ref (ad (0, 0))), (1, .int x1), (2, .int x2)] := hl
  refine lv_aload_n hx hb dX0_back_0 rfl (lv_at hl 0 rfl) ?_
  refine lv_iload_n hx hb dX0_back_1 rfl (lv_at hl 2 rfl) ?_
  refine lv_iconst (v := 0) hx hb dX0_back_2 (by decide) ?_
  refine lv_sipush (v := 1500) hx hb dX0_back_3 (by decide) ?_
  refine s_ci X.1.1 (st_x_in l x2 0 1500) 3 (lw_S q280 q281 q58 q282) ⟨rfl, rfl⟩ (by decide +kernel) ⟨by decide, by decide⟩ ⟨by decide, by decide⟩ rfl hl.1 rfl (Nat.le_of_ble_eq_true rfl) dX0_back_6 ?_
  refine lv_iload_n hx hb dX0_back_9 rfl (lv_at hl 1 rfl) ?_
  refine x_bi hS (xr_V X hR x_lv0 (ci := 0) (fs := x_fs ad S) rfl rfl (xt_need l D d A ad S (x_in x2 0 1500) x1 (hI)) 2 (lw_V q747 q749 qs5 q58 q750) ⟨rfl, rfl⟩ (by decide +kernel) ⟨by decide, by decide⟩ ⟨by decide, by decide⟩ rfl hl.1 rfl (Nat.le_of_ble_eq_true rfl) dX0_back_10) (fun H locs hR hS => ?_)
  have hN10 : (x_need S (x_in x2 0 1500) x1).2.2.2.2 = S.2.2.2 := x_need_N S (x_in x2 0 1500) x1
  have hI10 : XInv (x_need S (x_in x2 0 1500) x1).2 := x_need_inv S (x_in x2 0 1500) x1 (hI)
  refine lv_istore_n (lv' := [(3, .int (x_need S (x_in x2 0 1500) x1).1), (0, .ref (ad (0, 0))), (1, .int x1), (2, .int x2)]) hx hb dX0_back_13 rfl hl (by decide) rfl (fun ls hl => ?_)
  refine lv_iload_n hx hb dX0_back_14 rfl (lv_at hl 0 rfl) ?_
  refine lv_if_ge (tgt := 20) hx hb dX0_back_15 (by decide) (fun c1 => ?_) (fun c1 => ?_)
  · have okc1 := x_need_ok S (x_in x2 0 1500) x1 hI c1
    have hR : XR D d A ad S H := okc1.1 ▸ hR
    have okc1_0 : 0 ≤ x1 ∧ x1 < 4 := okc1.2.1
    have okc1_1 : ¬ (x_in x2 0 1500) = 0 := okc1.2.2.1
    have okc1_2 : ¬ S.2.2.2 5 (Int32.toNatClampNeg x1) = 0 := okc1.2.2.2
    refine lv_iconst (v := 0) hx hb dX0_back_20 (by decide) ?_
    refine lv_istore (lv' := [(4, .int 0), (3, .int (x_need S (x_in x2 0 1500) x1).1), (0, .ref (ad (0, 0))), (1, .int x1), (2, .int x2)]) hx hb dX0_back_21 hl (by decide) rfl (fun ls hl => ?_)
    have K23 : ∀ (H : Heap) (locs : List Loc) (ls : Array Slot), (XInv (x_back_R23 S x1 x2).2) → ((x_back_R23 S x1 x2).2.2.2.2 = S.2.2.2) → XR D d A ad (x_back_R23 S x1 x2).2 H → va_S A s.heap H locs → lv_has ls 5 [(4, .int (x_back_R23 S x1 x2).1), (3, .int (x_need S (x_in x2 0 1500) x1).1), (0, .ref (ad (0, 0))), (1, .int x1), (2, .int x2)] → W p l e (rm_ 3) s m av below meth c H locs 0 0 Q (F0 m 44 ls []) := by
      intro H locs ls hJp hMp hR hS hl
      refine lv_aload_n hx hb dX0_back_44 rfl (lv_at hl 2 rfl) ?_
      refine xg_a X.1 hR 7 (by decide) (by decide) q104 dX0_back_45 ?_
      refine lv_iload_n hx hb dX0_back_48 rfl (lv_at hl 3 rfl) ?_
      refine x_ldw X hR (ixl 4 4 (by decide) rfl (okc1_0)) (by show ¬ (x_back_R23 S x1 x2).2.2.2.2 5 (Int32.toNatClampNeg x1) = 0; rw [hMp]; exact okc1_2) dX0_back_49 ?_
      refine xgw X hR (x_lvw (tn4 (okc1_0)) (by show ¬ (x_back_R23 S x1 x2).2.2.2.2 5 (Int32.toNatClampNeg x1) = 0; rw [hMp]; exact okc1_2)) 0 (Or.inl (by decide)) (Or.inr q696) rfl dX0_back_50 ?_
      exact x_ri hx hb hrt (rfl) hlk hR hS hQ (if_pos c1) dX0_back_53
    have L23 : ∀ (f23 : Nat) (y4_23 : Int32) (S_23 : XS) (H : Heap) (locs : List Loc) (ls : Array Slot), (x2 - y4_23 : Int32).toNatClampNeg < f23 → 0 ≤ y4_23 → XInv S_23 → S_23.2.2.2 = S.2.2.2 → x_back_L23 x1 x2 (f23) y4_23 S_23 = (x_back_R23 S x1 x2) → XR D d A ad S_23 H → va_S A s.heap H locs → lv_has ls 5 [(4, .int y4_23), (3, .int (x_need S (x_in x2 0 1500) x1).1), (0, .ref (ad (0, 0))), (1, .int x1), (2, .int x2)] → W p l e (rm_ 3) s m av below meth c H locs 0 0 Q (F0 m 23 ls []) := by
      intro f23
      induction f23 with
      | zero => intro y4_23 S_23 H locs ls hf; exact absurd hf (Nat.not_lt_zero _)
      | succ f23 ih =>
        intro y4_23 S_23 H locs ls hf hi4 hJ hM hE hR hS hl
        refine lv_iload hx hb dX0_back_23 (lv_at hl 0 rfl) ?_
        refine lv_iload_n hx hb dX0_back_25 rfl (lv_at hl 4 rfl) ?_
        refine lv_icmp_ge (tgt := 44) hx hb dX0_back_26 (by decide) (fun c2 => ?_) (fun c2 => ?_)
        · have e0 : (x_back_R23 S x1 x2) = (y4_23, S_23) := Eq.trans (Eq.symm hE) (Eq.trans (x_back_L23_s _ _ _ _ _) (if_pos c2))
          exact K23 _ _ _ ((by rw [e0]; exact hJ)) ((by rw [e0]; exact hM)) (by rw [e0]; exact hR) hS (by rw [e0]; exact lv_sub hl [0, 1, 2, 3, 4] rfl)
        · refine lv_aload_n hx hb dX0_back_29 rfl (lv_at hl 2 rfl) ?_
          refine xg_a X.1 hR 7 (by decide) (by decide) q104 dX0_back_30 ?_
          refine lv_iload_n hx hb dX0_back_33 rfl (lv_at hl 3 rfl) ?_
          refine x_ldw X hR (ixl 4 4 (by decide) rfl (okc1_0)) (by show ¬ S_23.2.2.2 5 (Int32.toNatClampNeg x1) = 0; rw [hM]; exact okc1_2) dX0_back_34 ?_
          refine x_bv hS (xr_V X hR (x_lvw (tn4 (okc1_0)) (by show ¬ S_23.2.2.2 5 (Int32.toNatClampNeg x1) = 0; rw [hM]; exact okc1_2)) (ci := 6) (fs := x_tw ad S_23 (Int32.toNatClampNeg x1)) rfl rfl (xt_w_back l D d A ad S_23 (Int32.toNatClampNeg x1) (hJ) (tn4 (okc1_0)) (by show ¬ S_23.2.2.2 5 (Int32.toNatClampNeg x1) = 0; rw [hM]; exact okc1_2)) 0 (lw_V q817 q818 q819 q77 q820) ⟨rfl, rfl⟩ (by decide +kernel) ⟨by decide, by decide⟩ ⟨by decide, by decide⟩ rfl hl.1 rfl (Nat.le_of_ble_eq_true rfl) dX0_back_35) (fun H locs hR hS => ?_)
          have hN35 : (x_w_back S_23 (Int32.toNatClampNeg x1)).2.2.2 = S_23.2.2.2 := x_w_back_N S_23 (Int32.toNatClampNeg x1)
          have hI35 : XInv (x_w_back S_23 (Int32.toNatClampNeg x1)) := x_w_back_inv S_23 (Int32.toNatClampNeg x1) (hJ) (tn4 (okc1_0)) (by show ¬ S_23.2.2.2 5 (Int32.toNatClampNeg x1) = 0; rw [hM]; exact okc1_2)
          refine lv_iinc (v := (y4_23 + 1)) (lv' := [(4, .int (y4_23 + 1)), (3, .int (x_need S (x_in x2 0 1500) x1).1), (0, .ref (ad (0, 0))), (1, .int x1), (2, .int x2)]) hx hb dX0_back_38 hl (k := 0) rfl rfl (by decide) rfl (fun ls hl => ?_)
          refine lv_goto (tgt := 23) hx hb dX0_back_41 (by decide) ?_
          exact ih (y4_23 + 1) (x_w_back S_23 (Int32.toNatClampNeg x1)) _ _  _ (Nat.lt_of_lt_of_le (up_ hi4 (x_back_o4 S x1 x2 y4_23 S_23 hI hN10 hI10 c1 okc1_0 okc1_1 okc1_2 hi4 hJ hM c2 hN35 hI35)) (Nat.le_of_lt_succ hf)) (x_back_o3 S x1 x2 y4_23 S_23 hI hN10 hI10 c1 okc1_0 okc1_1 okc1_2 hi4 hJ hM c2 hN35 hI35) (hI35) ((hN35.trans hM)) (Eq.trans (Eq.symm (Eq.trans (x_back_L23_s _ _ _ _ _) (if_neg c2))) hE) hR hS (lv_sub hl [0, 1, 2, 3, 4] rfl)
    exact L23 _ 0 S _ _  _ (fz_lt _) (by decide) (hI) (rfl) rfl hR hS (lv_sub hl [0, 1, 2, 3, 4] rfl)
  · refine lv_iload_n hx hb dX0_back_18 rfl (lv_at hl 0 rfl) ?_
    exact x_ri hx hb hrt (rfl) hlk hR hS hQ (if_neg c1) dX0_back_19
theorem x_letOff_o2 (S : XS) (x1 : Int32) (x2 : Int32) (hI : XInv S) (hkq : 0 ≤ x_kOf x2 ∧ x_kOf x2 < 2) (hq2 : 0 ≤ x1 ∧ x1 < 4 → 2 * (Int32.toNatClampNeg x1) + (Int32.toNatClampNeg (x_kOf x2)) < 8) (hN3 : (x_needOwn S x1 x2).2.2.2.2 = S.2.2.2) (hI3 : XInv (x_needOwn S x1 x2).2) (c1 : 0 ≤ (x_needOwn S x1 x2).1) (okc1_0 : 0 ≤ x1 ∧ x1 < 4) (okc1_1 : ¬ S.2.2.2 5 (Int32.toNatClampNeg x1) = 0) (okc1_2 : ¬ S.2.2.2 4 (2 * (Int32.toNatClampNeg x1) + (Int32.toNatClampNeg (x_kOf x2))) = 0) (hN23 : (x_w_letOff S (Int32.toNatClampNeg x1) (x_kOf x2)).2.2.2 = S.2.2.2) (hI23 : XInv (x_w_letOff S (Int32.toNatClampNeg x1) (x_kOf x2))) : 2 * (Int32.toNatClampNeg x1) + (Int32.toNatClampNeg (x_kOf x2)) < 8 := by 
  have bl_x1 := Int32.toInt_lt x1
  have bl_x2 := Int32.toInt_lt x2
  try simp only [x_in_eq, x_isTower_eq] at *
  try simp only [i_le, i_lt, i_eq, Int32.reduceToInt] at *
  first | (have e_0 := m32 (x := 2) (y := (Int32.toNatClampNeg x1)) (by (try simp only [Int32.reduceToInt]); omega); (try simp only [Int32.reduceToInt] at e_0)) | skip
  first | (have e_1 := a32 (x := (2 * (Int32.toNatClampNeg x1))) (y := (Int32.toNatClampNeg (x_kOf x2))) (by (try simp only [Int32.reduceToInt]); omega); (try simp only [Int32.reduceToInt] at e_1)) | skip
  try simp only [Int32.reduceToInt] at *
  omega
def x_letOff (S : XS) (x1 : Int32) (x2 : Int32) : Int32 × XS := (if 0 ≤ (x_needOwn S x1 x2).1 then (((x_w_letOff S (Int32.toNatClampNeg x1) (x_kOf x2)).1 45 (S.2.2.2 4 (2 * (Int32.toNatClampNeg x1) + (Int32.toNatClampNeg (x_kOf x2))) - 1)), (x_w_letOff S (Int32.toNatClampNeg x1) (x_kOf x2))) else ((x_needOwn S x1 x2).1, (x_needOwn S x1 x2).2))
theorem x_letOff_N (S : XS) (x1 : Int32) (x2 : Int32) : (x_letOff S x1 x2).2.2.2.2 = S.2.2.2 := by
  unfold x_letOff
  refine ifI (P := fun (z : Int32 × XS) => z.2.2.2.2 = S.2.2.2) (fun c1 => ?_) (fun c1 => ?_)
  · have hN23 : (x_w_letOff S (Int32.toNatClampNeg x1) (x_kOf x2)).2.2.2 = S.2.2.2 := x_w_letOff_N S (Int32.toNatClampNeg x1) (x_kOf x2)
    exact hN23
  · have hN3 : (x_needOwn S x1 x2).2.2.2.2 = S.2.2.2 := x_needOwn_N S x1 x2
    exact hN3
theorem x_letOff_inv (S : XS) (x1 : Int32) (x2 : Int32) (hI : XInv S) : XInv (x_letOff S x1 x2).2 := by
  have hkq : 0 ≤ x_kOf x2 ∧ x_kOf x2 < 2 := x_kOf_b x2
  have hq2 : 0 ≤ x1 ∧ x1 < 4 → 2 * (Int32.toNatClampNeg x1) + (Int32.toNatClampNeg (x_kOf x2)) < 8 := fun h => tp8 (tn4 h) hkq
  unfold x_letOff
  refine ifI (P := fun (z : Int32 × XS) => XInv z.2) (fun c1 => ?_) (fun c1 => ?_)
  · have okc1_0 : 0 ≤ x1 ∧ x1 < 4 := (x_needOwn_ok S x1 x2 hI c1).2.1
    have okc1_1 : ¬ S.2.2.2 5 (Int32.toNatClampNeg x1) = 0 := (x_needOwn_ok S x1 x2 hI c1).2.2.1
    have okc1_2 : ¬ S.2.2.2 4 (2 * (Int32.toNatClampNeg x1) + (Int32.toNatClampNeg (x_kOf x2))) = 0 := (x_needOwn_ok S x1 x2 hI c1).2.2.2
    have hI23 : XInv (x_w_letOff S (Int32.toNatClampNeg x1) (x_kOf x2)) := x_w_letOff_inv S (Int32.toNatClampNeg x1) (x_kOf x2) (hI) (tn4 (okc1_0)) (okc1_1) (hkq) (okc1_2)
    exact hI23
  · have hI3 : XInv (x_needOwn S x1 x2).2 := x_needOwn_inv S x1 x2 (hI)
    exact hI3
set_option maxHeartbeats 4000000 in
theorem xt_letOff (l : Launch) (D : va_G) (d : Nat → ClassId) (A : Nat → Prop) (ad : XK → Nat) (S : XS) (x1 : Int32) (x2 : Int32) (hI : XInv S) : XI l yX0_letOff cX0_letOff 4 .int (rm_ 4) D d A ad S [.ref (ad (0, 0)), .int x1, .int x2] (x_letOff S x1 x2) := by
  refine x_startI RX0 rfl (by decide) (Nat.le_of_ble_eq_true rfl) ?_
  intro p e s m av below meth c ls Q X hrt hlk hl hR hQ
  have hx := X.1.1.1
  have hb := X.1.1.2.1
  have hown := X.1.1.2.2.2.1
  have hts := X.1.1.2.2.2.2
  have hS : va_S A s.heap s.heap [] := va_S.rf
  have hl : lv_has ls 4 [(0, .ref (ad (0, 0))), (1, .int x1), (2, .int x2)] := hl
  have hkq : 0 ≤ x_kOf x2 ∧ x_kOf x2 < 2 := x_kOf_b x2
  have hq2 : 0 ≤ x1 ∧ x1 < 4 → 2 * (Int32.toNatClampNeg x1) + (Int32.toNatClampNeg (x_kOf x2)) < 8 := fun h => tp8 (tn4 h) hkq
  refine lv_aload_n hx hb dX0_letOff_0 rfl (lv_at hl 0 rfl) ?_
  refine lv_iload_n hx hb dX0_letOff_1 rfl (lv_at hl 1 rfl) ?_
  refine lv_iload_n hx hb dX0_letOff_2 rfl (lv_at hl 2 rfl) ?_
  refine x_bi hS (xr_V X hR x_lv0 (ci := 0) (fs := x_fs ad S) rfl rfl (xt_needOwn l D d A ad S x1 x2 (hI)) 2 (lw_V q758 q760 qs6 q58 q761) ⟨rfl, rfl⟩ (by decide +kernel) ⟨by decide, by decide⟩ ⟨by decide, by decide⟩ rfl hl.1 rfl (Nat.le_of_ble_eq_true rfl) dX0_letOff_3) (fun H locs hR hS => ?_)
  have hN3 : (x_needOwn S x1 x2).2.2.2.2 = S.2.2.2 := x_needOwn_N S x1 x2
  have hI3 : XInv (x_needOwn S x1 x2).2 := x_needOwn_inv S x1 x2 (hI)
  refine lv_istore_n (lv' := [(3, .int (x_needOwn S x1 x2).1), (0, .ref (ad (0, 0))), (1, .int x1), (2, .int x2)]) hx hb dX0_letOff_6 rfl hl (by decide) rfl (fun ls hl => ?_)
  refine lv_iload_n hx hb dX0_letOff_7 rfl (lv_at hl 0 rfl) ?_
  refine lv_if_ge (tgt := 13) hx hb dX0_letOff_8 (by decide) (fun c1 => ?_) (fun c1 => ?_)
  · have okc1 := x_needOwn_ok S x1 x2 hI c1
    have hR : XR D d A ad S H := okc1.1 ▸ hR
    have okc1_0 : 0 ≤ x1 ∧ x1 < 4 := okc1.2.1
    have okc1_1 : ¬ S.2.2.2 5 (Int32.toNatClampNeg x1) = 0 := okc1.2.2.1
    have okc1_2 : ¬ S.2.2.2 4 (2 * (Int32.toNatClampNeg x1) + (Int32.toNatClampNeg (x_kOf x2))) = 0 := okc1.2.2.2
    refine lv_aload_n hx hb dX0_letOff_13 rfl (lv_at hl 1 rfl) ?_
    refine xg_a X.1 hR 7 (by decide) (by decide) q104 dX0_letOff_14 ?_
    refine lv_iload_n hx hb dX0_letOff_17 rfl (lv_at hl 2 rfl) ?_
    refine x_ldw X hR (ixl 4 4 (by decide) rfl (okc1_0)) (okc1_1) dX0_letOff_18 ?_
    refine lv_iload_n hx hb dX0_letOff_19 rfl (lv_at hl 3 rfl) ?_
    refine s_ci X.1.1 (st_x_kOf l x2) 1 (lw_S q751 q752 q58 q753) ⟨rfl, rfl⟩ (by decide +kernel) ⟨by decide, by decide⟩ ⟨by decide, by decide⟩ rfl hl.1 rfl (Nat.le_of_ble_eq_true rfl) dX0_letOff_20 ?_
    refine x_bv hS (xr_V X hR (x_lvw (tn4 (okc1_0)) (okc1_1)) (ci := 6) (fs := x_tw ad S (Int32.toNatClampNeg x1)) rfl rfl (xt_w_letOff l D d A ad S (Int32.toNatClampNeg x1) (x_kOf x2) (hI) (tn4 (okc1_0)) (okc1_1) (hkq) (okc1_2)) 1 (lw_V q841 q788 q789 q77 q790) ⟨rfl, rfl⟩ (by decide +kernel) ⟨by decide, by decide⟩ ⟨by decide, by decide⟩ rfl hl.1 rfl (Nat.le_of_ble_eq_true rfl) dX0_letOff_23) (fun H locs hR hS => ?_)
    have hN23 : (x_w_letOff S (Int32.toNatClampNeg x1) (x_kOf x2)).2.2.2 = S.2.2.2 := x_w_letOff_N S (Int32.toNatClampNeg x1) (x_kOf x2)
    have hI23 : XInv (x_w_letOff S (Int32.toNatClampNeg x1) (x_kOf x2)) := x_w_letOff_inv S (Int32.toNatClampNeg x1) (x_kOf x2) (hI) (tn4 (okc1_0)) (okc1_1) (hkq) (okc1_2)
    refine lv_aload_n hx hb dX0_letOff_26 rfl (lv_at hl 1 rfl) ?_
    refine xg_a X.1 hR 7 (by decide) (by decide) q104 dX0_letOff_27 ?_
    refine lv_iload_n hx hb dX0_letOff_30 rfl (lv_at hl 2 rfl) ?_
    refine x_ldw X hR (ixl 4 4 (by decide) rfl (okc1_0)) (by show ¬ (x_w_letOff S (Int32.toNatClampNeg x1) (x_kOf x2)).2.2.2 5 (Int32.toNatClampNeg x1) = 0; rw [hN23]; exact okc1_1) dX0_letOff_31 ?_
    refine xgwo X hR (x_lvw (tn4 (okc1_0)) (by show ¬ (x_w_letOff S (Int32.toNatClampNeg x1) (x_kOf x2)).2.2.2 5 (Int32.toNatClampNeg x1) = 0; rw [hN23]; exact okc1_1)) (Or.inr q706) dX0_letOff_32 ?_
    refine lv_iload_n hx hb dX0_letOff_35 rfl (lv_at hl 3 rfl) ?_
    refine s_ci X.1.1 (st_x_kOf l x2) 1 (lw_S q751 q752 q58 q753) ⟨rfl, rfl⟩ (by decide +kernel) ⟨by decide, by decide⟩ ⟨by decide, by decide⟩ rfl hl.1 rfl (Nat.le_of_ble_eq_true rfl) dX0_letOff_36 ?_
    refine x_ldoE X hR (x_lvo (tn4 (okc1_0)) (by show ¬ (x_w_letOff S (Int32.toNatClampNeg x1) (x_kOf x2)).2.2.2 5 (Int32.toNatClampNeg x1) = 0; rw [hN23]; exact okc1_1)) (ixl 2 2 (by decide) rfl (hkq)) (n := S.2.2.2 4 (2 * (Int32.toNatClampNeg x1) + (Int32.toNatClampNeg (x_kOf x2)))) (congrFun (congrFun hN23 4) _) (okc1_2) dX0_letOff_39 ?_
    refine xgt X hR (x_lvt (by show (S.2.2.2 4 (2 * (Int32.toNatClampNeg x1) + (Int32.toNatClampNeg (x_kOf x2))) - 1) < (x_w_letOff S (Int32.toNatClampNeg x1) (x_kOf x2)).2.2.2 7 0; rw [hN23]; exact (xi_own (X := S) hI (x_letOff_o2 S x1 x2 hI hkq hq2 hN3 hI3 c1 okc1_0 okc1_1 okc1_2 hN23 hI23) okc1_2))) (xi_kd (X := (x_w_letOff S (Int32.toNatClampNeg x1) (x_kOf x2))) hI23 (by show (S.2.2.2 4 (2 * (Int32.toNatClampNeg x1) + (Int32.toNatClampNeg (x_kOf x2))) - 1) < (x_w_letOff S (Int32.toNatClampNeg x1) (x_kOf x2)).2.2.2 7 0; rw [hN23]; exact (xi_own (X := S) hI (x_letOff_o2 S x1 x2 hI hkq hq2 hN3 hI3 c1 okc1_0 okc1_1 okc1_2 hN23 hI23) okc1_2))) 5 (by decide) q374 (Or.inl rfl) rfl dX0_letOff_40 ?_
    exact x_ri hx hb hrt (rfl) hlk hR hS hQ (if_pos c1) dX0_letOff_43
  · refine lv_iload_n hx hb dX0_letOff_11 rfl (lv_at hl 0 rfl) ?_
    exact x_ri hx hb hrt (rfl) hlk hR hS hQ (if_neg c1) dX0_letOff_12
theorem x_runOut_o2 (S : XS) (x1 : Int32) (x2 : Int32) (hI : XInv S) (hkq : 0 ≤ x_kOf x2 ∧ x_kOf x2 < 2) (hq2 : 0 ≤ x1 ∧ x1 < 4 → 2 * (Int32.toNatClampNeg x1) + (Int32.toNatClampNeg (x_kOf x2)) < 8) (hN3 : (x_needOwn S x1 x2).2.2.2.2 = S.2.2.2) (hI3 : XInv (x_needOwn S x1 x2).2) (c1 : 0 ≤ (x_needOwn S x1 x2).1) (okc1_0 : 0 ≤ x1 ∧ x1 < 4) (okc1_1 : ¬ S.2.2.2 5 (Int32.toNatClampNeg x1) = 0) (okc1_2 : ¬ S.2.2.2 4 (2 * (Int32.toNatClampNeg x1) + (Int32.toNatClampNeg (x_kOf x2))) = 0) : 2 * (Int32.toNatClampNeg x1) + (Int32.toNatClampNeg (x_kOf x2)) < 8 := by 
  have bl_x1 := Int32.toInt_lt x1
  have bl_x2 := Int32.toInt_lt x2
  try simp only [x_in_eq, x_isTower_eq] at *
  try simp only [i_le, i_lt, i_eq, Int32.reduceToInt] at *
  first | (have e_0 := m32 (x := 2) (y := (Int32.toNatClampNeg x1)) (by (try simp only [Int32.reduceToInt]); omega); (try simp only [Int32.reduceToInt] at e_0)) | skip
  first | (have e_1 := a32 (x := (2 * (Int32.toNatClampNeg x1))) (y := (Int32.toNatClampNeg (x_kOf x2))) (by (try simp only [Int32.reduceToInt]); omega); (try simp only [Int32.reduceToInt] at e_1)) | skip
  try simp only [Int32.reduceToInt] at *
  omega
def x_runOut (S : XS) (x1 : Int32) (x2 : Int32) : Int32 × XS := (if 0 ≤ (x_needOwn S x1 x2).1 then ((x_w_run S (Int32.toNatClampNeg x1) (x_kOf x2) (S.1 45 (S.2.2.2 4 (2 * (Int32.toNatClampNeg x1) + (Int32.toNatClampNeg (x_kOf x2))) - 1))).1, (x_w_run S (Int32.toNatClampNeg x1) (x_kOf x2) (S.1 45 (S.2.2.2 4 (2 * (Int32.toNatClampNeg x1) + (Int32.toNatClampNeg (x_kOf x2))) - 1))).2) else ((x_needOwn S x1 x2).1, (x_needOwn S x1 x2).2))
theorem x_runOut_N (S : XS) (x1 : Int32) (x2 : Int32) (hI : XInv S) : (x_runOut S x1 x2).2.2.2.2 = S.2.2.2 := by
  have hkq : 0 ≤ x_kOf x2 ∧ x_kOf x2 < 2 := x_kOf_b x2
  have hq2 : 0 ≤ x1 ∧ x1 < 4 → 2 * (Int32.toNatClampNeg x1) + (Int32.toNatClampNeg (x_kOf x2)) < 8 := fun h => tp8 (tn4 h) hkq
  unfold x_runOut
  refine ifI (P := fun (z : Int32 × XS) => z.2.2.2.2 = S.2.2.2) (fun c1 => ?_) (fun c1 => ?_)
  · have okc1_0 : 0 ≤ x1 ∧ x1 < 4 := (x_needOwn_ok S x1 x2 hI c1).2.1
    have okc1_1 : ¬ S.2.2.2 5 (Int32.toNatClampNeg x1) = 0 := (x_needOwn_ok S x1 x2 hI c1).2.2.1
    have okc1_2 : ¬ S.2.2.2 4 (2 * (Int32.toNatClampNeg x1) + (Int32.toNatClampNeg (x_kOf x2))) = 0 := (x_needOwn_ok S x1 x2 hI c1).2.2.2
    have hN42 : (x_w_run S (Int32.toNatClampNeg x1) (x_kOf x2) (S.1 45 (S.2.2.2 4 (2 * (Int32.toNatClampNeg x1) + (Int32.toNatClampNeg (x_kOf x2))) - 1))).2.2.2.2 = S.2.2.2 := x_w_run_N S (Int32.toNatClampNeg x1) (x_kOf x2) (S.1 45 (S.2.2.2 4 (2 * (Int32.toNatClampNeg x1) + (Int32.toNatClampNeg (x_kOf x2))) - 1)) (hI) (tn4 (okc1_0)) (okc1_1) (hkq) (okc1_2)
    exact hN42
  · have hN3 : (x_needOwn S x1 x2).2.2.2.2 = S.2.2.2 := x_needOwn_N S x1 x2
    exact hN3
theorem x_runOut_inv (S : XS) (x1 : Int32) (x2 : Int32) (hI : XInv S) : XInv (x_runOut S x1 x2).2 := by
  have hkq : 0 ≤ x_kOf x2 ∧ x_kOf x2 < 2 := x_kOf_b x2
  have hq2 : 0 ≤ x1 ∧ x1 < 4 → 2 * (Int32.toNatClampNeg x1) + (Int32.toNatClampNeg (x_kOf x2)) < 8 := fun h => tp8 (tn4 h) hkq
  unfold x_runOut
  refine ifI (P := fun (z : Int32 × XS) => XInv z.2) (fun c1 => ?_) (fun c1 => ?_)
  · have okc1_0 : 0 ≤ x1 ∧ x1 < 4 := (x_needOwn_ok S x1 x2 hI c1).2.1
    have okc1_1 : ¬ S.2.2.2 5 (Int32.toNatClampNeg x1) = 0 := (x_needOwn_ok S x1 x2 hI c1).2.2.1
    have okc1_2 : ¬ S.2.2.2 4 (2 * (Int32.toNatClampNeg x1) + (Int32.toNatClampNeg (x_kOf x2))) = 0 := (x_needOwn_ok S x1 x2 hI c1).2.2.2
    have hI42 : XInv (x_w_run S (Int32.toNatClampNeg x1) (x_kOf x2) (S.1 45 (S.2.2.2 4 (2 * (Int32.toNatClampNeg x1) + (Int32.toNatClampNeg (x_kOf x2))) - 1))).2 := x_w_run_inv S (Int32.toNatClampNeg x1) (x_kOf x2) (S.1 45 (S.2.2.2 4 (2 * (Int32.toNatClampNeg x1) + (Int32.toNatClampNeg (x_kOf x2))) - 1)) (hI) (tn4 (okc1_0)) (okc1_1) (hkq) (okc1_2)
    exact hI42
  · have hI3 : XInv (x_needOwn S x1 x2).2 := x_needOwn_inv S x1 x2 (hI)
    exact hI3
set_option maxHeartbeats 4000000 in
theorem xt_runOut (l : Launch) (D : va_G) (d : Nat → ClassId) (A : Nat → Prop) (ad : XK → Nat) (S : XS) (x1 : Int32) (x2 : Int32) (hI : XInv S) : XI l yX0_runOut cX0_runOut 5 .int (rm_ 4) D d A ad S [.ref (ad (0, 0)), .int x1, .int x2] (x_runOut S x1 x2) := by
  refine x_startI RX0 rfl (by decide) (Nat.le_of_ble_eq_true rfl) ?_
  intro p e s m av below meth c ls Q X hrt hlk hl hR hQ
  have hx := X.1.1.1
  have hb := X.1.1.2.1
  have hown := X.1.1.2.2.2.1
  have hts := X.1.1.2.2.2.2
  have hS : va_S A s.heap s.heap [] := va_S.rf
  have hl : lv_has ls 5 [(0, .ref (ad (0, 0))), (1, .int x1), (2, .int x2)] := hl
  have hkq : 0 ≤ x_kOf x2 ∧ x_kOf x2 < 2 := x_kOf_b x2
  have hq2 : 0 ≤ x1 ∧ x1 < 4 → 2 * (Int32.toNatClampNeg x1) + (Int32.toNatClampNeg (x_kOf x2)) < 8 := fun h => tp8 (tn4 h) hkq
  refine lv_aload_n hx hb dX0_runOut_0 rfl (lv_at hl 0 rfl) ?_
  refine lv_iload_n hx hb dX0_runOut_1 rfl (lv_at hl 1 rfl) ?_
  refine lv_iload_n hx hb dX0_runOut_2 rfl (lv_at hl 2 rfl) ?_
  refine x_bi hS (xr_V X hR x_lv0 (ci := 0) (fs := x_fs ad S) rfl rfl (xt_needOwn l D d A ad S x1 x2 (hI)) 2 (lw_V q758 q760 qs6 q58 q761) ⟨rfl, rfl⟩ (by decide +kernel) ⟨by decide, by decide⟩ ⟨by decide, by decide⟩ rfl hl.1 rfl (Nat.le_of_ble_eq_true rfl) dX0_runOut_3) (fun H locs hR hS => ?_)
  have hN3 : (x_needOwn S x1 x2).2.2.2.2 = S.2.2.2 := x_needOwn_N S x1 x2
  have hI3 : XInv (x_needOwn S x1 x2).2 := x_needOwn_inv S x1 x2 (hI)
  refine lv_istore_n (lv' := [(3, .int (x_needOwn S x1 x2).1), (0, .ref (ad (0, 0))), (1, .int x1), (2, .int x2)]) hx hb dX0_runOut_6 rfl hl (by decide) rfl (fun ls hl => ?_)
  refine lv_iload_n hx hb dX0_runOut_7 rfl (lv_at hl 0 rfl) ?_
  refine lv_if_ge (tgt := 13) hx hb dX0_runOut_8 (by decide) (fun c1 => ?_) (fun c1 => ?_)
  · have okc1 := x_needOwn_ok S x1 x2 hI c1
    have hR : XR D d A ad S H := okc1.1 ▸ hR
    have okc1_0 : 0 ≤ x1 ∧ x1 < 4 := okc1.2.1
    have okc1_1 : ¬ S.2.2.2 5 (Int32.toNatClampNeg x1) = 0 := okc1.2.2.1
    have okc1_2 : ¬ S.2.2.2 4 (2 * (Int32.toNatClampNeg x1) + (Int32.toNatClampNeg (x_kOf x2))) = 0 := okc1.2.2.2
    refine lv_iload_n hx hb dX0_runOut_13 rfl (lv_at hl 3 rfl) ?_
    refine s_ci X.1.1 (st_x_kOf l x2) 1 (lw_S q751 q752 q58 q753) ⟨rfl, rfl⟩ (by decide +kernel) ⟨by decide, by decide⟩ ⟨by decide, by decide⟩ rfl hl.1 rfl (Nat.le_of_ble_eq_true rfl) dX0_runOut_14 ?_
    refine lv_istore (lv' := [(4, .int (x_kOf x2)), (3, .int (x_needOwn S x1 x2).1), (0, .ref (ad (0, 0))), (1, .int x1), (2, .int x2)]) hx hb dX0_runOut_17 hl (by decide) rfl (fun ls hl => ?_)
    refine lv_aload_n hx hb dX0_runOut_19 rfl (lv_at hl 2 rfl) ?_
    refine xg_a X.1 hR 7 (by decide) (by decide) q104 dX0_runOut_20 ?_
    refine lv_iload_n hx hb dX0_runOut_23 rfl (lv_at hl 3 rfl) ?_
    refine x_ldw X hR (ixl 4 4 (by decide) rfl (okc1_0)) (okc1_1) dX0_runOut_24 ?_
    refine lv_iload hx hb dX0_runOut_25 (lv_at hl 0 rfl) ?_
    refine lv_aload_n hx hb dX0_runOut_27 rfl (lv_at hl 2 rfl) ?_
    refine xg_a X.1 hR 7 (by decide) (by decide) q104 dX0_runOut_28 ?_
    refine lv_iload_n hx hb dX0_runOut_31 rfl (lv_at hl 3 rfl) ?_
    refine x_ldw X hR (ixl 4 4 (by decide) rfl (okc1_0)) (okc1_1) dX0_runOut_32 ?_
    refine xgwo X hR (x_lvw (tn4 (okc1_0)) (okc1_1)) (Or.inr q706) dX0_runOut_33 ?_
    refine lv_iload hx hb dX0_runOut_36 (lv_at hl 0 rfl) ?_
    refine x_ldoE X hR (x_lvo (tn4 (okc1_0)) (okc1_1)) (ixl 2 2 (by decide) rfl (hkq)) (n := S.2.2.2 4 (2 * (Int32.toNatClampNeg x1) + (Int32.toNatClampNeg (x_kOf x2)))) rfl (okc1_2) dX0_runOut_38 ?_
    refine xgt X hR (x_lvt ((xi_own (X := S) hI (x_runOut_o2 S x1 x2 hI hkq hq2 hN3 hI3 c1 okc1_0 okc1_1 okc1_2) okc1_2))) (xi_kd (X := S) hI ((xi_own (X := S) hI (x_runOut_o2 S x1 x2 hI hkq hq2 hN3 hI3 c1 okc1_0 okc1_1 okc1_2) okc1_2))) 5 (by decide) q374 (Or.inl rfl) rfl dX0_runOut_39 ?_
    refine x_bi hS (xr_V X hR (x_lvw (tn4 (okc1_0)) (okc1_1)) (ci := 6) (fs := x_tw ad S (Int32.toNatClampNeg x1)) rfl rfl (xt_w_run l D d A ad S (Int32.toNatClampNeg x1) (x_kOf x2) (S.1 45 (S.2.2.2 4 (2 * (Int32.toNatClampNeg x1) + (Int32.toNatClampNeg (x_kOf x2))) - 1)) (hI) (tn4 (okc1_0)) (okc1_1) (hkq) (okc1_2)) 2 (lw_V q846 q847 q848 q77 q849) ⟨rfl, rfl⟩ (by decide +kernel) ⟨by decide, by decide⟩ ⟨by decide, by decide⟩ rfl hl.1 rfl (Nat.le_of_ble_eq_true rfl) dX0_runOut_42) (fun H locs hR hS => ?_)
    have hN42 : (x_w_run S (Int32.toNatClampNeg x1) (x_kOf x2) (S.1 45 (S.2.2.2 4 (2 * (Int32.toNatClampNeg x1) + (Int32.toNatClampNeg (x_kOf x2))) - 1))).2.2.2.2 = S.2.2.2 := x_w_run_N S (Int32.toNatClampNeg x1) (x_kOf x2) (S.1 45 (S.2.2.2 4 (2 * (Int32.toNatClampNeg x1) + (Int32.toNatClampNeg (x_kOf x2))) - 1)) (hI) (tn4 (okc1_0)) (okc1_1) (hkq) (okc1_2)
    have hI42 : XInv (x_w_run S (Int32.toNatClampNeg x1) (x_kOf x2) (S.1 45 (S.2.2.2 4 (2 * (Int32.toNatClampNeg x1) + (Int32.toNatClampNeg (x_kOf x2))) - 1))).2 := x_w_run_inv S (Int32.toNatClampNeg x1) (x_kOf x2) (S.1 45 (S.2.2.2 4 (2 * (Int32.toNatClampNeg x1) + (Int32.toNatClampNeg (x_kOf x2))) - 1)) (hI) (tn4 (okc1_0)) (okc1_1) (hkq) (okc1_2)
    exact x_ri hx hb hrt (rfl) hlk hR hS hQ (if_pos c1) dX0_runOut_45
  · refine lv_iload_n hx hb dX0_runOut_11 rfl (lv_at hl 0 rfl) ?_
    exact x_ri hx hb hrt (rfl) hlk hR hS hQ (if_neg c1) dX0_runOut_12
def x_trainOf (S : XS) (x1 : Nat) : Int32 := (S.1 40 x1)
set_option maxHeartbeats 4000000 in
theorem xt_trainOf (l : Launch) (D : va_G) (d : Nat → ClassId) (A : Nat → Prop) (ad : XK → Nat) (S : XS) (x1 : Nat) (hI : XInv S) (hj : x1 < S.2.2.2 7 0) : XI l yX0_trainOf cX0_trainOf 1 .int (rm_ 0) D d A ad S [.ref (ad (40, x1))] ((x_trainOf S x1), S) := by
  refine x_startI RX0 rfl (by decide) (Nat.le_of_ble_eq_true rfl) ?_
  intro p e s m av below meth c ls Q X hrt hlk hl hR hQ
  have hx := X.1.1.1
  have hb := X.1.1.2.1
  have hown := X.1.1.2.2.2.1
  have hts := X.1.1.2.2.2.2
  have hS : va_S A s.heap s.heap [] := va_S.rf
  have hl : lv_has ls 1 [(0, .ref (ad (40, x1)))] := hl
  refine lv_aload_n hx hb dX0_trainOf_0 rfl (lv_at hl 0 rfl) ?_
  refine lv_ifnonnull (tgt := 9) hx hb dX0_trainOf_1 (by decide) ?_
  refine lv_aload_n hx hb dX0_trainOf_9 rfl (lv_at hl 0 rfl) ?_
  refine xgt X hR (x_lvt (hj)) (xi_kd (X := S) hI (hj)) 0 (by decide) q357 (Or.inl rfl) rfl dX0_trainOf_10 ?_
  exact x_ri hx hb hrt (rfl) hlk hR hS hQ (hF1 rfl) dX0_trainOf_13
def x_trainOf0 (S : XS) : Int32 := (-9)
set_option maxHeartbeats 4000000 in
theorem xt_trainOf0 (l : Launch) (D : va_G) (d : Nat → ClassId) (A : Nat → Prop) (ad : XK → Nat) (S : XS) : XI l yX0_trainOf cX0_trainOf 1 .int (rm_ 0) D d A ad S [.null] ((x_trainOf0 S), S) := by
  refine x_startI RX0 rfl (by decide) (Nat.le_of_ble_eq_true rfl) ?_
  intro p e s m av below meth c ls Q X hrt hlk hl hR hQ
  have hx := X.1.1.1
  have hb := X.1.1.2.1
  have hown := X.1.1.2.2.2.1
  have hts := X.1.1.2.2.2.2
  have hS : va_S A s.heap s.heap [] := va_S.rf
  have hl : lv_has ls 1 [(0, .null)] := hl
  refine lv_aload_nN hx hb dX0_trainOf_0 rfl (lv_at hl 0 rfl) ?_
  refine lv_ifnonnullN hx hb dX0_trainOf_1 ?_
  refine lv_bipush (v := (-9)) hx hb dX0_trainOf_4 (by decide) ?_
  refine lv_goto (tgt := 13) hx hb dX0_trainOf_6 (by decide) ?_
  exact x_ri hx hb hrt (rfl) hlk hR hS hQ (hF1 rfl) dX0_trainOf_13
def x_warnedOf (S : XS) (x1 : Nat) : Int32 := (if (S.1 48 x1) = 0 then 0 else 1)
set_option maxHeartbeats 4000000 in
theorem xt_warnedOf (l : Launch) (D : va_G) (d : Nat → ClassId) (A : Nat → Prop) (ad : XK → Nat) (S : XS) (x1 : Nat) (hI : XInv S) (hj : x1 < S.2.2.2 7 0) : XI l yX0_warnedOf cX0_warnedOf 1 .int (rm_ 0) D d A ad S [.ref (ad (40, x1))] ((x_warnedOf S x1), S) := by
  refine x_startI RX0 rfl (by decide) (Nat.le_of_ble_eq_true rfl) ?_
  intro p e s m av below meth c ls Q X hrt hlk hl hR hQ
  have hx := X.1.1.1
  have hb := X.1.1.2.1
  have hown := X.1.1.2.2.2.1
  have hts := X.1.1.2.2.2.2
  have hS : va_S A s.heap s.heap [] := va_S.rf
  have hl : lv_has ls 1 [(0, .ref (ad (40, x1)))] := hl
  refine lv_aload_n hx hb dX0_warnedOf_0 rfl (lv_at hl 0 rfl) ?_
  refine lv_ifnull hx hb dX0_warnedOf_1 ?_
  refine lv_aload_n hx hb dX0_warnedOf_4 rfl (lv_at hl 0 rfl) ?_
  refine xgt X hR (x_lvt (hj)) (xi_kd (X := S) hI (hj)) 8 (by decide) q380 (Or.inl rfl) rfl dX0_warnedOf_5 ?_
  refine lv_if_eq (tgt := 15) hx hb dX0_warnedOf_8 (by decide) (fun c1 => ?_) (fun c1 => ?_)
  · refine lv_iconst (v := 0) hx hb dX0_warnedOf_15 (by decide) ?_
    exact x_ri hx hb hrt (rfl) hlk hR hS hQ (hF1 (if_pos c1)) dX0_warnedOf_16
  · refine lv_iconst (v := 1) hx hb dX0_warnedOf_11 (by decide) ?_
    refine lv_goto (tgt := 16) hx hb dX0_warnedOf_12 (by decide) ?_
    exact x_ri hx hb hrt (rfl) hlk hR hS hQ (hF1 (if_neg c1)) dX0_warnedOf_16
def x_warnedOf0 (S : XS) : Int32 := 0
set_option maxHeartbeats 4000000 in
theorem xt_warnedOf0 (l : Launch) (D : va_G) (d : Nat → ClassId) (A : Nat → Prop) (ad : XK → Nat) (S : XS) : XI l yX0_warnedOf cX0_warnedOf 1 .int (rm_ 0) D d A ad S [.null] ((x_warnedOf0 S), S) := by
  refine x_startI RX0 rfl (by decide) (Nat.le_of_ble_eq_true rfl) ?_
  intro p e s m av below meth c ls Q X hrt hlk hl hR hQ
  have hx := X.1.1.1
  have hb := X.1.1.2.1
  have hown := X.1.1.2.2.2.1
  have hts := X.1.1.2.2.2.2
  have hS : va_S A s.heap s.heap [] := va_S.rf
  have hl : lv_has ls 1 [(0, .null)] := hl
  refine lv_aload_nN hx hb dX0_warnedOf_0 rfl (lv_at hl 0 rfl) ?_
  refine lv_ifnullN (tgt := 15) hx hb dX0_warnedOf_1 (by decide) ?_
  refine lv_iconst (v := 0) hx hb dX0_warnedOf_15 (by decide) ?_
  exact x_ri hx hb hrt (rfl) hlk hR hS hQ (hF1 rfl) dX0_warnedOf_16
def x_tellsOf (S : XS) (x1 : Nat) (x2 : Int32) : Int32 := (if x2 = 0 then (S.1 60 x1) else (if x2 = 1 then (S.1 61 x1) else (if x2 = 2 then (S.1 63 x1) else (if x2 = 3 then (if (S.1 64 x1) = 0 then 0 else 1) else (if x2 = 4 then (if S.2.2.2 4 (2 * x1 + (Int32.toNatClampNeg 0)) = 0 then (x_trainOf0 S) else (x_trainOf S (S.2.2.2 4 (2 * x1 + (Int32.toNatClampNeg 0)) - 1))) else (if x2 = 5 then (if S.2.2.2 4 (2 * x1 + (Int32.toNatClampNeg 1)) = 0 then (x_trainOf0 S) else (x_trainOf S (S.2.2.2 4 (2 * x1 + (Int32.toNatClampNeg 1)) - 1))) else (if x2 = 6 then (if S.2.2.2 4 (2 * x1 + (Int32.toNatClampNeg 0)) = 0 then (x_warnedOf0 S) else (x_warnedOf S (S.2.2.2 4 (2 * x1 + (Int32.toNatClampNeg 0)) - 1))) else (if x2 = 7 then (if S.2.2.2 4 (2 * x1 + (Int32.toNatClampNeg 1)) = 0 then (x_warnedOf0 S) else (x_warnedOf S (S.2.2.2 4 (2 * x1 + (Int32.toNatClampNeg 1)) - 1))) else (x_w_silence S x1)))))))))
set_option maxHeartbeats 4000000 in
theorem xt_tellsOf (l : Launch) (D : va_G) (d : Nat → ClassId) (A : Nat → Prop) (ad : XK → Nat) (S : XS) (x1 : Nat) (x2 : Int32) (hI : XInv S) (ht : x1 < 4) (h5 : ¬ S.2.2.2 5 x1 = 0) : XI l yX0_tellsOf cX0_tellsOf 2 .int (rm_ 2) D d A ad S [.ref (ad (70, x1)), .int x2] ((x_tellsOf S x1 x2), S) := by
  refine x_startI RX0 rfl (by decide) (Nat.le_of_ble_eq_true rfl) ?_
  intro p e s m av below meth c ls Q X hrt hlk hl hR hQ
  have hx := X.1.1.1
  have hb := X.1.1.2.1
  have hown := X.1.1.2.2.2.1
  have hts := X.1.1.2.2.2.2
  have hS : va_S A s.heap s.heap [] := va_S.rf
  have hl : lv_has ls 2 [(0, .ref (ad (70, x1))), (1, .int x2)] := hl
  have q80 : 2 * x1 + (Int32.toNatClampNeg 0) < 8 := tp8 ht (by decide)
  have q81 : 2 * x1 + (Int32.toNatClampNeg 1) < 8 := tp8 ht (by decide)
  refine lv_iload_n hx hb dX0_tellsOf_0 rfl (lv_at hl 1 rfl) ?_
  by_cases c1 : x2 = 0
  · refine lv_tableIn (off := 47) (tgt := 48) hx hb dX0_tellsOf_1 (by rw [c1]; decide) (by rw [c1]; decide) (by rw [c1]; rfl) (by decide) ?_
    refine lv_aload_n hx hb dX0_tellsOf_48 rfl (lv_at hl 0 rfl) ?_
    refine xgw X hR (x_lvw (ht) (h5)) 0 (Or.inl (by decide)) (Or.inr q696) rfl dX0_tellsOf_49 ?_
    exact x_ri hx hb hrt (rfl) hlk hR hS hQ (hF1 (if_pos c1)) dX0_tellsOf_52
  · by_cases c2 : x2 = 1
    · refine lv_tableIn (off := 52) (tgt := 53) hx hb dX0_tellsOf_1 (by rw [c2]; decide) (by rw [c2]; decide) (by rw [c2]; rfl) (by decide) ?_
      refine lv_aload_n hx hb dX0_tellsOf_53 rfl (lv_at hl 0 rfl) ?_
      refine xgw X hR (x_lvw (ht) (h5)) 1 (Or.inl (by decide)) (Or.inr q698) rfl dX0_tellsOf_54 ?_
      exact x_ri hx hb hrt (rfl) hlk hR hS hQ (hF1 (Eq.trans (if_neg c1) (if_pos c2))) dX0_tellsOf_57
    · by_cases c3 : x2 = 2
      · refine lv_tableIn (off := 57) (tgt := 58) hx hb dX0_tellsOf_1 (by rw [c3]; decide) (by rw [c3]; decide) (by rw [c3]; rfl) (by decide) ?_
        refine lv_aload_n hx hb dX0_tellsOf_58 rfl (lv_at hl 0 rfl) ?_
        refine xgw X hR (x_lvw (ht) (h5)) 3 (Or.inl (by decide)) (Or.inr q702) rfl dX0_tellsOf_59 ?_
        exact x_ri hx hb hrt (rfl) hlk hR hS hQ (hF1 (Eq.trans (if_neg c1) (Eq.trans (if_neg c2) (if_pos c3)))) dX0_tellsOf_62
      · by_cases c4 : x2 = 3
        · refine lv_tableIn (off := 62) (tgt := 63) hx hb dX0_tellsOf_1 (by rw [c4]; decide) (by rw [c4]; decide) (by rw [c4]; rfl) (by decide) ?_
          refine lv_aload_n hx hb dX0_tellsOf_63 rfl (lv_at hl 0 rfl) ?_
          refine xgw X hR (x_lvw (ht) (h5)) 4 (Or.inl (by decide)) (Or.inr q704) rfl dX0_tellsOf_64 ?_
          refine lv_if_eq (tgt := 74) hx hb dX0_tellsOf_67 (by decide) (fun c5 => ?_) (fun c5 => ?_)
          · refine lv_iconst (v := 0) hx hb dX0_tellsOf_74 (by decide) ?_
            exact x_ri hx hb hrt (rfl) hlk hR hS hQ (hF1 (Eq.trans (if_neg c1) (Eq.trans (if_neg c2) (Eq.trans (if_neg c3) (Eq.trans (if_pos c4) (if_pos c5)))))) dX0_tellsOf_75
          · refine lv_iconst (v := 1) hx hb dX0_tellsOf_70 (by decide) ?_
            refine lv_goto (tgt := 75) hx hb dX0_tellsOf_71 (by decide) ?_
            exact x_ri hx hb hrt (rfl) hlk hR hS hQ (hF1 (Eq.trans (if_neg c1) (Eq.trans (if_neg c2) (Eq.trans (if_neg c3) (Eq.trans (if_pos c4) (if_neg c5)))))) dX0_tellsOf_75
        · by_cases c6 : x2 = 4
          · refine lv_tableIn (off := 75) (tgt := 76) hx hb dX0_tellsOf_1 (by rw [c6]; decide) (by rw [c6]; decide) (by rw [c6]; rfl) (by decide) ?_
            refine lv_aload_n hx hb dX0_tellsOf_76 rfl (lv_at hl 0 rfl) ?_
            refine xgwo X hR (x_lvw (ht) (h5)) (Or.inr q706) dX0_tellsOf_77 ?_
            refine lv_iconst (v := 0) hx hb dX0_tellsOf_80 (by decide) ?_
            refine x_ldoBE X hR (x_lvo (ht) (h5)) (ixl 2 2 (by decide) rfl (by decide)) (n := S.2.2.2 4 (2 * x1 + (Int32.toNatClampNeg 0))) rfl dX0_tellsOf_81 (fun c7 => ?_) (fun c7 => ?_)
            · refine x_bi hS (xr_S X hR (xt_trainOf0 l D d A ad S) 1 (lw_S q908 q909 q58 q910) ⟨rfl, rfl⟩ (by decide +kernel) ⟨by decide, by decide⟩ ⟨by decide, by decide⟩ rfl hl.1 rfl (Nat.le_of_ble_eq_true rfl) dX0_tellsOf_82) (fun H locs hR hS => ?_)
              exact x_ri hx hb hrt (rfl) hlk hR hS hQ (hF1 (Eq.trans (if_neg c1) (Eq.trans (if_neg c2) (Eq.trans (if_neg c3) (Eq.trans (if_neg c4) (Eq.trans (if_pos c6) (if_pos c7))))))) dX0_tellsOf_85
            · refine x_bi hS (xr_S X hR (xt_trainOf l D d A ad S (S.2.2.2 4 (2 * x1 + (Int32.toNatClampNeg 0)) - 1) (hI) ((xi_own (X := S) hI (q80) c7))) 1 (lw_S q908 q909 q58 q910) ⟨rfl, rfl⟩ (by decide +kernel) ⟨by decide, by decide⟩ ⟨by decide, by decide⟩ rfl hl.1 rfl (Nat.le_of_ble_eq_true rfl) dX0_tellsOf_82) (fun H locs hR hS => ?_)
              exact x_ri hx hb hrt (rfl) hlk hR hS hQ (hF1 (Eq.trans (if_neg c1) (Eq.trans (if_neg c2) (Eq.trans (if_neg c3) (Eq.trans (if_neg c4) (Eq.trans (if_pos c6) (if_neg c7))))))) dX0_tellsOf_85
          · by_cases c8 : x2 = 5
            · refine lv_tableIn (off := 85) (tgt := 86) hx hb dX0_tellsOf_1 (by rw [c8]; decide) (by rw [c8]; decide) (by rw [c8]; rfl) (by decide) ?_
              refine lv_aload_n hx hb dX0_tellsOf_86 rfl (lv_at hl 0 rfl) ?_
              refine xgwo X hR (x_lvw (ht) (h5)) (Or.inr q706) dX0_tellsOf_87 ?_
              refine lv_iconst (v := 1) hx hb dX0_tellsOf_90 (by decide) ?_
              refine x_ldoBE X hR (x_lvo (ht) (h5)) (ixl 2 2 (by decide) rfl (by decide)) (n := S.2.2.2 4 (2 * x1 + (Int32.toNatClampNeg 1))) rfl dX0_tellsOf_91 (fun c9 => ?_) (fun c9 => ?_)
              · refine x_bi hS (xr_S X hR (xt_trainOf0 l D d A ad S) 1 (lw_S q908 q909 q58 q910) ⟨rfl, rfl⟩ (by decide +kernel) ⟨by decide, by decide⟩ ⟨by decide, by decide⟩ rfl hl.1 rfl (Nat.le_of_ble_eq_true rfl) dX0_tellsOf_92) (fun H locs hR hS => ?_)
                exact x_ri hx hb hrt (rfl) hlk hR hS hQ (hF1 (Eq.trans (if_neg c1) (Eq.trans (if_neg c2) (Eq.trans (if_neg c3) (Eq.trans (if_neg c4) (Eq.trans (if_neg c6) (Eq.trans (if_pos c8) (if_pos c9)))))))) dX0_tellsOf_95
              · refine x_bi hS (xr_S X hR (xt_trainOf l D d A ad S (S.2.2.2 4 (2 * x1 + (Int32.toNatClampNeg 1)) - 1) (hI) ((xi_own (X := S) hI (q81) c9))) 1 (lw_S q908 q909 q58 q910) ⟨rfl, rfl⟩ (by decide +kernel) ⟨by decide, by decide⟩ ⟨by decide, by decide⟩ rfl hl.1 rfl (Nat.le_of_ble_eq_true rfl) dX0_tellsOf_92) (fun H locs hR hS => ?_)
                exact x_ri hx hb hrt (rfl) hlk hR hS hQ (hF1 (Eq.trans (if_neg c1) (Eq.trans (if_neg c2) (Eq.trans (if_neg c3) (Eq.trans (if_neg c4) (Eq.trans (if_neg c6) (Eq.trans (if_pos c8) (if_neg c9)))))))) dX0_tellsOf_95
            · by_cases c10 : x2 = 6
              · refine lv_tableIn (off := 95) (tgt := 96) hx hb dX0_tellsOf_1 (by rw [c10]; decide) (by rw [c10]; decide) (by rw [c10]; rfl) (by decide) ?_
                refine lv_aload_n hx hb dX0_tellsOf_96 rfl (lv_at hl 0 rfl) ?_
                refine xgwo X hR (x_lvw (ht) (h5)) (Or.inr q706) dX0_tellsOf_97 ?_
                refine lv_iconst (v := 0) hx hb dX0_tellsOf_100 (by decide) ?_
                refine x_ldoBE X hR (x_lvo (ht) (h5)) (ixl 2 2 (by decide) rfl (by decide)) (n := S.2.2.2 4 (2 * x1 + (Int32.toNatClampNeg 0))) rfl dX0_tellsOf_101 (fun c11 => ?_) (fun c11 => ?_)
                · refine x_bi hS (xr_S X hR (xt_warnedOf0 l D d A ad S) 1 (lw_S q911 q912 q58 q913) ⟨rfl, rfl⟩ (by decide +kernel) ⟨by decide, by decide⟩ ⟨by decide, by decide⟩ rfl hl.1 rfl (Nat.le_of_ble_eq_true rfl) dX0_tellsOf_102) (fun H locs hR hS => ?_)
                  exact x_ri hx hb hrt (rfl) hlk hR hS hQ (hF1 (Eq.trans (if_neg c1) (Eq.trans (if_neg c2) (Eq.trans (if_neg c3) (Eq.trans (if_neg c4) (Eq.trans (if_neg c6) (Eq.trans (if_neg c8) (Eq.trans (if_pos c10) (if_pos c11))))))))) dX0_tellsOf_105
                · refine x_bi hS (xr_S X hR (xt_warnedOf l D d A ad S (S.2.2.2 4 (2 * x1 + (Int32.toNatClampNeg 0)) - 1) (hI) ((xi_own (X := S) hI (q80) c11))) 1 (lw_S q911 q912 q58 q913) ⟨rfl, rfl⟩ (by decide +kernel) ⟨by decide, by decide⟩ ⟨by decide, by decide⟩ rfl hl.1 rfl (Nat.le_of_ble_eq_true rfl) dX0_tellsOf_102) (fun H locs hR hS => ?_)
                  exact x_ri hx hb hrt (rfl) hlk hR hS hQ (hF1 (Eq.trans (if_neg c1) (Eq.trans (if_neg c2) (Eq.trans (if_neg c3) (Eq.trans (if_neg c4) (Eq.trans (if_neg c6) (Eq.trans (if_neg c8) (Eq.trans (if_pos c10) (if_neg c11))))))))) dX0_tellsOf_105
              · by_cases c12 : x2 = 7
                · refine lv_tableIn (off := 105) (tgt := 106) hx hb dX0_tellsOf_1 (by rw [c12]; decide) (by rw [c12]; decide) (by rw [c12]; rfl) (by decide) ?_
                  refine lv_aload_n hx hb dX0_tellsOf_106 rfl (lv_at hl 0 rfl) ?_
                  refine xgwo X hR (x_lvw (ht) (h5)) (Or.inr q706) dX0_tellsOf_107 ?_
                  refine lv_iconst (v := 1) hx hb dX0_tellsOf_110 (by decide) ?_
                  refine x_ldoBE X hR (x_lvo (ht) (h5)) (ixl 2 2 (by decide) rfl (by decide)) (n := S.2.2.2 4 (2 * x1 + (Int32.toNatClampNeg 1))) rfl dX0_tellsOf_111 (fun c13 => ?_) (fun c13 => ?_)
                  · refine x_bi hS (xr_S X hR (xt_warnedOf0 l D d A ad S) 1 (lw_S q911 q912 q58 q913) ⟨rfl, rfl⟩ (by decide +kernel) ⟨by decide, by decide⟩ ⟨by decide, by decide⟩ rfl hl.1 rfl (Nat.le_of_ble_eq_true rfl) dX0_tellsOf_112) (fun H locs hR hS => ?_)
                    exact x_ri hx hb hrt (rfl) hlk hR hS hQ (hF1 (Eq.trans (if_neg c1) (Eq.trans (if_neg c2) (Eq.trans (if_neg c3) (Eq.trans (if_neg c4) (Eq.trans (if_neg c6) (Eq.trans (if_neg c8) (Eq.trans (if_neg c10) (Eq.trans (if_pos c12) (if_pos c13)))))))))) dX0_tellsOf_115
                  · refine x_bi hS (xr_S X hR (xt_warnedOf l D d A ad S (S.2.2.2 4 (2 * x1 + (Int32.toNatClampNeg 1)) - 1) (hI) ((xi_own (X := S) hI (q81) c13))) 1 (lw_S q911 q912 q58 q913) ⟨rfl, rfl⟩ (by decide +kernel) ⟨by decide, by decide⟩ ⟨by decide, by decide⟩ rfl hl.1 rfl (Nat.le_of_ble_eq_true rfl) dX0_tellsOf_112) (fun H locs hR hS => ?_)
                    exact x_ri hx hb hrt (rfl) hlk hR hS hQ (hF1 (Eq.trans (if_neg c1) (Eq.trans (if_neg c2) (Eq.trans (if_neg c3) (Eq.trans (if_neg c4) (Eq.trans (if_neg c6) (Eq.trans (if_neg c8) (Eq.trans (if_neg c10) (Eq.trans (if_pos c12) (if_neg c13)))))))))) dX0_tellsOf_115
                · refine lv_tableOut (tgt := 116) hx hb dX0_tellsOf_1 (sw_out _ _ _ (fun k hk => by match k, hk with | 0, _ => exact c1 | 1, _ => exact c2 | 2, _ => exact c3 | 3, _ => exact c4 | 4, _ => exact c6 | 5, _ => exact c8 | 6, _ => exact c10 | 7, _ => exact c12)) (by decide) ?_
                  refine lv_aload_n hx hb dX0_tellsOf_116 rfl (lv_at hl 0 rfl) ?_
                  refine x_bi hS (xr_V X hR (x_lvw (ht) (h5)) (ci := 6) (fs := x_tw ad S x1) rfl rfl (xt_w_silence l D d A ad S x1 (hI) (ht) (h5)) 0 (lw_V q914 q783 q784 q77 q785) ⟨rfl, rfl⟩ (by decide +kernel) ⟨by decide, by decide⟩ ⟨by decide, by decide⟩ rfl hl.1 rfl (Nat.le_of_ble_eq_true rfl) dX0_tellsOf_117) (fun H locs hR hS => ?_)
                  exact x_ri hx hb hrt (rfl) hlk hR hS hQ (hF1 (Eq.trans (if_neg c1) (Eq.trans (if_neg c2) (Eq.trans (if_neg c3) (Eq.trans (if_neg c4) (Eq.trans (if_neg c6) (Eq.trans (if_neg c8) (Eq.trans (if_neg c10) (if_neg c12))))))))) dX0_tellsOf_120
def x_tells (S : XS) (x1 : Int32) (x2 : Int32) : Int32 × XS := (if 0 ≤ (x_need S (x_in x2 0 8) x1).1 then ((x_tellsOf S (Int32.toNatClampNeg x1) x2), S) else ((x_need S (x_in x2 0 8) x1).1, (x_need S (x_in x2 0 8) x1).2))
theorem x_tells_N (S : XS) (x1 : Int32) (x2 : Int32) : (x_tells S x1 x2).2.2.2.2 = S.2.2.2 := by
  unfold x_tells
  refine ifI (P := fun (z : Int32 × XS) => z.2.2.2.2 = S.2.2.2) (fun c1 => ?_) (fun c1 => ?_)
  · exact rfl
  · have hN9 : (x_need S (x_in x2 0 8) x1).2.2.2.2 = S.2.2.2 := x_need_N S (x_in x2 0 8) x1
    exact hN9
theorem x_tells_inv (S : XS) (x1 : Int32) (x2 : Int32) (hI : XInv S) : XInv (x_tells S x1 x2).2 := by
  unfold x_tells
  refine ifI (P := fun (z : Int32 × XS) => XInv z.2) (fun c1 => ?_) (fun c1 => ?_)
  · exact hI
  · have hI9 : XInv (x_need S (x_in x2 0 8) x1).2 := x_need_inv S (x_in x2 0 8) x1 (hI)
    exact hI9
set_option maxHeartbeats 4000000 in
theorem xt_tells (l : Launch) (D : va_G) (d : Nat → ClassId) (A : Nat → Prop) (ad : XK → Nat) (S : XS) (x1 : Int32) (x2 : Int32) (hI : XInv S) : XI l yX0_tells cX0_tells 4 .int (rm_ 3) D d A ad S [.ref (ad (0, 0)), .int x1, .int x2] (x_tells S x1 x2) := by
  refine x_startI RX0 rfl (by decide) (Nat.le_of_ble_eq_true rfl) ?_
  intro p e s m av below meth c ls Q X hrt hlk hl hR hQ
  have hx := X.1.1.1
  have hb := X.1.1.2.1
  have hown := X.1.1.2.2.2.1
  have hts := X.1.1.2.2.2.2
  have hS : va_S A s.heap s.heap [] := va_S.rf
  have hl : lv_has ls 4 [(0, .ref (ad (0, 0))), (1, .int x1), (2, .int x2)] := hl
  refine lv_aload_n hx hb dX0_tells_0 rfl (lv_at hl 0 rfl) ?_
  refine lv_iload_n hx hb dX0_tells_1 rfl (lv_at hl 2 rfl) ?_
  refine lv_iconst (v := 0) hx hb dX0_tells_2 (by decide) ?_
  refine lv_bipush (v := 8) hx hb dX0_tells_3 (by decide) ?_
  refine s_ci X.1.1 (st_x_in l x2 0 8) 3 (lw_S q280 q281 q58 q282) ⟨rfl, rfl⟩ (by decide +kernel) ⟨by decide, by decide⟩ ⟨by decide, by decide⟩ rfl hl.1 rfl (Nat.le_of_ble_eq_true rfl) dX0_tells_5 ?_
  refine lv_iload_n hx hb dX0_tells_8 rfl (lv_at hl 1 rfl) ?_
  refine x_bi hS (xr_V X hR x_lv0 (ci := 0) (fs := x_fs ad S) rfl rfl (xt_need l D d A ad S (x_in x2 0 8) x1 (hI)) 2 (lw_V q747 q749 qs5 q58 q750) ⟨rfl, rfl⟩ (by decide +kernel) ⟨by decide, by decide⟩ ⟨by decide, by decide⟩ rfl hl.1 rfl (Nat.le_of_ble_eq_true rfl) dX0_tells_9) (fun H locs hR hS => ?_)
  have hN9 : (x_need S (x_in x2 0 8) x1).2.2.2.2 = S.2.2.2 := x_need_N S (x_in x2 0 8) x1
  have hI9 : XInv (x_need S (x_in x2 0 8) x1).2 := x_need_inv S (x_in x2 0 8) x1 (hI)
  refine lv_istore_n (lv' := [(3, .int (x_need S (x_in x2 0 8) x1).1), (0, .ref (ad (0, 0))), (1, .int x1), (2, .int x2)]) hx hb dX0_tells_12 rfl hl (by decide) rfl (fun ls hl => ?_)
  refine lv_iload_n hx hb dX0_tells_13 rfl (lv_at hl 0 rfl) ?_
  refine lv_if_ge (tgt := 21) hx hb dX0_tells_14 (by decide) (fun c1 => ?_) (fun c1 => ?_)
  · have okc1 := x_need_ok S (x_in x2 0 8) x1 hI c1
    have hR : XR D d A ad S H := okc1.1 ▸ hR
    have okc1_0 : 0 ≤ x1 ∧ x1 < 4 := okc1.2.1
    have okc1_1 : ¬ (x_in x2 0 8) = 0 := okc1.2.2.1
    have okc1_2 : ¬ S.2.2.2 5 (Int32.toNatClampNeg x1) = 0 := okc1.2.2.2
    refine lv_aload_n hx hb dX0_tells_21 rfl (lv_at hl 1 rfl) ?_
    refine xg_a X.1 hR 7 (by decide) (by decide) q104 dX0_tells_22 ?_
    refine lv_iload_n hx hb dX0_tells_25 rfl (lv_at hl 2 rfl) ?_
    refine x_ldw X hR (ixl 4 4 (by decide) rfl (okc1_0)) (okc1_2) dX0_tells_26 ?_
    refine lv_iload_n hx hb dX0_tells_27 rfl (lv_at hl 3 rfl) ?_
    refine x_bi hS (xr_S X hR (xt_tellsOf l D d A ad S (Int32.toNatClampNeg x1) x2 (hI) (tn4 (okc1_0)) (okc1_2)) 2 (lw_S q905 q906 q58 q907) ⟨rfl, rfl⟩ (by decide +kernel) ⟨by decide, by decide⟩ ⟨by decide, by decide⟩ rfl hl.1 rfl (Nat.le_of_ble_eq_true rfl) dX0_tells_28) (fun H locs hR hS => ?_)
    exact x_ri hx hb hrt (rfl) hlk hR hS hQ (if_pos c1) dX0_tells_31
  · refine lv_iload_n hx hb dX0_tells_17 rfl (lv_at hl 0 rfl) ?_
    refine lv_goto (tgt := 31) hx hb dX0_tells_18 (by decide) ?_
    exact x_ri hx hb hrt (rfl) hlk hR hS hQ (if_neg c1) dX0_tells_31
theorem x_log_o3 (S : XS) (x1 : Int32) (x2 : Int32) (x3 : Int32) (hI : XInv S) (hN8 : (x_need S (x_in x3 0 3) x1).2.2.2.2 = S.2.2.2) (hI8 : XInv (x_need S (x_in x3 0 3) x1).2) (c1 : 0 ≤ (x_need S (x_in x3 0 3) x1).1) (okc1_0 : 0 ≤ x1 ∧ x1 < 4) (okc1_1 : ¬ (x_in x3 0 3) = 0) (okc1_2 : ¬ S.2.2.2 5 (Int32.toNatClampNeg x1) = 0) (hL : 0 ≤ S.1 69 (Int32.toNatClampNeg x1) ∧ S.1 69 (Int32.toNatClampNeg x1) ≤ 60) (c2 : ¬ (x_in x2 0 ((S.1 69 (Int32.toNatClampNeg x1)) - 1)) = 0) : 0 ≤ ((4 * (((S.1 69 (Int32.toNatClampNeg x1)) - 1) - x2)) + x3) ∧ ((4 * (((S.1 69 (Int32.toNatClampNeg x1)) - 1) - x2)) + x3) < 240 := by 
  have bl_x1 := Int32.toInt_lt x1
  have bl_x2 := Int32.toInt_lt x2
  have bl_x3 := Int32.toInt_lt x3
  try simp only [x_in_eq, x_isTower_eq] at *
  try simp only [i_le, i_lt, i_eq, Int32.reduceToInt] at *
  first | (have e_0 := s32 (x := (S.1 69 (Int32.toNatClampNeg x1))) (y := 1) (by (try simp only [Int32.reduceToInt]); omega); (try simp only [Int32.reduceToInt] at e_0)) | skip
  first | (have e_1 := s32 (x := ((S.1 69 (Int32.toNatClampNeg x1)) - 1)) (y := x2) (by (try simp only [Int32.reduceToInt]); omega); (try simp only [Int32.reduceToInt] at e_1)) | skip
  first | (have e_2 := m32 (x := 4) (y := (((S.1 69 (Int32.toNatClampNeg x1)) - 1) - x2)) (by (try simp only [Int32.reduceToInt]); omega); (try simp only [Int32.reduceToInt] at e_2)) | skip
  first | (have e_3 := a32 (x := (4 * (((S.1 69 (Int32.toNatClampNeg x1)) - 1) - x2))) (y := x3) (by (try simp only [Int32.reduceToInt]); omega); (try simp only [Int32.reduceToInt] at e_3)) | skip
  try simp only [Int32.reduceToInt] at *
  omega
def x_log (S : XS) (x1 : Int32) (x2 : Int32) (x3 : Int32) : Int32 × XS := (if 0 ≤ (x_need S (x_in x3 0 3) x1).1 then (if (x_in x2 0 ((S.1 69 (Int32.toNatClampNeg x1)) - 1)) = 0 then ((-9), S) else ((S.2.2.1 2 (Int32.toNatClampNeg x1) (Int32.toNatClampNeg ((4 * (((S.1 69 (Int32.toNatClampNeg x1)) - 1) - x2)) + x3))), S)) else ((x_need S (x_in x3 0 3) x1).1, (x_need S (x_in x3 0 3) x1).2))
theorem x_log_N (S : XS) (x1 : Int32) (x2 : Int32) (x3 : Int32) : (x_log S x1 x2 x3).2.2.2.2 = S.2.2.2 := by
  unfold x_log
  refine ifI (P := fun (z : Int32 × XS) => z.2.2.2.2 = S.2.2.2) (fun c1 => ?_) (fun c1 => ?_)
  · refine ifI (P := fun (z : Int32 × XS) => z.2.2.2.2 = S.2.2.2) (fun c2 => ?_) (fun c2 => ?_)
    · exact rfl
    · exact rfl
  · have hN8 : (x_need S (x_in x3 0 3) x1).2.2.2.2 = S.2.2.2 := x_need_N S (x_in x3 0 3) x1
    exact hN8
theorem x_log_inv (S : XS) (x1 : Int32) (x2 : Int32) (x3 : Int32) (hI : XInv S) : XInv (x_log S x1 x2 x3).2 := by
  unfold x_log
  refine ifI (P := fun (z : Int32 × XS) => XInv z.2) (fun c1 => ?_) (fun c1 => ?_)
  · refine ifI (P := fun (z : Int32 × XS) => XInv z.2) (fun c2 => ?_) (fun c2 => ?_)
    · exact hI
    · exact hI
  · have hI8 : XInv (x_need S (x_in x3 0 3) x1).2 := x_need_inv S (x_in x3 0 3) x1 (hI)
    exact hI8
set_option maxHeartbeats 4000000 in
theorem xt_log (l : Launch) (D : va_G) (d : Nat → ClassId) (A : Nat → Prop) (ad : XK → Nat) (S : XS) (x1 : Int32) (x2 : Int32) (x3 : Int32) (hI : XInv S) : XI l yX0_log cX0_log 6 .int (rm_ 3) D d A ad S [.ref (ad (0, 0)), .int x1, .int x2, .int x3] (x_log S x1 x2 x3) := by
  refine x_startI RX0 rfl (by decide) (Nat.le_of_ble_eq_true rfl) ?_
  intro p e s m av below meth c ls Q X hrt hlk hl hR hQ
  have hx := X.1.1.1
  have hb := X.1.1.2.1
  have hown := X.1.1.2.2.2.1
  have hts := X.1.1.2.2.2.2
  have hS : va_S A s.heap s.heap [] := va_S.rf
  have hl : lv_has ls 6 [(0, .ref (ad (0, 0))), (1, .int x1), (2, .int x2), (3, .int x3)] := hl
  refine lv_aload_n hx hb dX0_log_0 rfl (lv_at hl 0 rfl) ?_
  refine lv_iload_n hx hb dX0_log_1 rfl (lv_at hl 3 rfl) ?_
  refine lv_iconst (v := 0) hx hb dX0_log_2 (by decide) ?_
  refine lv_iconst (v := 3) hx hb dX0_log_3 (by decide) ?_
  refine s_ci X.1.1 (st_x_in l x3 0 3) 3 (lw_S q280 q281 q58 q282) ⟨rfl, rfl⟩ (by decide +kernel) ⟨by decide, by decide⟩ ⟨by decide, by decide⟩ rfl hl.1 rfl (Nat.le_of_ble_eq_true rfl) dX0_log_4 ?_
  refine lv_iload_n hx hb dX0_log_7 rfl (lv_at hl 1 rfl) ?_
  refine x_bi hS (xr_V X hR x_lv0 (ci := 0) (fs := x_fs ad S) rfl rfl (xt_need l D d A ad S (x_in x3 0 3) x1 (hI)) 2 (lw_V q747 q749 qs5 q58 q750) ⟨rfl, rfl⟩ (by decide +kernel) ⟨by decide, by decide⟩ ⟨by decide, by decide⟩ rfl hl.1 rfl (Nat.le_of_ble_eq_true rfl) dX0_log_8) (fun H locs hR hS => ?_)
  have hN8 : (x_need S (x_in x3 0 3) x1).2.2.2.2 = S.2.2.2 := x_need_N S (x_in x3 0 3) x1
  have hI8 : XInv (x_need S (x_in x3 0 3) x1).2 := x_need_inv S (x_in x3 0 3) x1 (hI)
  refine lv_istore (lv' := [(4, .int (x_need S (x_in x3 0 3) x1).1), (0, .ref (ad (0, 0))), (1, .int x1), (2, .int x2), (3, .int x3)]) hx hb dX0_log_11 hl (by decide) rfl (fun ls hl => ?_)
  refine lv_iload hx hb dX0_log_13 (lv_at hl 0 rfl) ?_
  refine lv_if_ge (tgt := 21) hx hb dX0_log_15 (by decide) (fun c1 => ?_) (fun c1 => ?_)
  · have okc1 := x_need_ok S (x_in x3 0 3) x1 hI c1
    have hR : XR D d A ad S H := okc1.1 ▸ hR
    have okc1_0 : 0 ≤ x1 ∧ x1 < 4 := okc1.2.1
    have okc1_1 : ¬ (x_in x3 0 3) = 0 := okc1.2.2.1
    have okc1_2 : ¬ S.2.2.2 5 (Int32.toNatClampNeg x1) = 0 := okc1.2.2.2
    have hL : 0 ≤ S.1 69 (Int32.toNatClampNeg x1) ∧ S.1 69 (Int32.toNatClampNeg x1) ≤ 60 := (xi_t hI (tn4 okc1_0) okc1_2).2.1
    refine lv_aload_n hx hb dX0_log_21 rfl (lv_at hl 1 rfl) ?_
    refine xg_a X.1 hR 7 (by decide) (by decide) q104 dX0_log_22 ?_
    refine lv_iload_n hx hb dX0_log_25 rfl (lv_at hl 2 rfl) ?_
    refine x_ldw X hR (ixl 4 4 (by decide) rfl (okc1_0)) (okc1_2) dX0_log_26 ?_
    refine lv_astore (lv' := [(5, .ref (ad (70, (Int32.toNatClampNeg x1)))), (4, .int (x_need S (x_in x3 0 3) x1).1), (0, .ref (ad (0, 0))), (1, .int x1), (2, .int x2), (3, .int x3)]) hx hb dX0_log_27 hl (by decide) rfl (fun ls hl => ?_)
    refine lv_iload_n hx hb dX0_log_29 rfl (lv_at hl 4 rfl) ?_
    refine lv_iconst (v := 0) hx hb dX0_log_30 (by decide) ?_
    refine lv_aload hx hb dX0_log_31 (lv_at hl 0 rfl) ?_
    refine xgw X hR (x_lvw (tn4 (okc1_0)) (okc1_2)) 9 (Or.inr (by decide)) (Or.inr q714) rfl dX0_log_33 ?_
    refine lv_iconst (v := 1) hx hb dX0_log_36 (by decide) ?_
    refine lv_isub hx hb dX0_log_37 ?_
    refine s_ci X.1.1 (st_x_in l x2 0 ((S.1 69 (Int32.toNatClampNeg x1)) - 1)) 3 (lw_S q280 q281 q58 q282) ⟨rfl, rfl⟩ (by decide +kernel) ⟨by decide, by decide⟩ ⟨by decide, by decide⟩ rfl hl.1 rfl (Nat.le_of_ble_eq_true rfl) dX0_log_38 ?_
    refine lv_if_eq (tgt := 66) hx hb dX0_log_41 (by decide) (fun c2 => ?_) (fun c2 => ?_)
    · refine lv_bipush (v := (-9)) hx hb dX0_log_66 (by decide) ?_
      exact x_ri hx hb hrt (rfl) hlk hR hS hQ (Eq.trans (if_pos c1) (if_pos c2)) dX0_log_68
    · refine lv_aload hx hb dX0_log_44 (lv_at hl 0 rfl) ?_
      refine xgwl X hR (x_lvw (tn4 (okc1_0)) (okc1_2)) (Or.inr q716) dX0_log_46 ?_
      refine lv_iconst (v := 4) hx hb dX0_log_49 (by decide) ?_
      refine lv_aload hx hb dX0_log_50 (lv_at hl 0 rfl) ?_
      refine xgw X hR (x_lvw (tn4 (okc1_0)) (okc1_2)) 9 (Or.inr (by decide)) (Or.inr q714) rfl dX0_log_52 ?_
      refine lv_iconst (v := 1) hx hb dX0_log_55 (by decide) ?_
      refine lv_isub hx hb dX0_log_56 ?_
      refine lv_iload_n hx hb dX0_log_57 rfl (lv_at hl 4 rfl) ?_
      refine lv_isub hx hb dX0_log_58 ?_
      refine lv_imul hx hb dX0_log_59 ?_
      refine lv_iload_n hx hb dX0_log_60 rfl (lv_at hl 5 rfl) ?_
      refine lv_iadd hx hb dX0_log_61 ?_
      refine x_ldg X hR (x_lvl (tn4 (okc1_0)) (okc1_2)) (ixl 240 240 (by decide) rfl (x_log_o3 S x1 x2 x3 hI hN8 hI8 c1 okc1_0 okc1_1 okc1_2 hL c2)) (v := S.2.2.1 2 (Int32.toNatClampNeg x1) (Int32.toNatClampNeg ((4 * (((S.1 69 (Int32.toNatClampNeg x1)) - 1) - x2)) + x3))) rfl dX0_log_62 ?_
      refine lv_goto (tgt := 68) hx hb dX0_log_63 (by decide) ?_
      exact x_ri hx hb hrt (rfl) hlk hR hS hQ (Eq.trans (if_pos c1) (if_neg c2)) dX0_log_68
  · refine lv_iload hx hb dX0_log_18 (lv_at hl 0 rfl) ?_
    exact x_ri hx hb hrt (rfl) hlk hR hS hQ (if_neg c1) dX0_log_20
def x_heard_j15_s0 (x2 : Int32) (x3 : Int32) : Int32 := (if x2 < 0 then 0 else (if x3 < x2 then 0 else 1))
theorem x_heard_o7 (S : XS) (x1 : Int32) (x2 : Int32) (x3 : Int32) (y7_43 : Int32) (hI : XInv S) (hN16 : (x_need S (x_heard_j15_s0 x2 x3) x1).2.2.2.2 = S.2.2.2) (hI16 : XInv (x_need S (x_heard_j15_s0 x2 x3) x1).2) (c5 : 0 ≤ (x_need S (x_heard_j15_s0 x2 x3) x1).1) (okc5_0 : 0 ≤ x1 ∧ x1 < 4) (okc5_1 : ¬ (x_heard_j15_s0 x2 x3) = 0) (okc5_2 : ¬ S.2.2.2 5 (Int32.toNatClampNeg x1) = 0) (hL : 0 ≤ S.1 69 (Int32.toNatClampNeg x1) ∧ S.1 69 (Int32.toNatClampNeg x1) ≤ 60) (hi7 : 0 ≤ y7_43) (c6 : ¬ (S.1 69 (Int32.toNatClampNeg x1)) ≤ y7_43) : 0 ≤ (4 * y7_43) ∧ (4 * y7_43) < 240 := by 
  have bl_x1 := Int32.toInt_lt x1
  have bl_x2 := Int32.toInt_lt x2
  have bl_x3 := Int32.toInt_lt x3
  have bl_y7_43 := Int32.toInt_lt y7_43
  try simp only [x_in_eq, x_isTower_eq] at *
  try simp only [i_le, i_lt, i_eq, Int32.reduceToInt] at *
  first | (have e_0 := m32 (x := 4) (y := y7_43) (by (try simp only [Int32.reduceToInt]); omega); (try simp only [Int32.reduceToInt] at e_0)) | skip
  try simp only [Int32.reduceToInt] at *
  omega
theorem x_heard_o9 (S : XS) (x1 : Int32) (x2 : Int32) (x3 : Int32) (y7_43 : Int32) (hI : XInv S) (hN16 : (x_need S (x_heard_j15_s0 x2 x3) x1).2.2.2.2 = S.2.2.2) (hI16 : XInv (x_need S (x_heard_j15_s0 x2 x3) x1).2) (c5 : 0 ≤ (x_need S (x_heard_j15_s0 x2 x3) x1).1) (okc5_0 : 0 ≤ x1 ∧ x1 < 4) (okc5_1 : ¬ (x_heard_j15_s0 x2 x3) = 0) (okc5_2 : ¬ S.2.2.2 5 (Int32.toNatClampNeg x1) = 0) (hL : 0 ≤ S.1 69 (Int32.toNatClampNeg x1) ∧ S.1 69 (Int32.toNatClampNeg x1) ≤ 60) (hi7 : 0 ≤ y7_43) (c6 : ¬ (S.1 69 (Int32.toNatClampNeg x1)) ≤ y7_43) (c8 : ¬ (x_in (S.2.2.1 2 (Int32.toNatClampNeg x1) (Int32.toNatClampNeg (4 * y7_43))) x2 x3) = 0) : 0 ≤ ((4 * y7_43) + 2) ∧ ((4 * y7_43) + 2) < 240 := by 
  have bl_x1 := Int32.toInt_lt x1
  have bl_x2 := Int32.toInt_lt x2
  have bl_x3 := Int32.toInt_lt x3
  have bl_y7_43 := Int32.toInt_lt y7_43
  try simp only [x_in_eq, x_isTower_eq] at *
  try simp only [i_le, i_lt, i_eq, Int32.reduceToInt] at *
  first | (have e_0 := m32 (x := 4) (y := y7_43) (by (try simp only [Int32.reduceToInt]); omega); (try simp only [Int32.reduceToInt] at e_0)) | skip
  first | (have e_1 := a32 (x := (4 * y7_43)) (y := 2) (by (try simp only [Int32.reduceToInt]); omega); (try simp only [Int32.reduceToInt] at e_1)) | skip
  try simp only [Int32.reduceToInt] at *
  omega
def x_heard_j89_s0 (S : XS) (x1 : Int32) (x2 : Int32) (x3 : Int32) (y7_43 : Int32) : Int32 := (if (x_in (S.2.2.1 2 (Int32.toNatClampNeg x1) (Int32.toNatClampNeg (4 * y7_43))) x2 x3) = 0 then 0 else (S.2.2.1 2 (Int32.toNatClampNeg x1) (Int32.toNatClampNeg ((4 * y7_43) + 2))))
def x_heard_v90 (S : XS) (x1 : Int32) (x2 : Int32) (x3 : Int32) (y6_43 : Int32) (y7_43 : Int32) : Int32 := (y6_43 + (x_heard_j89_s0 S x1 x2 x3 y7_43))
def x_heard_L43 (S : XS) (x1 : Int32) (x2 : Int32) (x3 : Int32) : Nat → Int32 → Int32 → Int32 × Int32
  | 0, y6_43, y7_43 => (y6_43, y7_43)
  | f43 + 1, y6_43, y7_43 => (if (S.1 69 (Int32.toNatClampNeg x1)) ≤ y7_43 then (y6_43, y7_43) else (x_heard_L43 S x1 x2 x3 f43 (x_heard_v90 S x1 x2 x3 y6_43 y7_43) (y7_43 + 1)))
theorem x_heard_L43_s (S : XS) (x1 : Int32) (x2 : Int32) (x3 : Int32) (f43 : Nat) (y6_43 : Int32) (y7_43 : Int32) : x_heard_L43 S x1 x2 x3 (f43 + 1) y6_43 y7_43 = (if (S.1 69 (Int32.toNatClampNeg x1)) ≤ y7_43 then (y6_43, y7_43) else (x_heard_L43 S x1 x2 x3 f43 (x_heard_v90 S x1 x2 x3 y6_43 y7_43) (y7_43 + 1))) := rfl
def x_heard_R43 (S : XS) (x1 : Int32) (x2 : Int32) (x3 : Int32) : Int32 × Int32 := x_heard_L43 S x1 x2 x3 (fz (((S.1 69 (Int32.toNatClampNeg x1)) - 0 : Int32).toNatClampNeg + 1)) 0 0
theorem x_heard_o12 (S : XS) (x1 : Int32) (x2 : Int32) (x3 : Int32) (y7_43 : Int32) (hI : XInv S) (hN16 : (x_need S (x_heard_j15_s0 x2 x3) x1).2.2.2.2 = S.2.2.2) (hI16 : XInv (x_need S (x_heard_j15_s0 x2 x3) x1).2) (c5 : 0 ≤ (x_need S (x_heard_j15_s0 x2 x3) x1).1) (okc5_0 : 0 ≤ x1 ∧ x1 < 4) (okc5_1 : ¬ (x_heard_j15_s0 x2 x3) = 0) (okc5_2 : ¬ S.2.2.2 5 (Int32.toNatClampNeg x1) = 0) (hL : 0 ≤ S.1 69 (Int32.toNatClampNeg x1) ∧ S.1 69 (Int32.toNatClampNeg x1) ≤ 60) (hi7 : 0 ≤ y7_43) (c6 : ¬ (S.1 69 (Int32.toNatClampNeg x1)) ≤ y7_43) : 0 ≤ (y7_43 + 1) := by 
  have bl_x1 := Int32.toInt_lt x1
  have bl_x2 := Int32.toInt_lt x2
  have bl_x3 := Int32.toInt_lt x3
  have bl_y7_43 := Int32.toInt_lt y7_43
  try simp only [x_in_eq, x_isTower_eq] at *
  try simp only [i_le, i_lt, i_eq, Int32.reduceToInt] at *
  first | (have e_0 := a32 (x := y7_43) (y := 1) (by (try simp only [Int32.reduceToInt]); omega); (try simp only [Int32.reduceToInt] at e_0)) | skip
  try simp only [Int32.reduceToInt] at *
  omega
theorem x_heard_o13 (S : XS) (x1 : Int32) (x2 : Int32) (x3 : Int32) (y7_43 : Int32) (hI : XInv S) (hN16 : (x_need S (x_heard_j15_s0 x2 x3) x1).2.2.2.2 = S.2.2.2) (hI16 : XInv (x_need S (x_heard_j15_s0 x2 x3) x1).2) (c5 : 0 ≤ (x_need S (x_heard_j15_s0 x2 x3) x1).1) (okc5_0 : 0 ≤ x1 ∧ x1 < 4) (okc5_1 : ¬ (x_heard_j15_s0 x2 x3) = 0) (okc5_2 : ¬ S.2.2.2 5 (Int32.toNatClampNeg x1) = 0) (hL : 0 ≤ S.1 69 (Int32.toNatClampNeg x1) ∧ S.1 69 (Int32.toNatClampNeg x1) ≤ 60) (hi7 : 0 ≤ y7_43) (c6 : ¬ (S.1 69 (Int32.toNatClampNeg x1)) ≤ y7_43) : y7_43 < (S.1 69 (Int32.toNatClampNeg x1)) := by 
  have bl_x1 := Int32.toInt_lt x1
  have bl_x2 := Int32.toInt_lt x2
  have bl_x3 := Int32.toInt_lt x3
  have bl_y7_43 := Int32.toInt_lt y7_43
  try simp only [x_in_eq, x_isTower_eq] at *
  try simp only [i_le, i_lt, i_eq, Int32.reduceToInt] at *
  try simp only [Int32.reduceToInt] at *
  omega
def x_heard (S : XS) (x1 : Int32) (x2 : Int32) (x3 : Int32) : Int32 × XS := (if 0 ≤ (x_need S (x_heard_j15_s0 x2 x3) x1).1 then ((x_heard_R43 S x1 x2 x3).1, S) else ((x_need S (x_heard_j15_s0 x2 x3) x1).1, (x_need S (x_heard_j15_s0 x2 x3) x1).2))
theorem x_heard_N (S : XS) (x1 : Int32) (x2 : Int32) (x3 : Int32) : (x_heard S x1 x2 x3).2.2.2.2 = S.2.2.2 := by
  unfold x_heard
  refine ifI (P := fun (z : Int32 × XS) => z.2.2.2.2 = S.2.2.2) (fun c5 => ?_) (fun c5 => ?_)
  · exact rfl
  · have hN16 : (x_need S (x_heard_j15_s0 x2 x3) x1).2.2.2.2 = S.2.2.2 := x_need_N S (x_heard_j15_s0 x2 x3) x1
    exact hN16
theorem x_heard_inv (S : XS) (x1 : Int32) (x2 : Int32) (x3 : Int32) (hI : XInv S) : XInv (x_heard S x1 x2 x3).2 := by
  unfold x_heard
  refine ifI (P := fun (z : Int32 × XS) => XInv z.2) (fun c5 => ?_) (fun c5 => ?_)
  · exact hI
  · have hI16 : XInv (x_need S (x_heard_j15_s0 x2 x3) x1).2 := x_need_inv S (x_heard_j15_s0 x2 x3) x1 (hI)
    exact hI16
set_option maxHeartbeats 4000000 in
theorem xt_heard (l : Launch) (D : va_G) (d : Nat → ClassId) (A : Nat → Prop) (ad : XK → Nat) (S : XS) (x1 : Int32) (x2 : Int32) (x3 : Int32) (hI : XInv S) : XI l yX0_heard cX0_heard 8 .int (rm_ 3) D d A ad S [.ref (ad (0, 0)), .int x1, .int x2, .int x3] (x_heard S x1 x2 x3) := by
  refine x_startI RX0 rfl (by decide) (Nat.le_of_ble_eq_true rfl) ?_
  intro p e s m av below meth c ls Q X hrt hlk hl hR hQ
  have hx := X.1.1.1
  have hb := X.1.1.2.1
  have hown := X.1.1.2.2.2.1
  have hts := X.1.1.2.2.2.2
  have hS : va_S A s.heap s.heap [] := va_S.rf
  have hl : lv_has ls 8 [(0, .ref (ad (0, 0))), (1, .int x1), (2, .int x2), (3, .int x3)] := hl
  refine lv_aload_n hx hb dX0_heard_0 rfl (lv_at hl 0 rfl) ?_
  refine lv_iload_n hx hb dX0_heard_1 rfl (lv_at hl 2 rfl) ?_
  have J4 : ∀ (w3 : Int32) (H : Heap) (locs : List Loc) (ls : Array Slot), w3 = (x_heard_j15_s0 x2 x3) → XR D d A ad S H → va_S A s.heap H locs → lv_has ls 8 [(0, .ref (ad (0, 0))), (1, .int x1), (2, .int x2), (3, .int x3)] → W p l e (rm_ 3) s m av below meth c H locs 0 0 Q (F0 m 15 ls [.int w3, .ref (ad (0, 0))]) := by
    intro w3 H locs ls ew3 hR hS hl
    subst ew3
    refine lv_iload_n hx hb dX0_heard_15 rfl (lv_at hl 1 rfl) ?_
    refine x_bi hS (xr_V X hR x_lv0 (ci := 0) (fs := x_fs ad S) rfl rfl (xt_need l D d A ad S (x_heard_j15_s0 x2 x3) x1 (hI)) 2 (lw_V q747 q749 qs5 q58 q750) ⟨rfl, rfl⟩ (by decide +kernel) ⟨by decide, by decide⟩ ⟨by decide, by decide⟩ rfl hl.1 rfl (Nat.le_of_ble_eq_true rfl) dX0_heard_16) (fun H locs hR hS => ?_)
    have hN16 : (x_need S (x_heard_j15_s0 x2 x3) x1).2.2.2.2 = S.2.2.2 := x_need_N S (x_heard_j15_s0 x2 x3) x1
    have hI16 : XInv (x_need S (x_heard_j15_s0 x2 x3) x1).2 := x_need_inv S (x_heard_j15_s0 x2 x3) x1 (hI)
    refine lv_istore (lv' := [(4, .int (x_need S (x_heard_j15_s0 x2 x3) x1).1), (0, .ref (ad (0, 0))), (1, .int x1), (2, .int x2), (3, .int x3)]) hx hb dX0_heard_19 hl (by decide) rfl (fun ls hl => ?_)
    refine lv_iload hx hb dX0_heard_21 (lv_at hl 0 rfl) ?_
    refine lv_if_ge (tgt := 29) hx hb dX0_heard_23 (by decide) (fun c5 => ?_) (fun c5 => ?_)
    · have okc5 := x_need_ok S (x_heard_j15_s0 x2 x3) x1 hI c5
      have hR : XR D d A ad S H := okc5.1 ▸ hR
      have okc5_0 : 0 ≤ x1 ∧ x1 < 4 := okc5.2.1
      have okc5_1 : ¬ (x_heard_j15_s0 x2 x3) = 0 := okc5.2.2.1
      have okc5_2 : ¬ S.2.2.2 5 (Int32.toNatClampNeg x1) = 0 := okc5.2.2.2
      have hL : 0 ≤ S.1 69 (Int32.toNatClampNeg x1) ∧ S.1 69 (Int32.toNatClampNeg x1) ≤ 60 := (xi_t hI (tn4 (by assumption)) (by assumption)).2.1
      refine lv_aload_n hx hb dX0_heard_29 rfl (lv_at hl 1 rfl) ?_
      refine xg_a X.1 hR 7 (by decide) (by decide) q104 dX0_heard_30 ?_
      refine lv_iload_n hx hb dX0_heard_33 rfl (lv_at hl 2 rfl) ?_
      refine x_ldw X hR (ixl 4 4 (by decide) rfl (okc5_0)) (okc5_2) dX0_heard_34 ?_
      refine lv_astore (lv' := [(5, .ref (ad (70, (Int32.toNatClampNeg x1)))), (4, .int (x_need S (x_heard_j15_s0 x2 x3) x1).1), (0, .ref (ad (0, 0))), (1, .int x1), (2, .int x2), (3, .int x3)]) hx hb dX0_heard_35 hl (by decide) rfl (fun ls hl => ?_)
      refine lv_iconst (v := 0) hx hb dX0_heard_37 (by decide) ?_
      refine lv_istore (lv' := [(6, .int 0), (5, .ref (ad (70, (Int32.toNatClampNeg x1)))), (4, .int (x_need S (x_heard_j15_s0 x2 x3) x1).1), (0, .ref (ad (0, 0))), (1, .int x1), (2, .int x2), (3, .int x3)]) hx hb dX0_heard_38 hl (by decide) rfl (fun ls hl => ?_)
      refine lv_iconst (v := 0) hx hb dX0_heard_40 (by decide) ?_
      refine lv_istore (lv' := [(7, .int 0), (6, .int 0), (5, .ref (ad (70, (Int32.toNatClampNeg x1)))), (4, .int (x_need S (x_heard_j15_s0 x2 x3) x1).1), (0, .ref (ad (0, 0))), (1, .int x1), (2, .int x2), (3, .int x3)]) hx hb dX0_heard_41 hl (by decide) rfl (fun ls hl => ?_)
      have K43 : ∀ (H : Heap) (locs : List Loc) (ls : Array Slot), XR D d A ad S H → va_S A s.heap H locs → lv_has ls 8 [(7, .int (x_heard_R43 S x1 x2 x3).2), (6, .int (x_heard_R43 S x1 x2 x3).1), (5, .ref (ad (70, (Int32.toNatClampNeg x1)))), (4, .int (x_need S (x_heard_j15_s0 x2 x3) x1).1), (0, .ref (ad (0, 0))), (1, .int x1), (2, .int x2), (3, .int x3)] → W p l e (rm_ 3) s m av below meth c H locs 0 0 Q (F0 m 98 ls []) := by
        intro H locs ls hR hS hl
        refine lv_iload hx hb dX0_heard_98 (lv_at hl 1 rfl) ?_
        exact x_ri hx hb hrt (rfl) hlk hR hS hQ (if_pos c5) dX0_heard_100
      have L43 : ∀ (f43 : Nat) (y6_43 : Int32) (y7_43 : Int32) (H : Heap) (locs : List Loc) (ls : Array Slot), ((S.1 69 (Int32.toNatClampNeg x1)) - y7_43 : Int32).toNatClampNeg < f43 → 0 ≤ y7_43 → x_heard_L43 S x1 x2 x3 (f43) y6_43 y7_43 = (x_heard_R43 S x1 x2 x3) → XR D d A ad S H → va_S A s.heap H locs → lv_has ls 8 [(7, .int y7_43), (6, .int y6_43), (5, .ref (ad (70, (Int32.toNatClampNeg x1)))), (4, .int (x_need S (x_heard_j15_s0 x2 x3) x1).1), (0, .ref (ad (0, 0))), (1, .int x1), (2, .int x2), (3, .int x3)] → W p l e (rm_ 3) s m av below meth c H locs 0 0 Q (F0 m 43 ls []) := by
        intro f43
        induction f43 with
        | zero => intro y6_43 y7_43 H locs ls hf; exact absurd hf (Nat.not_lt_zero _)
        | succ f43 ih =>
          intro y6_43 y7_43 H locs ls hf hi7 hE hR hS hl
          refine lv_iload hx hb dX0_heard_43 (lv_at hl 0 rfl) ?_
          refine lv_aload hx hb dX0_heard_45 (lv_at hl 2 rfl) ?_
          refine xgw X hR (x_lvw (tn4 (okc5_0)) (okc5_2)) 9 (Or.inr (by decide)) (Or.inr q714) rfl dX0_heard_47 ?_
          refine lv_icmp_ge (tgt := 98) hx hb dX0_heard_50 (by decide) (fun c6 => ?_) (fun c6 => ?_)
          · have e0 : (x_heard_R43 S x1 x2 x3) = (y6_43, y7_43) := Eq.trans (Eq.symm hE) (Eq.trans (x_heard_L43_s _ _ _ _ _ _ _) (if_pos c6))
            exact K43 _ _ _ hR hS (by rw [e0]; exact lv_sub hl [0, 1, 2, 3, 4, 5, 6, 7] rfl)
          · refine lv_iload hx hb dX0_heard_53 (lv_at hl 1 rfl) ?_
            refine lv_aload hx hb dX0_heard_55 (lv_at hl 2 rfl) ?_
            refine xgwl X hR (x_lvw (tn4 (okc5_0)) (okc5_2)) (Or.inr q716) dX0_heard_57 ?_
            refine lv_iconst (v := 4) hx hb dX0_heard_60 (by decide) ?_
            refine lv_iload hx hb dX0_heard_61 (lv_at hl 0 rfl) ?_
            refine lv_imul hx hb dX0_heard_63 ?_
            refine x_ldg X hR (x_lvl (tn4 (okc5_0)) (okc5_2)) (ixl 240 240 (by decide) rfl (x_heard_o7 S x1 x2 x3 y7_43 hI hN16 hI16 c5 okc5_0 okc5_1 okc5_2 hL hi7 c6)) (v := S.2.2.1 2 (Int32.toNatClampNeg x1) (Int32.toNatClampNeg (4 * y7_43))) rfl dX0_heard_64 ?_
            refine lv_iload_n hx hb dX0_heard_65 rfl (lv_at hl 6 rfl) ?_
            refine lv_iload_n hx hb dX0_heard_66 rfl (lv_at hl 7 rfl) ?_
            refine s_ci X.1.1 (st_x_in l (S.2.2.1 2 (Int32.toNatClampNeg x1) (Int32.toNatClampNeg (4 * y7_43))) x2 x3) 3 (lw_S q280 q281 q58 q282) ⟨rfl, rfl⟩ (by decide +kernel) ⟨by decide, by decide⟩ ⟨by decide, by decide⟩ rfl hl.1 rfl (Nat.le_of_ble_eq_true rfl) dX0_heard_67 ?_
            have J11 : ∀ (w10 : Int32) (H : Heap) (locs : List Loc) (ls : Array Slot), w10 = (x_heard_j89_s0 S x1 x2 x3 y7_43) → XR D d A ad S H → va_S A s.heap H locs → lv_has ls 8 [(7, .int y7_43), (6, .int y6_43), (5, .ref (ad (70, (Int32.toNatClampNeg x1)))), (4, .int (x_need S (x_heard_j15_s0 x2 x3) x1).1), (0, .ref (ad (0, 0))), (1, .int x1), (2, .int x2), (3, .int x3)] → W p l e (rm_ 3) s m av below meth c H locs 0 0 Q (F0 m 89 ls [.int w10, .int y6_43]) := by
              intro w10 H locs ls ew10 hR hS hl
              subst ew10
              refine lv_iadd hx hb dX0_heard_89 ?_
              refine lv_istore (lv' := [(6, .int (x_heard_v90 S x1 x2 x3 y6_43 y7_43)), (7, .int y7_43), (5, .ref (ad (70, (Int32.toNatClampNeg x1)))), (4, .int (x_need S (x_heard_j15_s0 x2 x3) x1).1), (0, .ref (ad (0, 0))), (1, .int x1), (2, .int x2), (3, .int x3)]) hx hb dX0_heard_90 hl (by decide) rfl (fun ls hl => ?_)
              refine lv_iinc (v := (y7_43 + 1)) (lv' := [(7, .int (y7_43 + 1)), (6, .int (x_heard_v90 S x1 x2 x3 y6_43 y7_43)), (5, .ref (ad (70, (Int32.toNatClampNeg x1)))), (4, .int (x_need S (x_heard_j15_s0 x2 x3) x1).1), (0, .ref (ad (0, 0))), (1, .int x1), (2, .int x2), (3, .int x3)]) hx hb dX0_heard_92 hl (k := 1) rfl rfl (by decide) rfl (fun ls hl => ?_)
              refine lv_goto (tgt := 43) hx hb dX0_heard_95 (by decide) ?_
              exact ih (x_heard_v90 S x1 x2 x3 y6_43 y7_43) (y7_43 + 1) _ _  _ (Nat.lt_of_lt_of_le (up_ hi7 (x_heard_o13 S x1 x2 x3 y7_43 hI hN16 hI16 c5 okc5_0 okc5_1 okc5_2 hL hi7 c6)) (Nat.le_of_lt_succ hf)) (x_heard_o12 S x1 x2 x3 y7_43 hI hN16 hI16 c5 okc5_0 okc5_1 okc5_2 hL hi7 c6) (Eq.trans (Eq.symm (Eq.trans (x_heard_L43_s _ _ _ _ _ _ _) (if_neg c6))) hE) hR hS (lv_sub hl [0, 1, 2, 3, 4, 5, 6, 7] rfl)
            refine lv_if_eq (tgt := 88) hx hb dX0_heard_70 (by decide) (fun c8 => ?_) (fun c8 => ?_)
            · refine lv_iconst (v := 0) hx hb dX0_heard_88 (by decide) ?_
              exact J11 _ _ _  _ (Eq.symm (if_pos c8)) hR hS  (lv_sub hl [0, 1, 2, 3, 4, 5, 6, 7] rfl)
            · refine lv_aload hx hb dX0_heard_73 (lv_at hl 2 rfl) ?_
              refine xgwl X hR (x_lvw (tn4 (okc5_0)) (okc5_2)) (Or.inr q716) dX0_heard_75 ?_
              refine lv_iconst (v := 4) hx hb dX0_heard_78 (by decide) ?_
              refine lv_iload hx hb dX0_heard_79 (lv_at hl 0 rfl) ?_
              refine lv_imul hx hb dX0_heard_81 ?_
              refine lv_iconst (v := 2) hx hb dX0_heard_82 (by decide) ?_
              refine lv_iadd hx hb dX0_heard_83 ?_
              refine x_ldg X hR (x_lvl (tn4 (okc5_0)) (okc5_2)) (ixl 240 240 (by decide) rfl (x_heard_o9 S x1 x2 x3 y7_43 hI hN16 hI16 c5 okc5_0 okc5_1 okc5_2 hL hi7 c6 c8)) (v := S.2.2.1 2 (Int32.toNatClampNeg x1) (Int32.toNatClampNeg ((4 * y7_43) + 2))) rfl dX0_heard_84 ?_
              refine lv_goto (tgt := 89) hx hb dX0_heard_85 (by decide) ?_
              exact J11 _ _ _  _ (Eq.symm (if_neg c8)) hR hS  (lv_sub hl [0, 1, 2, 3, 4, 5, 6, 7] rfl)
      exact L43 _ 0 0 _ _  _ (fz_lt _) (by decide) rfl hR hS (lv_sub hl [0, 1, 2, 3, 4, 5, 6, 7] rfl)
    · refine lv_iload hx hb dX0_heard_26 (lv_at hl 0 rfl) ?_
      exact x_ri hx hb hrt (rfl) hlk hR hS hQ (if_neg c5) dX0_heard_28
  refine lv_if_lt (tgt := 14) hx hb dX0_heard_2 (by decide) (fun c1 => ?_) (fun c1 => ?_)
  · refine lv_iconst (v := 0) hx hb dX0_heard_14 (by decide) ?_
    exact J4 _ _ _  _ (Eq.symm (if_pos c1)) hR hS  (lv_sub hl [0, 1, 2, 3] rfl)
  · refine lv_iload_n hx hb dX0_heard_5 rfl (lv_at hl 2 rfl) ?_
    refine lv_iload_n hx hb dX0_heard_6 rfl (lv_at hl 3 rfl) ?_
    refine lv_icmp_gt (tgt := 14) hx hb dX0_heard_7 (by decide) (fun c2 => ?_) (fun c2 => ?_)
    · refine lv_iconst (v := 0) hx hb dX0_heard_14 (by decide) ?_
      exact J4 _ _ _  _ (Eq.symm (Eq.trans (if_neg c1) (if_pos c2))) hR hS  (lv_sub hl [0, 1, 2, 3] rfl)
    · refine lv_iconst (v := 1) hx hb dX0_heard_10 (by decide) ?_
      refine lv_goto (tgt := 15) hx hb dX0_heard_11 (by decide) ?_
      exact J4 _ _ _  _ (Eq.symm (Eq.trans (if_neg c1) (if_neg c2))) hR hS  (lv_sub hl [0, 1, 2, 3] rfl)
theorem x_pass_o6 (S : XS) (x1 : Int32) (y2_29 : Int32) (S_29 : XS) (y3_36 : Int32) (S_36 : XS) (hI : XInv S) (c1 : ¬ (x_in x1 0 3000) = 0) (c2 : ((S.1 6 0) + x1) ≤ 1000000) (hi2 : 0 ≤ y2_29) (hJ : XInv S_29) (hM : S_29.2.2.2 = S.2.2.2) (c3 : ¬ x1 ≤ y2_29) (hi3 : 0 ≤ y3_36) (hJi : XInv S_36) (hMi : S_36.2.2.2 = S.2.2.2) (c4 : ¬ 4 ≤ y3_36) : 0 ≤ y3_36 ∧ y3_36 < 4 := by 
  have bl_x1 := Int32.toInt_lt x1
  have bl_y2_29 := Int32.toInt_lt y2_29
  have bl_y3_36 := Int32.toInt_lt y3_36
  try simp only [x_in_eq] at *
  try simp only [i_le, i_lt, i_eq, Int32.reduceToInt] at *
  first | (have e_0 := a32 (x := (S.1 6 0)) (y := x1) (by (try simp only [Int32.reduceToInt]); omega); (try simp only [Int32.reduceToInt] at e_0)) | skip
  try simp only [Int32.reduceToInt] at *
  omega
theorem x_pass_o7 (S : XS) (x1 : Int32) (y2_29 : Int32) (S_29 : XS) (y3_36 : Int32) (S_36 : XS) (hI : XInv S) (c1 : ¬ (x_in x1 0 3000) = 0) (c2 : ((S.1 6 0) + x1) ≤ 1000000) (hi2 : 0 ≤ y2_29) (hJ : XInv S_29) (hM : S_29.2.2.2 = S.2.2.2) (c3 : ¬ x1 ≤ y2_29) (hi3 : 0 ≤ y3_36) (hJi : XInv S_36) (hMi : S_36.2.2.2 = S.2.2.2) (c4 : ¬ 4 ≤ y3_36) (c5 : ¬ S_36.2.2.2 5 (Int32.toNatClampNeg y3_36) = 0) : 0 ≤ y3_36 ∧ y3_36 < 4 := by 
  have bl_x1 := Int32.toInt_lt x1
  have bl_y2_29 := Int32.toInt_lt y2_29
  have bl_y3_36 := Int32.toInt_lt y3_36
  try simp only [x_in_eq] at *
  try simp only [i_le, i_lt, i_eq, Int32.reduceToInt] at *
  first | (have e_0 := a32 (x := (S.1 6 0)) (y := x1) (by (try simp only [Int32.reduceToInt]); omega); (try simp only [Int32.reduceToInt] at e_0)) | skip
  try simp only [Int32.reduceToInt] at *
  omega
def x_pass_j59_S (y3_36 : Int32) (S_36 : XS) : XS := (if S_36.2.2.2 5 (Int32.toNatClampNeg y3_36) = 0 then S_36 else (x_w_minute S_36 (Int32.toNatClampNeg y3_36)))
theorem x_pass_j59_S_N (S : XS) (x1 : Int32) (y2_29 : Int32) (S_29 : XS) (y3_36 : Int32) (S_36 : XS) (hI : XInv S) (c1 : ¬ (x_in x1 0 3000) = 0) (c2 : ((S.1 6 0) + x1) ≤ 1000000) (hi2 : 0 ≤ y2_29) (hJ : XInv S_29) (hM : S_29.2.2.2 = S.2.2.2) (c3 : ¬ x1 ≤ y2_29) (hi3 : 0 ≤ y3_36) (hJi : XInv S_36) (hMi : S_36.2.2.2 = S.2.2.2) (c4 : ¬ 4 ≤ y3_36) : (x_pass_j59_S y3_36 S_36).2.2.2 = S_36.2.2.2 := by
  unfold x_pass_j59_S
  refine ifI (P := fun (z : XS) => z.2.2.2 = S_36.2.2.2) (fun c5 => ?_) (fun c5 => ?_)
  · exact rfl
  · have hN56 : (x_w_minute S_36 (Int32.toNatClampNeg y3_36)).2.2.2 = S_36.2.2.2 := x_w_minute_N S_36 (Int32.toNatClampNeg y3_36) (hJi) (tn4 (x_pass_o7 S x1 y2_29 S_29 y3_36 S_36 hI c1 c2 hi2 hJ hM c3 hi3 hJi hMi c4 c5)) (c5)
    exact hN56
theorem x_pass_j59_S_I (S : XS) (x1 : Int32) (y2_29 : Int32) (S_29 : XS) (y3_36 : Int32) (S_36 : XS) (hI : XInv S) (c1 : ¬ (x_in x1 0 3000) = 0) (c2 : ((S.1 6 0) + x1) ≤ 1000000) (hi2 : 0 ≤ y2_29) (hJ : XInv S_29) (hM : S_29.2.2.2 = S.2.2.2) (c3 : ¬ x1 ≤ y2_29) (hi3 : 0 ≤ y3_36) (hJi : XInv S_36) (hMi : S_36.2.2.2 = S.2.2.2) (c4 : ¬ 4 ≤ y3_36) : XInv (x_pass_j59_S y3_36 S_36) := by
  unfold x_pass_j59_S
  refine ifI (P := XInv) (fun c5 => ?_) (fun c5 => ?_)
  · exact hJi
  · have hI56 : XInv (x_w_minute S_36 (Int32.toNatClampNeg y3_36)) := x_w_minute_inv S_36 (Int32.toNatClampNeg y3_36) (hJi) (tn4 (x_pass_o7 S x1 y2_29 S_29 y3_36 S_36 hI c1 c2 hi2 hJ hM c3 hi3 hJi hMi c4 c5)) (c5)
    exact hI56
def x_pass_L36 : Nat → Int32 → XS → Int32 × XS
  | 0, y3_36, S_36 => (y3_36, S_36)
  | f36 + 1, y3_36, S_36 => (if 4 ≤ y3_36 then (y3_36, S_36) else (x_pass_L36 f36 (y3_36 + 1) (x_pass_j59_S y3_36 S_36)))
theorem x_pass_L36_s (f36 : Nat) (y3_36 : Int32) (S_36 : XS) : x_pass_L36 (f36 + 1) y3_36 S_36 = (if 4 ≤ y3_36 then (y3_36, S_36) else (x_pass_L36 f36 (y3_36 + 1) (x_pass_j59_S y3_36 S_36))) := rfl
def x_pass_R36 (S_29 : XS) : Int32 × XS := x_pass_L36 (fz ((4 - 0 : Int32).toNatClampNeg + 1)) 0 S_29
theorem x_pass_o10 (S : XS) (x1 : Int32) (y2_29 : Int32) (S_29 : XS) (y3_36 : Int32) (S_36 : XS) (hI : XInv S) (c1 : ¬ (x_in x1 0 3000) = 0) (c2 : ((S.1 6 0) + x1) ≤ 1000000) (hi2 : 0 ≤ y2_29) (hJ : XInv S_29) (hM : S_29.2.2.2 = S.2.2.2) (c3 : ¬ x1 ≤ y2_29) (hi3 : 0 ≤ y3_36) (hJi : XInv S_36) (hMi : S_36.2.2.2 = S.2.2.2) (c4 : ¬ 4 ≤ y3_36) (hN_j59_S : (x_pass_j59_S y3_36 S_36).2.2.2 = S_36.2.2.2) (hI_j59_S : XInv (x_pass_j59_S y3_36 S_36)) : 0 ≤ (y3_36 + 1) := by 
  have bl_x1 := Int32.toInt_lt x1
  have bl_y2_29 := Int32.toInt_lt y2_29
  have bl_y3_36 := Int32.toInt_lt y3_36
  try simp only [x_in_eq] at *
  try simp only [i_le, i_lt, i_eq, Int32.reduceToInt] at *
  first | (have e_0 := a32 (x := (S.1 6 0)) (y := x1) (by (try simp only [Int32.reduceToInt]); omega); (try simp only [Int32.reduceToInt] at e_0)) | skip
  first | (have e_1 := a32 (x := y3_36) (y := 1) (by (try simp only [Int32.reduceToInt]); omega); (try simp only [Int32.reduceToInt] at e_1)) | skip
  try simp only [Int32.reduceToInt] at *
  omega
theorem x_pass_L36_P (S : XS) (x1 : Int32) (y2_29 : Int32) (S_29 : XS) (hI : XInv S) (c1 : ¬ (x_in x1 0 3000) = 0) (c2 : ((S.1 6 0) + x1) ≤ 1000000) (hi2 : 0 ≤ y2_29) (hJ : XInv S_29) (hM : S_29.2.2.2 = S.2.2.2) (c3 : ¬ x1 ≤ y2_29) : ∀ (f36 : Nat) (y3_36 : Int32) (S_36 : XS), (0 ≤ y3_36) → (XInv S_36) → (S_36.2.2.2 = S.2.2.2) → (XInv (x_pass_L36 f36 y3_36 S_36).2) ∧ ((x_pass_L36 f36 y3_36 S_36).2.2.2.2 = S.2.2.2) := by
  intro f36
  induction f36 with
  | zero =>
    intro y3_36 S_36 hi3 hJi hMi
    exact ⟨hJi, hMi⟩
  | succ f36 ih =>
    intro y3_36 S_36 hi3 hJi hMi
    rw [x_pass_L36_s]
    refine ifI (P := fun (z : Int32 × XS) => (XInv z.2) ∧ (z.2.2.2.2 = S.2.2.2)) (fun c4 => ?_) (fun c4 => ?_)
    · exact ⟨hJi, hMi⟩
    · have hN_j59_S : (x_pass_j59_S y3_36 S_36).2.2.2 = S_36.2.2.2 := x_pass_j59_S_N S x1 y2_29 S_29 y3_36 S_36 hI c1 c2 hi2 hJ hM c3 hi3 hJi hMi c4
      have hI_j59_S : XInv (x_pass_j59_S y3_36 S_36) := x_pass_j59_S_I S x1 y2_29 S_29 y3_36 S_36 hI c1 c2 hi2 hJ hM c3 hi3 hJi hMi c4
      exact ih (y3_36 + 1) (x_pass_j59_S y3_36 S_36) (x_pass_o10 S x1 y2_29 S_29 y3_36 S_36 hI c1 c2 hi2 hJ hM c3 hi3 hJi hMi c4 hN_j59_S hI_j59_S) (hI_j59_S) ((hN_j59_S.trans hMi))
theorem x_pass_R36_P (S : XS) (x1 : Int32) (y2_29 : Int32) (S_29 : XS) (hI : XInv S) (c1 : ¬ (x_in x1 0 3000) = 0) (c2 : ((S.1 6 0) + x1) ≤ 1000000) (hi2 : 0 ≤ y2_29) (hJ : XInv S_29) (hM : S_29.2.2.2 = S.2.2.2) (c3 : ¬ x1 ≤ y2_29) : (XInv (x_pass_R36 S_29).2) ∧ ((x_pass_R36 S_29).2.2.2.2 = S.2.2.2) := by
  unfold x_pass_R36
  exact x_pass_L36_P S x1 y2_29 S_29 hI c1 c2 hi2 hJ hM c3 (fz ((4 - 0 : Int32).toNatClampNeg + 1)) 0 S_29 (by decide) (hJ) (hM)
def x_pass_L29 (x1 : Int32) : Nat → Int32 → XS → Int32 × XS
  | 0, y2_29, S_29 => (y2_29, S_29)
  | f29 + 1, y2_29, S_29 => (if x1 ≤ y2_29 then (y2_29, S_29) else (x_pass_L29 x1 f29 (y2_29 + 1) (xu (x_pass_R36 S_29).2 6 0 (((x_pass_R36 S_29).2.1 6 0) + 1))))
theorem x_pass_L29_s (x1 : Int32) (f29 : Nat) (y2_29 : Int32) (S_29 : XS) : x_pass_L29 x1 (f29 + 1) y2_29 S_29 = (if x1 ≤ y2_29 then (y2_29, S_29) else (x_pass_L29 x1 f29 (y2_29 + 1) (xu (x_pass_R36 S_29).2 6 0 (((x_pass_R36 S_29).2.1 6 0) + 1)))) := rfl
def x_pass_R29 (S : XS) (x1 : Int32) : Int32 × XS := x_pass_L29 x1 (fz ((x1 - 0 : Int32).toNatClampNeg + 1)) 0 S
theorem x_pass_o11 (S : XS) (x1 : Int32) (y2_29 : Int32) (S_29 : XS) (hI : XInv S) (c1 : ¬ (x_in x1 0 3000) = 0) (c2 : ((S.1 6 0) + x1) ≤ 1000000) (hi2 : 0 ≤ y2_29) (hJ : XInv S_29) (hM : S_29.2.2.2 = S.2.2.2) (c3 : ¬ x1 ≤ y2_29) (hJq : XInv (x_pass_R36 S_29).2) (hMq : (x_pass_R36 S_29).2.2.2.2 = S.2.2.2) : 0 ≤ (y2_29 + 1) := by 
  have bl_x1 := Int32.toInt_lt x1
  have bl_y2_29 := Int32.toInt_lt y2_29
  try simp only [x_in_eq] at *
  try simp only [i_le, i_lt, i_eq, Int32.reduceToInt] at *
  first | (have e_0 := a32 (x := (S.1 6 0)) (y := x1) (by (try simp only [Int32.reduceToInt]); omega); (try simp only [Int32.reduceToInt] at e_0)) | skip
  first | (have e_1 := a32 (x := y2_29) (y := 1) (by (try simp only [Int32.reduceToInt]); omega); (try simp only [Int32.reduceToInt] at e_1)) | skip
  try simp only [Int32.reduceToInt] at *
  omega
theorem x_pass_L29_P (S : XS) (x1 : Int32) (hI : XInv S) (c1 : ¬ (x_in x1 0 3000) = 0) (c2 : ((S.1 6 0) + x1) ≤ 1000000) : ∀ (f29 : Nat) (y2_29 : Int32) (S_29 : XS), (0 ≤ y2_29) → (XInv S_29) → (S_29.2.2.2 = S.2.2.2) → (XInv (x_pass_L29 x1 f29 y2_29 S_29).2) ∧ ((x_pass_L29 x1 f29 y2_29 S_29).2.2.2.2 = S.2.2.2) := by
  intro f29
  induction f29 with
  | zero =>
    intro y2_29 S_29 hi2 hJ hM
    exact ⟨hJ, hM⟩
  | succ f29 ih =>
    intro y2_29 S_29 hi2 hJ hM
    rw [x_pass_L29_s]
    refine ifI (P := fun (z : Int32 × XS) => (XInv z.2) ∧ (z.2.2.2.2 = S.2.2.2)) (fun c3 => ?_) (fun c3 => ?_)
    · exact ⟨hJ, hM⟩
    · have hJq : XInv (x_pass_R36 S_29).2 := (x_pass_R36_P S x1 y2_29 S_29 hI c1 c2 hi2 hJ hM c3).1
      have hMq : (x_pass_R36 S_29).2.2.2.2 = S.2.2.2 := (x_pass_R36_P S x1 y2_29 S_29 hI c1 c2 hi2 hJ hM c3).2
      exact ih (y2_29 + 1) (xu (x_pass_R36 S_29).2 6 0 (((x_pass_R36 S_29).2.1 6 0) + 1)) (x_pass_o11 S x1 y2_29 S_29 hI c1 c2 hi2 hJ hM c3 hJq hMq) ((XInv_xu hJq _ _ _ (by decide))) (hMq)
theorem x_pass_R29_P (S : XS) (x1 : Int32) (hI : XInv S) (c1 : ¬ (x_in x1 0 3000) = 0) (c2 : ((S.1 6 0) + x1) ≤ 1000000) : (XInv (x_pass_R29 S x1).2) ∧ ((x_pass_R29 S x1).2.2.2.2 = S.2.2.2) := by
  unfold x_pass_R29
  exact x_pass_L29_P S x1 hI c1 c2 (fz ((x1 - 0 : Int32).toNatClampNeg + 1)) 0 S (by decide) (hI) (rfl)
theorem x_pass_o12 (S : XS) (x1 : Int32) (y2_29 : Int32) (S_29 : XS) (hI : XInv S) (c1 : ¬ (x_in x1 0 3000) = 0) (c2 : ((S.1 6 0) + x1) ≤ 1000000) (hi2 : 0 ≤ y2_29) (hJ : XInv S_29) (hM : S_29.2.2.2 = S.2.2.2) (c3 : ¬ x1 ≤ y2_29) (hJq : XInv (x_pass_R36 S_29).2) (hMq : (x_pass_R36 S_29).2.2.2.2 = S.2.2.2) : y2_29 < x1 := by 
  have bl_x1 := Int32.toInt_lt x1
  have bl_y2_29 := Int32.toInt_lt y2_29
  try simp only [x_in_eq] at *
  try simp only [i_le, i_lt, i_eq, Int32.reduceToInt] at *
  first | (have e_0 := a32 (x := (S.1 6 0)) (y := x1) (by (try simp only [Int32.reduceToInt]); omega); (try simp only [Int32.reduceToInt] at e_0)) | skip
  try simp only [Int32.reduceToInt] at *
  omega
theorem x_pass_o13 (S : XS) (x1 : Int32) (y2_29 : Int32) (S_29 : XS) (y3_36 : Int32) (S_36 : XS) (hI : XInv S) (c1 : ¬ (x_in x1 0 3000) = 0) (c2 : ((S.1 6 0) + x1) ≤ 1000000) (hi2 : 0 ≤ y2_29) (hJ : XInv S_29) (hM : S_29.2.2.2 = S.2.2.2) (c3 : ¬ x1 ≤ y2_29) (hi3 : 0 ≤ y3_36) (hJi : XInv S_36) (hMi : S_36.2.2.2 = S.2.2.2) (c4 : ¬ 4 ≤ y3_36) (hN_j59_S : (x_pass_j59_S y3_36 S_36).2.2.2 = S_36.2.2.2) (hI_j59_S : XInv (x_pass_j59_S y3_36 S_36)) : y3_36 < 4 := by 
  have bl_x1 := Int32.toInt_lt x1
  have bl_y2_29 := Int32.toInt_lt y2_29
  have bl_y3_36 := Int32.toInt_lt y3_36
  try simp only [x_in_eq] at *
  try simp only [i_le, i_lt, i_eq, Int32.reduceToInt] at *
  first | (have e_0 := a32 (x := (S.1 6 0)) (y := x1) (by (try simp only [Int32.reduceToInt]); omega); (try simp only [Int32.reduceToInt] at e_0)) | skip
  try simp only [Int32.reduceToInt] at *
  omega
def x_pass (S : XS) (x1 : Int32) : Int32 × XS := (if (x_in x1 0 3000) = 0 then ((-1), S) else (if ((S.1 6 0) + x1) ≤ 1000000 then (((x_pass_R29 S x1).2.1 6 0), (x_pass_R29 S x1).2) else ((-2), S)))
theorem x_pass_N (S : XS) (x1 : Int32) (hI : XInv S) : (x_pass S x1).2.2.2.2 = S.2.2.2 := by
  unfold x_pass
  refine ifI (P := fun (z : Int32 × XS) => z.2.2.2.2 = S.2.2.2) (fun c1 => ?_) (fun c1 => ?_)
  · exact rfl
  · refine ifI (P := fun (z : Int32 × XS) => z.2.2.2.2 = S.2.2.2) (fun c2 => ?_) (fun c2 => ?_)
    · have hMp : (x_pass_R29 S x1).2.2.2.2 = S.2.2.2 := (x_pass_R29_P S x1 hI c1 c2).2
      exact hMp
    · exact rfl
theorem x_pass_inv (S : XS) (x1 : Int32) (hI : XInv S) : XInv (x_pass S x1).2 := by
  unfold x_pass
  refine ifI (P := fun (z : Int32 × XS) => XInv z.2) (fun c1 => ?_) (fun c1 => ?_)
  · exact hI
  · refine ifI (P := fun (z : Int32 × XS) => XInv z.2) (fun c2 => ?_) (fun c2 => ?_)
    · have hJp : XInv (x_pass_R29 S x1).2 := (x_pass_R29_P S x1 hI c1 c2).1
      exact hJp
    · exact hI
set_option maxHeartbeats 4000000 in
theorem xt_pass (l : Launch) (D : va_G) (d : Nat → ClassId) (A : Nat → Prop) (ad : XK → Nat) (S : XS) (x1 : Int32) (hI : XInv S) : XI l yX0_pass cX0_pass 4 .int (rm_ 6) D d A ad S [.ref (ad (0, 0)), .int x1] (x_pass S x1) := by
  refine x_startI RX0 rfl (by decide) (Nat.le_of_ble_eq_true rfl) ?_
  intro p e s m av below meth c ls Q X hrt hlk hl hR hQ
  have hx := X.1.1.1
  have hb := X.1.1.2.1
  have hown := X.1.1.2.2.2.1
  have hts := X.1.1.2.2.2.2
  have hS : va_S A s.heap s.heap [] := va_S.rf
  have hl : lv_has ls 4 [(0, .ref (ad (0, 0))), (1, .int x1)] := hl
  refine lv_iload_n hx hb dX0_pass_0 rfl (lv_at hl 1 rfl) ?_
  refine lv_iconst (v := 0) hx hb dX0_pass_1 (by decide) ?_
  refine lv_sipush (v := 3000) hx hb dX0_pass_2 (by decide) ?_
  refine s_ci X.1.1 (st_x_in l x1 0 3000) 3 (lw_S q280 q281 q58 q282) ⟨rfl, rfl⟩ (by decide +kernel) ⟨by decide, by decide⟩ ⟨by decide, by decide⟩ rfl hl.1 rfl (Nat.le_of_ble_eq_true rfl) dX0_pass_5 ?_
  refine lv_if_ne (tgt := 13) hx hb dX0_pass_8 (by decide) (fun c1 => ?_) (fun c1 => ?_)
  · refine lv_aload_n hx hb dX0_pass_13 rfl (lv_at hl 0 rfl) ?_
    refine xg_i X.1 hR 6 (by decide) rfl q103 rfl dX0_pass_14 ?_
    refine lv_iload_n hx hb dX0_pass_17 rfl (lv_at hl 1 rfl) ?_
    refine lv_iadd hx hb dX0_pass_18 ?_
    refine lv_ldc hx hb hown (hts _ q893) dX0_pass_19 ?_
    refine lv_icmp_le (tgt := 27) hx hb dX0_pass_21 (by decide) (fun c2 => ?_) (fun c2 => ?_)
    · refine lv_iconst (v := 0) hx hb dX0_pass_27 (by decide) ?_
      refine lv_istore_n (lv' := [(2, .int 0), (0, .ref (ad (0, 0))), (1, .int x1)]) hx hb dX0_pass_28 rfl hl (by decide) rfl (fun ls hl => ?_)
      have K29 : ∀ (H : Heap) (locs : List Loc) (ls : Array Slot), (XInv (x_pass_R29 S x1).2) → ((x_pass_R29 S x1).2.2.2.2 = S.2.2.2) → XR D d A ad (x_pass_R29 S x1).2 H → va_S A s.heap H locs → lv_has ls 4 [(2, .int (x_pass_R29 S x1).1), (0, .ref (ad (0, 0))), (1, .int x1)] → W p l e (rm_ 6) s m av below meth c H locs 0 0 Q (F0 m 81 ls []) := by
        intro H locs ls hJp hMp hR hS hl
        refine lv_aload_n hx hb dX0_pass_81 rfl (lv_at hl 1 rfl) ?_
        refine xg_i X.1 hR 6 (by decide) rfl q103 rfl dX0_pass_82 ?_
        exact x_ri hx hb hrt (rfl) hlk hR hS hQ (Eq.trans (if_neg c1) (if_pos c2)) dX0_pass_85
      have L29 : ∀ (f29 : Nat) (y2_29 : Int32) (S_29 : XS) (H : Heap) (locs : List Loc) (ls : Array Slot), (x1 - y2_29 : Int32).toNatClampNeg < f29 → 0 ≤ y2_29 → XInv S_29 → S_29.2.2.2 = S.2.2.2 → x_pass_L29 x1 (f29) y2_29 S_29 = (x_pass_R29 S x1) → XR D d A ad S_29 H → va_S A s.heap H locs → lv_has ls 4 [(2, .int y2_29), (0, .ref (ad (0, 0))), (1, .int x1)] → W p l e (rm_ 6) s m av below meth c H locs 0 0 Q (F0 m 29 ls []) := by
        intro f29
        induction f29 with
        | zero => intro y2_29 S_29 H locs ls hf; exact absurd hf (Nat.not_lt_zero _)
        | succ f29 ih =>
          intro y2_29 S_29 H locs ls hf hi2 hJ hM hE hR hS hl
          refine lv_iload_n hx hb dX0_pass_29 rfl (lv_at hl 0 rfl) ?_
          refine lv_iload_n hx hb dX0_pass_30 rfl (lv_at hl 2 rfl) ?_
          refine lv_icmp_ge (tgt := 81) hx hb dX0_pass_31 (by decide) (fun c3 => ?_) (fun c3 => ?_)
          · have e0 : (x_pass_R29 S x1) = (y2_29, S_29) := Eq.trans (Eq.symm hE) (Eq.trans (x_pass_L29_s _ _ _ _) (if_pos c3))
            exact K29 _ _ _ ((by rw [e0]; exact hJ)) ((by rw [e0]; exact hM)) (by rw [e0]; exact hR) hS (by rw [e0]; exact lv_sub hl [0, 1, 2] rfl)
          · refine lv_iconst (v := 0) hx hb dX0_pass_34 (by decide) ?_
            refine lv_istore_n (lv' := [(3, .int 0), (2, .int y2_29), (0, .ref (ad (0, 0))), (1, .int x1)]) hx hb dX0_pass_35 rfl hl (by decide) rfl (fun ls hl => ?_)
            have K36 : ∀ (H : Heap) (locs : List Loc) (ls : Array Slot), (XInv (x_pass_R36 S_29).2) → ((x_pass_R36 S_29).2.2.2.2 = S.2.2.2) → XR D d A ad (x_pass_R36 S_29).2 H → va_S A s.heap H locs → lv_has ls 4 [(3, .int (x_pass_R36 S_29).1), (2, .int y2_29), (0, .ref (ad (0, 0))), (1, .int x1)] → W p l e (rm_ 6) s m av below meth c H locs 0 0 Q (F0 m 65 ls []) := by
              intro H locs ls hJq hMq hR hS hl
              refine lv_aload_n hx hb dX0_pass_65 rfl (lv_at hl 2 rfl) ?_
              refine lv_dup hx hb dX0_pass_66 rfl ?_
              refine xg_i X.1 hR 6 (by decide) rfl q103 rfl dX0_pass_67 ?_
              refine lv_iconst (v := 1) hx hb dX0_pass_70 (by decide) ?_
              refine lv_iadd hx hb dX0_pass_71 ?_
              refine xp_i X.1 hR hS 6 (by decide) rfl rfl rfl q103 dX0_pass_72 (fun H locs hR hS => ?_)
              refine lv_iinc (v := (y2_29 + 1)) (lv' := [(2, .int (y2_29 + 1)), (3, .int (x_pass_R36 S_29).1), (0, .ref (ad (0, 0))), (1, .int x1)]) hx hb dX0_pass_75 hl (k := 1) rfl rfl (by decide) rfl (fun ls hl => ?_)
              refine lv_goto (tgt := 29) hx hb dX0_pass_78 (by decide) ?_
              exact ih (y2_29 + 1) (xu (x_pass_R36 S_29).2 6 0 (((x_pass_R36 S_29).2.1 6 0) + 1)) _ _  _ (Nat.lt_of_lt_of_le (up_ hi2 (x_pass_o12 S x1 y2_29 S_29 hI c1 c2 hi2 hJ hM c3 hJq hMq)) (Nat.le_of_lt_succ hf)) (x_pass_o11 S x1 y2_29 S_29 hI c1 c2 hi2 hJ hM c3 hJq hMq) ((XInv_xu hJq _ _ _ (by decide))) (hMq) (Eq.trans (Eq.symm (Eq.trans (x_pass_L29_s _ _ _ _) (if_neg c3))) hE) hR hS (lv_sub hl [0, 2, 3] rfl)
            have L36 : ∀ (f36 : Nat) (y3_36 : Int32) (S_36 : XS) (H : Heap) (locs : List Loc) (ls : Array Slot), (4 - y3_36 : Int32).toNatClampNeg < f36 → 0 ≤ y3_36 → XInv S_36 → S_36.2.2.2 = S.2.2.2 → x_pass_L36 (f36) y3_36 S_36 = (x_pass_R36 S_29) → XR D d A ad S_36 H → va_S A s.heap H locs → lv_has ls 4 [(3, .int y3_36), (2, .int y2_29), (0, .ref (ad (0, 0))), (1, .int x1)] → W p l e (rm_ 6) s m av below meth c H locs 0 0 Q (F0 m 36 ls []) := by
              intro f36
              induction f36 with
              | zero => intro y3_36 S_36 H locs ls hf; exact absurd hf (Nat.not_lt_zero _)
              | succ f36 ih =>
                intro y3_36 S_36 H locs ls hf hi3 hJi hMi hE hR hS hl
                refine lv_iload_n hx hb dX0_pass_36 rfl (lv_at hl 0 rfl) ?_
                refine lv_iconst (v := 4) hx hb dX0_pass_37 (by decide) ?_
                refine lv_icmp_ge (tgt := 65) hx hb dX0_pass_38 (by decide) (fun c4 => ?_) (fun c4 => ?_)
                · have e0 : (x_pass_R36 S_29) = (y3_36, S_36) := Eq.trans (Eq.symm hE) (Eq.trans (x_pass_L36_s _ _ _) (if_pos c4))
                  exact K36 _ _ _ ((by rw [e0]; exact hJi)) ((by rw [e0]; exact hMi)) (by rw [e0]; exact hR) hS (by rw [e0]; exact lv_sub hl [0, 1, 2, 3] rfl)
                · refine lv_aload_n hx hb dX0_pass_41 rfl (lv_at hl 2 rfl) ?_
                  refine xg_a X.1 hR 7 (by decide) (by decide) q104 dX0_pass_42 ?_
                  refine lv_iload_n hx hb dX0_pass_45 rfl (lv_at hl 0 rfl) ?_
                  have J9 : ∀ (w8 : XS) (H : Heap) (locs : List Loc) (ls : Array Slot), w8 = (x_pass_j59_S y3_36 S_36) → XR D d A ad w8 H → va_S A s.heap H locs → lv_has ls 4 [(3, .int y3_36), (2, .int y2_29), (0, .ref (ad (0, 0))), (1, .int x1)] → W p l e (rm_ 6) s m av below meth c H locs 0 0 Q (F0 m 59 ls []) := by
                    intro w8 H locs ls ew8 hR hS hl
                    subst ew8
                    have hN_j59_S : (x_pass_j59_S y3_36 S_36).2.2.2 = S_36.2.2.2 := x_pass_j59_S_N S x1 y2_29 S_29 y3_36 S_36 hI c1 c2 hi2 hJ hM c3 hi3 hJi hMi c4
                    have hI_j59_S : XInv (x_pass_j59_S y3_36 S_36) := x_pass_j59_S_I S x1 y2_29 S_29 y3_36 S_36 hI c1 c2 hi2 hJ hM c3 hi3 hJi hMi c4
                    refine lv_iinc (v := (y3_36 + 1)) (lv' := [(3, .int (y3_36 + 1)), (2, .int y2_29), (0, .ref (ad (0, 0))), (1, .int x1)]) hx hb dX0_pass_59 hl (k := 0) rfl rfl (by decide) rfl (fun ls hl => ?_)
                    refine lv_goto (tgt := 36) hx hb dX0_pass_62 (by decide) ?_
                    exact ih (y3_36 + 1) (x_pass_j59_S y3_36 S_36) _ _  _ (Nat.lt_of_lt_of_le (up_ hi3 (x_pass_o13 S x1 y2_29 S_29 y3_36 S_36 hI c1 c2 hi2 hJ hM c3 hi3 hJi hMi c4 hN_j59_S hI_j59_S)) (Nat.le_of_lt_succ hf)) (x_pass_o10 S x1 y2_29 S_29 y3_36 S_36 hI c1 c2 hi2 hJ hM c3 hi3 hJi hMi c4 hN_j59_S hI_j59_S) (hI_j59_S) ((hN_j59_S.trans hMi)) (Eq.trans (Eq.symm (Eq.trans (x_pass_L36_s _ _ _) (if_neg c4))) hE) hR hS (lv_sub hl [0, 1, 2, 3] rfl)
                  refine x_ldwB X hR (ixl 4 4 (by decide) rfl (x_pass_o6 S x1 y2_29 S_29 y3_36 S_36 hI c1 c2 hi2 hJ hM c3 hi3 hJi hMi c4)) dX0_pass_46 (fun c5 => ?_) (fun c5 => ?_)
                  · refine lv_ifnullN (tgt := 59) hx hb dX0_pass_47 (by decide) ?_
                    exact J9 _ _ _  _ (Eq.symm (if_pos c5)) hR hS  (lv_sub hl [0, 1, 2, 3] rfl)
                  · refine lv_ifnull hx hb dX0_pass_47 ?_
                    refine lv_aload_n hx hb dX0_pass_50 rfl (lv_at hl 2 rfl) ?_
                    refine xg_a X.1 hR 7 (by decide) (by decide) q104 dX0_pass_51 ?_
                    refine lv_iload_n hx hb dX0_pass_54 rfl (lv_at hl 0 rfl) ?_
                    refine x_ldw X hR (ixl 4 4 (by decide) rfl (x_pass_o7 S x1 y2_29 S_29 y3_36 S_36 hI c1 c2 hi2 hJ hM c3 hi3 hJi hMi c4 c5)) (c5) dX0_pass_55 ?_
                    refine x_bv hS (xr_V X hR (x_lvw (tn4 (x_pass_o7 S x1 y2_29 S_29 y3_36 S_36 hI c1 c2 hi2 hJ hM c3 hi3 hJi hMi c4 c5)) (c5)) (ci := 6) (fs := x_tw ad S_36 (Int32.toNatClampNeg y3_36)) rfl rfl (xt_w_minute l D d A ad S_36 (Int32.toNatClampNeg y3_36) (hJi) (tn4 (x_pass_o7 S x1 y2_29 S_29 y3_36 S_36 hI c1 c2 hi2 hJ hM c3 hi3 hJi hMi c4 c5)) (c5)) 0 (lw_V q894 q895 q896 q77 q897) ⟨rfl, rfl⟩ (by decide +kernel) ⟨by decide, by decide⟩ ⟨by decide, by decide⟩ rfl hl.1 rfl (Nat.le_of_ble_eq_true rfl) dX0_pass_56) (fun H locs hR hS => ?_)
                    have hN56 : (x_w_minute S_36 (Int32.toNatClampNeg y3_36)).2.2.2 = S_36.2.2.2 := x_w_minute_N S_36 (Int32.toNatClampNeg y3_36) (hJi) (tn4 (x_pass_o7 S x1 y2_29 S_29 y3_36 S_36 hI c1 c2 hi2 hJ hM c3 hi3 hJi hMi c4 c5)) (c5)
                    have hI56 : XInv (x_w_minute S_36 (Int32.toNatClampNeg y3_36)) := x_w_minute_inv S_36 (Int32.toNatClampNeg y3_36) (hJi) (tn4 (x_pass_o7 S x1 y2_29 S_29 y3_36 S_36 hI c1 c2 hi2 hJ hM c3 hi3 hJi hMi c4 c5)) (c5)
                    exact J9 _ _ _  _ (Eq.symm (if_neg c5)) hR hS  (lv_sub hl [0, 1, 2, 3] rfl)
            exact L36 _ 0 S_29 _ _  _ (fz_lt _) (by decide) (hJ) (hM) rfl hR hS (lv_sub hl [0, 1, 2, 3] rfl)
      exact L29 _ 0 S _ _  _ (fz_lt _) (by decide) (hI) (rfl) rfl hR hS (lv_sub hl [0, 1, 2] rfl)
    · refine lv_bipush (v := (-2)) hx hb dX0_pass_24 (by decide) ?_
      exact x_ri hx hb hrt (rfl) hlk hR hS hQ (Eq.trans (if_neg c1) (if_neg c2)) dX0_pass_26
  · refine lv_iconst (v := (-1)) hx hb dX0_pass_11 (by decide) ?_
    exact x_ri hx hb hrt (rfl) hlk hR hS hQ (if_pos c1) dX0_pass_12
def x_ahead_v38 (S : XS) (x1 : Int32) (x2 : Int32) : Int32 := (x_floorMod ((S.1 60 (Int32.toNatClampNeg x1)) - (S.1 60 (Int32.toNatClampNeg x2))) 1440)
def x_ahead (S : XS) (x1 : Int32) (x2 : Int32) : Int32 × XS := (if 0 ≤ (x_needTwo S x1 x2).1 then (if (x_ahead_v38 S x1 x2) ≤ 720 then ((x_ahead_v38 S x1 x2), S) else (((x_ahead_v38 S x1 x2) - 1440), S)) else ((x_needTwo S x1 x2).1, (x_needTwo S x1 x2).2))
theorem x_ahead_N (S : XS) (x1 : Int32) (x2 : Int32) : (x_ahead S x1 x2).2.2.2.2 = S.2.2.2 := by
  unfold x_ahead
  refine ifI (P := fun (z : Int32 × XS) => z.2.2.2.2 = S.2.2.2) (fun c1 => ?_) (fun c1 => ?_)
  · refine ifI (P := fun (z : Int32 × XS) => z.2.2.2.2 = S.2.2.2) (fun c2 => ?_) (fun c2 => ?_)
    · exact rfl
    · exact rfl
  · have hN3 : (x_needTwo S x1 x2).2.2.2.2 = S.2.2.2 := x_needTwo_N S x1 x2
    exact hN3
theorem x_ahead_inv (S : XS) (x1 : Int32) (x2 : Int32) (hI : XInv S) : XInv (x_ahead S x1 x2).2 := by
  unfold x_ahead
  refine ifI (P := fun (z : Int32 × XS) => XInv z.2) (fun c1 => ?_) (fun c1 => ?_)
  · refine ifI (P := fun (z : Int32 × XS) => XInv z.2) (fun c2 => ?_) (fun c2 => ?_)
    · exact hI
    · exact hI
  · have hI3 : XInv (x_needTwo S x1 x2).2 := x_needTwo_inv S x1 x2 (hI)
    exact hI3
set_option maxHeartbeats 4000000 in
theorem xt_ahead (l : Launch) (D : va_G) (d : Nat → ClassId) (A : Nat → Prop) (ad : XK → Nat) (S : XS) (x1 : Int32) (x2 : Int32) (hI : XInv S) : XI l yX0_ahead cX0_ahead 5 .int (rm_ 3) D d A ad S [.ref (ad (0, 0)), .int x1, .int x2] (x_ahead S x1 x2) := by
  refine x_startI RX0 rfl (by decide) (Nat.le_of_ble_eq_true rfl) ?_
  intro p e s m av below meth c ls Q X hrt hlk hl hR hQ
  have hx := X.1.1.1
  have hb := X.1.1.2.1
  have hown := X.1.1.2.2.2.1
  have hts := X.1.1.2.2.2.2
  have hS : va_S A s.heap s.heap [] := va_S.rf
  have hl : lv_has ls 5 [(0, .ref (ad (0, 0))), (1, .int x1), (2, .int x2)] := hl
  refine lv_aload_n hx hb dX0_ahead_0 rfl (lv_at hl 0 rfl) ?_
  refine lv_iload_n hx hb dX0_ahead_1 rfl (lv_at hl 1 rfl) ?_
  refine lv_iload_n hx hb dX0_ahead_2 rfl (lv_at hl 2 rfl) ?_
  refine x_bi hS (xr_V X hR x_lv0 (ci := 0) (fs := x_fs ad S) rfl rfl (xt_needTwo l D d A ad S x1 x2 (hI)) 2 (lw_V q927 q929 qs11 q58 q930) ⟨rfl, rfl⟩ (by decide +kernel) ⟨by decide, by decide⟩ ⟨by decide, by decide⟩ rfl hl.1 rfl (Nat.le_of_ble_eq_true rfl) dX0_ahead_3) (fun H locs hR hS => ?_)
  have hN3 : (x_needTwo S x1 x2).2.2.2.2 = S.2.2.2 := x_needTwo_N S x1 x2
  have hI3 : XInv (x_needTwo S x1 x2).2 := x_needTwo_inv S x1 x2 (hI)
  refine lv_istore_n (lv' := [(3, .int (x_needTwo S x1 x2).1), (0, .ref (ad (0, 0))), (1, .int x1), (2, .int x2)]) hx hb dX0_ahead_6 rfl hl (by decide) rfl (fun ls hl => ?_)
  refine lv_iload_n hx hb dX0_ahead_7 rfl (lv_at hl 0 rfl) ?_
  refine lv_if_ge (tgt := 13) hx hb dX0_ahead_8 (by decide) (fun c1 => ?_) (fun c1 => ?_)
  · have okc1 := x_needTwo_ok S x1 x2 hI c1
    have hR : XR D d A ad S H := okc1.1 ▸ hR
    have okc1_0 : 0 ≤ x1 ∧ x1 < 4 := okc1.2.1
    have okc1_1 : 0 ≤ x2 ∧ x2 < 4 := okc1.2.2.1
    have okc1_2 : ¬ S.2.2.2 5 (Int32.toNatClampNeg x1) = 0 := okc1.2.2.2.1
    have okc1_3 : ¬ S.2.2.2 5 (Int32.toNatClampNeg x2) = 0 := okc1.2.2.2.2
    refine lv_aload_n hx hb dX0_ahead_13 rfl (lv_at hl 1 rfl) ?_
    refine xg_a X.1 hR 7 (by decide) (by decide) q104 dX0_ahead_14 ?_
    refine lv_iload_n hx hb dX0_ahead_17 rfl (lv_at hl 2 rfl) ?_
    refine x_ldw X hR (ixl 4 4 (by decide) rfl (okc1_0)) (okc1_2) dX0_ahead_18 ?_
    refine xgw X hR (x_lvw (tn4 (okc1_0)) (okc1_2)) 0 (Or.inl (by decide)) (Or.inr q696) rfl dX0_ahead_19 ?_
    refine lv_aload_n hx hb dX0_ahead_22 rfl (lv_at hl 1 rfl) ?_
    refine xg_a X.1 hR 7 (by decide) (by decide) q104 dX0_ahead_23 ?_
    refine lv_iload_n hx hb dX0_ahead_26 rfl (lv_at hl 3 rfl) ?_
    refine x_ldw X hR (ixl 4 4 (by decide) rfl (okc1_1)) (okc1_3) dX0_ahead_27 ?_
    refine xgw X hR (x_lvw (tn4 (okc1_1)) (okc1_3)) 0 (Or.inl (by decide)) (Or.inr q696) rfl dX0_ahead_28 ?_
    refine lv_isub hx hb dX0_ahead_31 ?_
    refine lv_sipush (v := 1440) hx hb dX0_ahead_32 (by decide) ?_
    refine s_ci X.1.1 (st_x_floorMod l ((S.1 60 (Int32.toNatClampNeg x1)) - (S.1 60 (Int32.toNatClampNeg x2))) 1440 (by decide)) 2 (lw_S q931 q932 q74 q933) ⟨rfl, rfl⟩ (by decide +kernel) ⟨by decide, by decide⟩ ⟨by decide, by decide⟩ rfl hl.1 rfl (Nat.le_of_ble_eq_true rfl) dX0_ahead_35 ?_
    refine lv_istore (lv' := [(4, .int (x_ahead_v38 S x1 x2)), (3, .int (x_needTwo S x1 x2).1), (0, .ref (ad (0, 0))), (1, .int x1), (2, .int x2)]) hx hb dX0_ahead_38 hl (by decide) rfl (fun ls hl => ?_)
    refine lv_iload hx hb dX0_ahead_40 (lv_at hl 0 rfl) ?_
    refine lv_sipush (v := 720) hx hb dX0_ahead_42 (by decide) ?_
    refine lv_icmp_le (tgt := 57) hx hb dX0_ahead_45 (by decide) (fun c2 => ?_) (fun c2 => ?_)
    · refine lv_iload hx hb dX0_ahead_57 (lv_at hl 0 rfl) ?_
      exact x_ri hx hb hrt (rfl) hlk hR hS hQ (Eq.trans (if_pos c1) (if_pos c2)) dX0_ahead_59
    · refine lv_iload hx hb dX0_ahead_48 (lv_at hl 0 rfl) ?_
      refine lv_sipush (v := 1440) hx hb dX0_ahead_50 (by decide) ?_
      refine lv_isub hx hb dX0_ahead_53 ?_
      refine lv_goto (tgt := 59) hx hb dX0_ahead_54 (by decide) ?_
      exact x_ri hx hb hrt (rfl) hlk hR hS hQ (Eq.trans (if_pos c1) (if_neg c2)) dX0_ahead_59
  · refine lv_iload_n hx hb dX0_ahead_11 rfl (lv_at hl 0 rfl) ?_
    exact x_ri hx hb hrt (rfl) hlk hR hS hQ (if_neg c1) dX0_ahead_12
theorem x_hang_o2 (S : XS) (x1 : Int32) (x2 : Int32) (x3 : Int32) (hI : XInv S) (hkq : 0 ≤ x_kOf x3 ∧ x_kOf x3 < 2) (ht2 : ¬ (x_isTrain S x2) = 0 → 0 ≤ x2 ∧ x2 < 16) (hN7 : (x_need S (x_isTrain S x2) x1).2.2.2.2 = S.2.2.2) (hI7 : XInv (x_need S (x_isTrain S x2) x1).2) (c1 : 0 ≤ (x_need S (x_isTrain S x2) x1).1) (okc1_0 : 0 ≤ x1 ∧ x1 < 4) (okc1_1 : ¬ (x_isTrain S x2) = 0) (okc1_2 : ¬ S.2.2.2 5 (Int32.toNatClampNeg x1) = 0) (hq8 : 2 * (Int32.toNatClampNeg x1) + (Int32.toNatClampNeg (x_kOf x3)) < 8) : 0 ≤ x2 ∧ x2 < 16 := by 
  have bl_x1 := Int32.toInt_lt x1
  have bl_x2 := Int32.toInt_lt x2
  have bl_x3 := Int32.toInt_lt x3
  try simp only [x_in_eq, x_isTower_eq] at *
  try simp only [i_le, i_lt, i_eq, Int32.reduceToInt] at *
  first | (have e_0 := m32 (x := 2) (y := (Int32.toNatClampNeg x1)) (by (try simp only [Int32.reduceToInt]); omega); (try simp only [Int32.reduceToInt] at e_0)) | skip
  first | (have e_1 := a32 (x := (2 * (Int32.toNatClampNeg x1))) (y := (Int32.toNatClampNeg (x_kOf x3))) (by (try simp only [Int32.reduceToInt]); omega); (try simp only [Int32.reduceToInt] at e_1)) | skip
  try simp only [Int32.reduceToInt] at *
  omega
def x_hang (S : XS) (x1 : Int32) (x2 : Int32) (x3 : Int32) : Int32 × XS := (if 0 ≤ (x_need S (x_isTrain S x2) x1).1 then (if (S.1 47 (Int32.toNatClampNeg x2)) = (-9) then (if S.2.2.2 4 (2 * (Int32.toNatClampNeg x1) + (Int32.toNatClampNeg (x_kOf x3))) = 0 then ((-9), (xu (xu (xu (xu (xn S 4 (2 * (Int32.toNatClampNeg x1) + (Int32.toNatClampNeg (x_kOf x3))) ((Int32.toNatClampNeg x2) + 1)) 47 (Int32.toNatClampNeg x2) x1) 48 (Int32.toNatClampNeg x2) 0) 49 (Int32.toNatClampNeg x2) 0) 45 (Int32.toNatClampNeg x2) 0)) else ((S.1 40 (S.2.2.2 4 (2 * (Int32.toNatClampNeg x1) + (Int32.toNatClampNeg (x_kOf x3))) - 1)), (xu (xu (xu (xu (xn (xu S 47 (S.2.2.2 4 (2 * (Int32.toNatClampNeg x1) + (Int32.toNatClampNeg (x_kOf x3))) - 1) (-9)) 4 (2 * (Int32.toNatClampNeg x1) + (Int32.toNatClampNeg (x_kOf x3))) ((Int32.toNatClampNeg x2) + 1)) 47 (Int32.toNatClampNeg x2) x1) 48 (Int32.toNatClampNeg x2) 0) 49 (Int32.toNatClampNeg x2) 0) 45 (Int32.toNatClampNeg x2) 0))) else ((-4), S)) else ((x_need S (x_isTrain S x2) x1).1, (x_need S (x_isTrain S x2) x1).2))
theorem x_hang_inv (S : XS) (x1 : Int32) (x2 : Int32) (x3 : Int32) (hI : XInv S) : XInv (x_hang S x1 x2 x3).2 := by
  have hkq : 0 ≤ x_kOf x3 ∧ x_kOf x3 < 2 := x_kOf_b x3
  have ht2 : ¬ (x_isTrain S x2) = 0 → 0 ≤ x2 ∧ x2 < 16 := fun h => xi_t16 hI h
  unfold x_hang
  refine ifI (P := fun (z : Int32 × XS) => XInv z.2) (fun c1 => ?_) (fun c1 => ?_)
  · refine ifI (P := fun (z : Int32 × XS) => XInv z.2) (fun c3 => ?_) (fun c3 => ?_)
    · refine ifI (P := fun (z : Int32 × XS) => XInv z.2) (fun c4 => ?_) (fun c4 => ?_)
      · have okc1_1 : ¬ (x_isTrain S x2) = 0 := (x_need_ok S (x_isTrain S x2) x1 hI c1).2.2.1
        exact (XInv_xu (XInv_xu (XInv_xu (XInv_xu (XInv_n4 hI _ _ (Nat.succ_le_of_lt ((xi_tr (X := S) hI okc1_1)))) _ _ _ (by decide)) _ _ _ (by decide)) _ _ _ (by decide)) _ _ _ (by decide))
      · have okc1_1 : ¬ (x_isTrain S x2) = 0 := (x_need_ok S (x_isTrain S x2) x1 hI c1).2.2.1
        exact (XInv_xu (XInv_xu (XInv_xu (XInv_xu (XInv_n4 (XInv_xu hI _ _ _ (by decide)) _ _ (Nat.succ_le_of_lt ((xi_tr (X := S) hI okc1_1)))) _ _ _ (by decide)) _ _ _ (by decide)) _ _ _ (by decide)) _ _ _ (by decide))
    · exact hI
  · have hI7 : XInv (x_need S (x_isTrain S x2) x1).2 := x_need_inv S (x_isTrain S x2) x1 (hI)
    exact hI7
set_option maxHeartbeats 4000000 in
theorem xt_hang (l : Launch) (D : va_G) (d : Nat → ClassId) (A : Nat → Prop) (ad : XK → Nat) (S : XS) (x1 : Int32) (x2 : Int32) (x3 : Int32) (hI : XInv S) : XI l yX0_hang cX0_hang 7 .int (rm_ 3) D d A ad S [.ref (ad (0, 0)), .int x1, .int x2, .int x3] (x_hang S x1 x2 x3) := by
  refine x_startI RX0 rfl (by decide) (Nat.le_of_ble_eq_true rfl) ?_
  intro p e s m av below meth c ls Q X hrt hlk hl hR hQ
  have hx := X.1.1.1
  have hb := X.1.1.2.1
  have hown := X.1.1.2.2.2.1
  have hts := X.1.1.2.2.2.2
  have hS : va_S A s.heap s.heap [] := va_S.rf
  have hl : lv_has ls 7 [(0, .ref (ad (0, 0))), (1, .int x1), (2, .int x2), (3, .int x3)] := hl
  have hkq : 0 ≤ x_kOf x3 ∧ x_kOf x3 < 2 := x_kOf_b x3
  have ht2 : ¬ (x_isTrain S x2) = 0 → 0 ≤ x2 ∧ x2 < 16 := fun h => xi_t16 hI h
  refine lv_aload_n hx hb dX0_hang_0 rfl (lv_at hl 0 rfl) ?_
  refine lv_aload_n hx hb dX0_hang_1 rfl (lv_at hl 0 rfl) ?_
  refine lv_iload_n hx hb dX0_hang_2 rfl (lv_at hl 2 rfl) ?_
  refine x_bi hS (xr_V X hR x_lv0 (ci := 0) (fs := x_fs ad S) rfl rfl (xt_isTrain l D d A ad S x2) 1 (lw_V q518 q520 qs4 q58 q521) ⟨rfl, rfl⟩ (by decide +kernel) ⟨by decide, by decide⟩ ⟨by decide, by decide⟩ rfl hl.1 rfl (Nat.le_of_ble_eq_true rfl) dX0_hang_3) (fun H locs hR hS => ?_)
  refine lv_iload_n hx hb dX0_hang_6 rfl (lv_at hl 1 rfl) ?_
  refine x_bi hS (xr_V X hR x_lv0 (ci := 0) (fs := x_fs ad S) rfl rfl (xt_need l D d A ad S (x_isTrain S x2) x1 (hI)) 2 (lw_V q747 q749 qs5 q58 q750) ⟨rfl, rfl⟩ (by decide +kernel) ⟨by decide, by decide⟩ ⟨by decide, by decide⟩ rfl hl.1 rfl (Nat.le_of_ble_eq_true rfl) dX0_hang_7) (fun H locs hR hS => ?_)
  have hN7 : (x_need S (x_isTrain S x2) x1).2.2.2.2 = S.2.2.2 := x_need_N S (x_isTrain S x2) x1
  have hI7 : XInv (x_need S (x_isTrain S x2) x1).2 := x_need_inv S (x_isTrain S x2) x1 (hI)
  refine lv_istore (lv' := [(4, .int (x_need S (x_isTrain S x2) x1).1), (0, .ref (ad (0, 0))), (1, .int x1), (2, .int x2), (3, .int x3)]) hx hb dX0_hang_10 hl (by decide) rfl (fun ls hl => ?_)
  refine lv_iload hx hb dX0_hang_12 (lv_at hl 0 rfl) ?_
  refine lv_if_ge (tgt := 20) hx hb dX0_hang_14 (by decide) (fun c1 => ?_) (fun c1 => ?_)
  · have okc1 := x_need_ok S (x_isTrain S x2) x1 hI c1
    have hR : XR D d A ad S H := okc1.1 ▸ hR
    have okc1_0 : 0 ≤ x1 ∧ x1 < 4 := okc1.2.1
    have okc1_1 : ¬ (x_isTrain S x2) = 0 := okc1.2.2.1
    have okc1_2 : ¬ S.2.2.2 5 (Int32.toNatClampNeg x1) = 0 := okc1.2.2.2
    have hq8 : 2 * (Int32.toNatClampNeg x1) + (Int32.toNatClampNeg (x_kOf x3)) < 8 := tp8 (tn4 okc1_0) hkq
    refine lv_aload_n hx hb dX0_hang_20 rfl (lv_at hl 1 rfl) ?_
    refine xg_a X.1 hR 4 (by decide) (by decide) q100 dX0_hang_21 ?_
    refine lv_iload_n hx hb dX0_hang_24 rfl (lv_at hl 3 rfl) ?_
    refine x_ldt X hR (ixl 16 16 (by decide) rfl (x_hang_o2 S x1 x2 x3 hI hkq ht2 hN7 hI7 c1 okc1_0 okc1_1 okc1_2 hq8)) ((xi_tr (X := S) hI okc1_1)) dX0_hang_25 ?_
    refine lv_astore (lv' := [(5, .ref (ad (40, (Int32.toNatClampNeg x2)))), (4, .int (x_need S (x_isTrain S x2) x1).1), (0, .ref (ad (0, 0))), (1, .int x1), (2, .int x2), (3, .int x3)]) hx hb dX0_hang_26 hl (by decide) rfl (fun ls hl => ?_)
    refine lv_aload hx hb dX0_hang_28 (lv_at hl 0 rfl) ?_
    refine xgt X hR (x_lvt ((xi_tr (X := S) hI okc1_1))) (xi_kd (X := S) hI ((xi_tr (X := S) hI okc1_1))) 7 (by decide) q378 (Or.inl rfl) rfl dX0_hang_30 ?_
    refine lv_bipush (v := (-9)) hx hb dX0_hang_33 (by decide) ?_
    refine lv_icmp_eq (tgt := 41) hx hb dX0_hang_35 (by decide) (fun c3 => ?_) (fun c3 => ?_)
    · refine lv_aload_n hx hb dX0_hang_41 rfl (lv_at hl 2 rfl) ?_
      refine xg_a X.1 hR 7 (by decide) (by decide) q104 dX0_hang_42 ?_
      refine lv_iload_n hx hb dX0_hang_45 rfl (lv_at hl 3 rfl) ?_
      refine x_ldw X hR (ixl 4 4 (by decide) rfl (okc1_0)) (okc1_2) dX0_hang_46 ?_
      refine xgwo X hR (x_lvw (tn4 (okc1_0)) (okc1_2)) (Or.inr q706) dX0_hang_47 ?_
      refine lv_iload_n hx hb dX0_hang_50 rfl (lv_at hl 5 rfl) ?_
      refine s_ci X.1.1 (st_x_kOf l x3) 1 (lw_S q751 q752 q58 q753) ⟨rfl, rfl⟩ (by decide +kernel) ⟨by decide, by decide⟩ ⟨by decide, by decide⟩ rfl hl.1 rfl (Nat.le_of_ble_eq_true rfl) dX0_hang_51 ?_
      refine x_ldoBE X hR (x_lvo (tn4 (okc1_0)) (okc1_2)) (ixl 2 2 (by decide) rfl (hkq)) (n := S.2.2.2 4 (2 * (Int32.toNatClampNeg x1) + (Int32.toNatClampNeg (x_kOf x3)))) rfl dX0_hang_54 (fun c4 => ?_) (fun c4 => ?_)
      · refine lv_astoreN (lv' := [(6, .null), (5, .ref (ad (40, (Int32.toNatClampNeg x2)))), (4, .int (x_need S (x_isTrain S x2) x1).1), (0, .ref (ad (0, 0))), (1, .int x1), (2, .int x2), (3, .int x3)]) hx hb dX0_hang_55 hl (by decide) rfl (fun ls hl => ?_)
        refine lv_aloadN hx hb dX0_hang_57 (lv_at hl 0 rfl) ?_
        refine lv_ifnullN (tgt := 69) hx hb dX0_hang_59 (by decide) ?_
        refine lv_aload_n hx hb dX0_hang_69 rfl (lv_at hl 3 rfl) ?_
        refine xg_a X.1 hR 7 (by decide) (by decide) q104 dX0_hang_70 ?_
        refine lv_iload_n hx hb dX0_hang_73 rfl (lv_at hl 4 rfl) ?_
        refine x_ldw X hR (ixl 4 4 (by decide) rfl (okc1_0)) (okc1_2) dX0_hang_74 ?_
        refine xgwo X hR (x_lvw (tn4 (okc1_0)) (okc1_2)) (Or.inr q706) dX0_hang_75 ?_
        refine lv_iload_n hx hb dX0_hang_78 rfl (lv_at hl 6 rfl) ?_
        refine s_ci X.1.1 (st_x_kOf l x3) 1 (lw_S q751 q752 q58 q753) ⟨rfl, rfl⟩ (by decide +kernel) ⟨by decide, by decide⟩ ⟨by decide, by decide⟩ rfl hl.1 rfl (Nat.le_of_ble_eq_true rfl) dX0_hang_79 ?_
        refine lv_aload hx hb dX0_hang_82 (lv_at hl 1 rfl) ?_
        refine x_sto X hR hS (x_lvo (tn4 (okc1_0)) (okc1_2)) (x_lvt ((xi_tr (X := S) hI okc1_1))) (xi_kd (X := S) hI ((xi_tr (X := S) hI okc1_1))) (ixl 2 2 (by decide) rfl (hkq)) dX0_hang_84 (fun H locs hR hS => ?_)
        refine lv_aload hx hb dX0_hang_85 (lv_at hl 1 rfl) ?_
        refine lv_iload_n hx hb dX0_hang_87 rfl (lv_at hl 4 rfl) ?_
        refine xpt X hR hS (x_lvt ((xi_tr (X := S) hI okc1_1))) (xi_kd (X := S) hI ((xi_tr (X := S) hI okc1_1))) 7 (by decide) rfl q378 (Or.inl rfl) rfl dX0_hang_88 (fun H locs hR hS => ?_)
        refine lv_aload hx hb dX0_hang_91 (lv_at hl 1 rfl) ?_
        refine lv_iconst (v := 0) hx hb dX0_hang_93 (by decide) ?_
        refine xptz X hR hS (x_lvt ((xi_tr (X := S) hI okc1_1))) (xi_kd (X := S) hI ((xi_tr (X := S) hI okc1_1))) 8 (by decide) rfl q380 (Or.inl rfl) rfl (Or.inl rfl) dX0_hang_94 (fun H locs hR hS => ?_)
        refine lv_aload hx hb dX0_hang_97 (lv_at hl 1 rfl) ?_
        refine lv_iconst (v := 0) hx hb dX0_hang_99 (by decide) ?_
        refine xptz X hR hS (x_lvt ((xi_tr (X := S) hI okc1_1))) (xi_kd (X := S) hI ((xi_tr (X := S) hI okc1_1))) 9 (by decide) rfl q387 (Or.inl rfl) rfl (Or.inl rfl) dX0_hang_100 (fun H locs hR hS => ?_)
        refine lv_aload hx hb dX0_hang_103 (lv_at hl 1 rfl) ?_
        refine lv_iconst (v := 0) hx hb dX0_hang_105 (by decide) ?_
        refine xpt X hR hS (x_lvt ((xi_tr (X := S) hI okc1_1))) (xi_kd (X := S) hI ((xi_tr (X := S) hI okc1_1))) 5 (by decide) rfl q374 (Or.inl rfl) rfl dX0_hang_106 (fun H locs hR hS => ?_)
        refine lv_aloadN hx hb dX0_hang_109 (lv_at hl 0 rfl) ?_
        refine lv_ifnonnullN hx hb dX0_hang_111 ?_
        refine lv_bipush (v := (-9)) hx hb dX0_hang_114 (by decide) ?_
        refine lv_goto (tgt := 124) hx hb dX0_hang_116 (by decide) ?_
        exact x_ri hx hb hrt (rfl) hlk hR hS hQ (Eq.trans (if_pos c1) (Eq.trans (if_pos c3) (if_pos c4))) dX0_hang_124
      · refine lv_astore (lv' := [(6, .ref (ad (40, (S.2.2.2 4 (2 * (Int32.toNatClampNeg x1) + (Int32.toNatClampNeg (x_kOf x3))) - 1)))), (5, .ref (ad (40, (Int32.toNatClampNeg x2)))), (4, .int (x_need S (x_isTrain S x2) x1).1), (0, .ref (ad (0, 0))), (1, .int x1), (2, .int x2), (3, .int x3)]) hx hb dX0_hang_55 hl (by decide) rfl (fun ls hl => ?_)
        refine lv_aload hx hb dX0_hang_57 (lv_at hl 0 rfl) ?_
        refine lv_ifnull hx hb dX0_hang_59 ?_
        refine lv_aload hx hb dX0_hang_62 (lv_at hl 0 rfl) ?_
        refine lv_bipush (v := (-9)) hx hb dX0_hang_64 (by decide) ?_
        refine xpt X hR hS (x_lvt ((xi_own (X := S) hI (hq8) c4))) (xi_kd (X := S) hI ((xi_own (X := S) hI (hq8) c4))) 7 (by decide) rfl q378 (Or.inl rfl) rfl dX0_hang_66 (fun H locs hR hS => ?_)
        refine lv_aload_n hx hb dX0_hang_69 rfl (lv_at hl 3 rfl) ?_
        refine xg_a X.1 hR 7 (by decide) (by decide) q104 dX0_hang_70 ?_
        refine lv_iload_n hx hb dX0_hang_73 rfl (lv_at hl 4 rfl) ?_
        refine x_ldw X hR (ixl 4 4 (by decide) rfl (okc1_0)) (okc1_2) dX0_hang_74 ?_
        refine xgwo X hR (x_lvw (tn4 (okc1_0)) (okc1_2)) (Or.inr q706) dX0_hang_75 ?_
        refine lv_iload_n hx hb dX0_hang_78 rfl (lv_at hl 6 rfl) ?_
        refine s_ci X.1.1 (st_x_kOf l x3) 1 (lw_S q751 q752 q58 q753) ⟨rfl, rfl⟩ (by decide +kernel) ⟨by decide, by decide⟩ ⟨by decide, by decide⟩ rfl hl.1 rfl (Nat.le_of_ble_eq_true rfl) dX0_hang_79 ?_
        refine lv_aload hx hb dX0_hang_82 (lv_at hl 1 rfl) ?_
        refine x_sto X hR hS (x_lvo (tn4 (okc1_0)) (okc1_2)) (x_lvt ((xi_tr (X := S) hI okc1_1))) (xi_kd (X := S) hI ((xi_tr (X := S) hI okc1_1))) (ixl 2 2 (by decide) rfl (hkq)) dX0_hang_84 (fun H locs hR hS => ?_)
        refine lv_aload hx hb dX0_hang_85 (lv_at hl 1 rfl) ?_
        refine lv_iload_n hx hb dX0_hang_87 rfl (lv_at hl 4 rfl) ?_
        refine xpt X hR hS (x_lvt ((xi_tr (X := S) hI okc1_1))) (xi_kd (X := S) hI ((xi_tr (X := S) hI okc1_1))) 7 (by decide) rfl q378 (Or.inl rfl) rfl dX0_hang_88 (fun H locs hR hS => ?_)
        refine lv_aload hx hb dX0_hang_91 (lv_at hl 1 rfl) ?_
        refine lv_iconst (v := 0) hx hb dX0_hang_93 (by decide) ?_
        refine xptz X hR hS (x_lvt ((xi_tr (X := S) hI okc1_1))) (xi_kd (X := S) hI ((xi_tr (X := S) hI okc1_1))) 8 (by decide) rfl q380 (Or.inl rfl) rfl (Or.inl rfl) dX0_hang_94 (fun H locs hR hS => ?_)
        refine lv_aload hx hb dX0_hang_97 (lv_at hl 1 rfl) ?_
        refine lv_iconst (v := 0) hx hb dX0_hang_99 (by decide) ?_
        refine xptz X hR hS (x_lvt ((xi_tr (X := S) hI okc1_1))) (xi_kd (X := S) hI ((xi_tr (X := S) hI okc1_1))) 9 (by decide) rfl q387 (Or.inl rfl) rfl (Or.inl rfl) dX0_hang_100 (fun H locs hR hS => ?_)
        refine lv_aload hx hb dX0_hang_103 (lv_at hl 1 rfl) ?_
        refine lv_iconst (v := 0) hx hb dX0_hang_105 (by decide) ?_
        refine xpt X hR hS (x_lvt ((xi_tr (X := S) hI okc1_1))) (xi_kd (X := S) hI ((xi_tr (X := S) hI okc1_1))) 5 (by decide) rfl q374 (Or.inl rfl) rfl dX0_hang_106 (fun H locs hR hS => ?_)
        refine lv_aload hx hb dX0_hang_109 (lv_at hl 0 rfl) ?_
        refine lv_ifnonnull (tgt := 119) hx hb dX0_hang_111 (by decide) ?_
        refine lv_aload hx hb dX0_hang_119 (lv_at hl 0 rfl) ?_
        refine xgt X hR (x_lvt ((xi_own (X := S) hI (hq8) c4))) (xi_kd (X := S) hI ((xi_own (X := S) hI (hq8) c4))) 0 (by decide) q357 (Or.inl rfl) ((xu_k _ (by decide) _ _ _).trans ((xu_k _ (by decide) _ _ _).trans ((xu_k _ (by decide) _ _ _).trans ((xu_k _ (by decide) _ _ _).trans ((Eq.refl ((xu S 47 (S.2.2.2 4 (2 * (Int32.toNatClampNeg x1) + (Int32.toNatClampNeg (x_kOf x3))) - 1) (-9)).1 40 (S.2.2.2 4 (2 * (Int32.toNatClampNeg x1) + (Int32.toNatClampNeg (x_kOf x3))) - 1))).trans ((xu_k _ (by decide) _ _ _).trans rfl)))))) dX0_hang_121 ?_
        exact x_ri hx hb hrt (rfl) hlk hR hS hQ (Eq.trans (if_pos c1) (Eq.trans (if_pos c3) (if_neg c4))) dX0_hang_124
    · refine lv_bipush (v := (-4)) hx hb dX0_hang_38 (by decide) ?_
      exact x_ri hx hb hrt (rfl) hlk hR hS hQ (Eq.trans (if_pos c1) (if_neg c3)) dX0_hang_40
  · refine lv_iload hx hb dX0_hang_17 (lv_at hl 0 rfl) ?_
    exact x_ri hx hb hrt (rfl) hlk hR hS hQ (if_neg c1) dX0_hang_19
theorem x_unhang_o2 (S : XS) (x1 : Int32) (x2 : Int32) (hI : XInv S) (hkq : 0 ≤ x_kOf x2 ∧ x_kOf x2 < 2) (hq2 : 0 ≤ x1 ∧ x1 < 4 → 2 * (Int32.toNatClampNeg x1) + (Int32.toNatClampNeg (x_kOf x2)) < 8) (hN3 : (x_needOwn S x1 x2).2.2.2.2 = S.2.2.2) (hI3 : XInv (x_needOwn S x1 x2).2) (c1 : 0 ≤ (x_needOwn S x1 x2).1) (okc1_0 : 0 ≤ x1 ∧ x1 < 4) (okc1_1 : ¬ S.2.2.2 5 (Int32.toNatClampNeg x1) = 0) (okc1_2 : ¬ S.2.2.2 4 (2 * (Int32.toNatClampNeg x1) + (Int32.toNatClampNeg (x_kOf x2))) = 0) : 2 * (Int32.toNatClampNeg x1) + (Int32.toNatClampNeg (x_kOf x2)) < 8 := by 
  have bl_x1 := Int32.toInt_lt x1
  have bl_x2 := Int32.toInt_lt x2
  try simp only [x_in_eq, x_isTower_eq] at *
  try simp only [i_le, i_lt, i_eq, Int32.reduceToInt] at *
  first | (have e_0 := m32 (x := 2) (y := (Int32.toNatClampNeg x1)) (by (try simp only [Int32.reduceToInt]); omega); (try simp only [Int32.reduceToInt] at e_0)) | skip
  first | (have e_1 := a32 (x := (2 * (Int32.toNatClampNeg x1))) (y := (Int32.toNatClampNeg (x_kOf x2))) (by (try simp only [Int32.reduceToInt]); omega); (try simp only [Int32.reduceToInt] at e_1)) | skip
  try simp only [Int32.reduceToInt] at *
  omega
def x_unhang (S : XS) (x1 : Int32) (x2 : Int32) : Int32 × XS := (if 0 ≤ (x_needOwn S x1 x2).1 then ((S.1 40 (S.2.2.2 4 (2 * (Int32.toNatClampNeg x1) + (Int32.toNatClampNeg (x_kOf x2))) - 1)), (xn (xu S 47 (S.2.2.2 4 (2 * (Int32.toNatClampNeg x1) + (Int32.toNatClampNeg (x_kOf x2))) - 1) (-9)) 4 (2 * (Int32.toNatClampNeg x1) + (Int32.toNatClampNeg (x_kOf x2))) 0)) else ((x_needOwn S x1 x2).1, (x_needOwn S x1 x2).2))
theorem x_unhang_inv (S : XS) (x1 : Int32) (x2 : Int32) (hI : XInv S) : XInv (x_unhang S x1 x2).2 := by
  have hkq : 0 ≤ x_kOf x2 ∧ x_kOf x2 < 2 := x_kOf_b x2
  have hq2 : 0 ≤ x1 ∧ x1 < 4 → 2 * (Int32.toNatClampNeg x1) + (Int32.toNatClampNeg (x_kOf x2)) < 8 := fun h => tp8 (tn4 h) hkq
  unfold x_unhang
  refine ifI (P := fun (z : Int32 × XS) => XInv z.2) (fun c1 => ?_) (fun c1 => ?_)
  · exact (XInv_n4 (XInv_xu hI _ _ _ (by decide)) _ _ (Nat.zero_le _))
  · have hI3 : XInv (x_needOwn S x1 x2).2 := x_needOwn_inv S x1 x2 (hI)
    exact hI3
set_option maxHeartbeats 4000000 in
theorem xt_unhang (l : Launch) (D : va_G) (d : Nat → ClassId) (A : Nat → Prop) (ad : XK → Nat) (S : XS) (x1 : Int32) (x2 : Int32) (hI : XInv S) : XI l yX0_unhang cX0_unhang 5 .int (rm_ 4) D d A ad S [.ref (ad (0, 0)), .int x1, .int x2] (x_unhang S x1 x2) := by
  refine x_startI RX0 rfl (by decide) (Nat.le_of_ble_eq_true rfl) ?_
  intro p e s m av below meth c ls Q X hrt hlk hl hR hQ
  have hx := X.1.1.1
  have hb := X.1.1.2.1
  have hown := X.1.1.2.2.2.1
  have hts := X.1.1.2.2.2.2
  have hS : va_S A s.heap s.heap [] := va_S.rf
  have hl : lv_has ls 5 [(0, .ref (ad (0, 0))), (1, .int x1), (2, .int x2)] := hl
  have hkq : 0 ≤ x_kOf x2 ∧ x_kOf x2 < 2 := x_kOf_b x2
  have hq2 : 0 ≤ x1 ∧ x1 < 4 → 2 * (Int32.toNatClampNeg x1) + (Int32.toNatClampNeg (x_kOf x2)) < 8 := fun h => tp8 (tn4 h) hkq
  refine lv_aload_n hx hb dX0_unhang_0 rfl (lv_at hl 0 rfl) ?_
  refine lv_iload_n hx hb dX0_unhang_1 rfl (lv_at hl 1 rfl) ?_
  refine lv_iload_n hx hb dX0_unhang_2 rfl (lv_at hl 2 rfl) ?_
  refine x_bi hS (xr_V X hR x_lv0 (ci := 0) (fs := x_fs ad S) rfl rfl (xt_needOwn l D d A ad S x1 x2 (hI)) 2 (lw_V q758 q760 qs6 q58 q761) ⟨rfl, rfl⟩ (by decide +kernel) ⟨by decide, by decide⟩ ⟨by decide, by decide⟩ rfl hl.1 rfl (Nat.le_of_ble_eq_true rfl) dX0_unhang_3) (fun H locs hR hS => ?_)
  have hN3 : (x_needOwn S x1 x2).2.2.2.2 = S.2.2.2 := x_needOwn_N S x1 x2
  have hI3 : XInv (x_needOwn S x1 x2).2 := x_needOwn_inv S x1 x2 (hI)
  refine lv_istore_n (lv' := [(3, .int (x_needOwn S x1 x2).1), (0, .ref (ad (0, 0))), (1, .int x1), (2, .int x2)]) hx hb dX0_unhang_6 rfl hl (by decide) rfl (fun ls hl => ?_)
  refine lv_iload_n hx hb dX0_unhang_7 rfl (lv_at hl 0 rfl) ?_
  refine lv_if_ge (tgt := 13) hx hb dX0_unhang_8 (by decide) (fun c1 => ?_) (fun c1 => ?_)
  · have okc1 := x_needOwn_ok S x1 x2 hI c1
    have hR : XR D d A ad S H := okc1.1 ▸ hR
    have okc1_0 : 0 ≤ x1 ∧ x1 < 4 := okc1.2.1
    have okc1_1 : ¬ S.2.2.2 5 (Int32.toNatClampNeg x1) = 0 := okc1.2.2.1
    have okc1_2 : ¬ S.2.2.2 4 (2 * (Int32.toNatClampNeg x1) + (Int32.toNatClampNeg (x_kOf x2))) = 0 := okc1.2.2.2
    refine lv_aload_n hx hb dX0_unhang_13 rfl (lv_at hl 1 rfl) ?_
    refine xg_a X.1 hR 7 (by decide) (by decide) q104 dX0_unhang_14 ?_
    refine lv_iload_n hx hb dX0_unhang_17 rfl (lv_at hl 2 rfl) ?_
    refine x_ldw X hR (ixl 4 4 (by decide) rfl (okc1_0)) (okc1_1) dX0_unhang_18 ?_
    refine xgwo X hR (x_lvw (tn4 (okc1_0)) (okc1_1)) (Or.inr q706) dX0_unhang_19 ?_
    refine lv_iload_n hx hb dX0_unhang_22 rfl (lv_at hl 3 rfl) ?_
    refine s_ci X.1.1 (st_x_kOf l x2) 1 (lw_S q751 q752 q58 q753) ⟨rfl, rfl⟩ (by decide +kernel) ⟨by decide, by decide⟩ ⟨by decide, by decide⟩ rfl hl.1 rfl (Nat.le_of_ble_eq_true rfl) dX0_unhang_23 ?_
    refine x_ldoE X hR (x_lvo (tn4 (okc1_0)) (okc1_1)) (ixl 2 2 (by decide) rfl (hkq)) (n := S.2.2.2 4 (2 * (Int32.toNatClampNeg x1) + (Int32.toNatClampNeg (x_kOf x2)))) rfl (okc1_2) dX0_unhang_26 ?_
    refine lv_astore (lv' := [(4, .ref (ad (40, (S.2.2.2 4 (2 * (Int32.toNatClampNeg x1) + (Int32.toNatClampNeg (x_kOf x2))) - 1)))), (3, .int (x_needOwn S x1 x2).1), (0, .ref (ad (0, 0))), (1, .int x1), (2, .int x2)]) hx hb dX0_unhang_27 hl (by decide) rfl (fun ls hl => ?_)
    refine lv_aload hx hb dX0_unhang_29 (lv_at hl 0 rfl) ?_
    refine lv_bipush (v := (-9)) hx hb dX0_unhang_31 (by decide) ?_
    refine xpt X hR hS (x_lvt ((xi_own (X := S) hI (x_unhang_o2 S x1 x2 hI hkq hq2 hN3 hI3 c1 okc1_0 okc1_1 okc1_2) okc1_2))) (xi_kd (X := S) hI ((xi_own (X := S) hI (x_unhang_o2 S x1 x2 hI hkq hq2 hN3 hI3 c1 okc1_0 okc1_1 okc1_2) okc1_2))) 7 (by decide) rfl q378 (Or.inl rfl) rfl dX0_unhang_33 (fun H locs hR hS => ?_)
    refine lv_aload_n hx hb dX0_unhang_36 rfl (lv_at hl 2 rfl) ?_
    refine xg_a X.1 hR 7 (by decide) (by decide) q104 dX0_unhang_37 ?_
    refine lv_iload_n hx hb dX0_unhang_40 rfl (lv_at hl 3 rfl) ?_
    refine x_ldw X hR (ixl 4 4 (by decide) rfl (okc1_0)) (okc1_1) dX0_unhang_41 ?_
    refine xgwo X hR (x_lvw (tn4 (okc1_0)) (okc1_1)) (Or.inr q706) dX0_unhang_42 ?_
    refine lv_iload_n hx hb dX0_unhang_45 rfl (lv_at hl 4 rfl) ?_
    refine s_ci X.1.1 (st_x_kOf l x2) 1 (lw_S q751 q752 q58 q753) ⟨rfl, rfl⟩ (by decide +kernel) ⟨by decide, by decide⟩ ⟨by decide, by decide⟩ rfl hl.1 rfl (Nat.le_of_ble_eq_true rfl) dX0_unhang_46 ?_
    refine lv_null hx hb dX0_unhang_49 ?_
    refine x_sto0 X hR hS (x_lvo (tn4 (okc1_0)) (okc1_1)) (ixl 2 2 (by decide) rfl (hkq)) dX0_unhang_50 (fun H locs hR hS => ?_)
    refine lv_aload hx hb dX0_unhang_51 (lv_at hl 0 rfl) ?_
    refine xgt X hR (x_lvt ((xi_own (X := S) hI (x_unhang_o2 S x1 x2 hI hkq hq2 hN3 hI3 c1 okc1_0 okc1_1 okc1_2) okc1_2))) (xi_kd (X := S) hI ((xi_own (X := S) hI (x_unhang_o2 S x1 x2 hI hkq hq2 hN3 hI3 c1 okc1_0 okc1_1 okc1_2) okc1_2))) 0 (by decide) q357 (Or.inl rfl) ((Eq.refl ((xu S 47 (S.2.2.2 4 (2 * (Int32.toNatClampNeg x1) + (Int32.toNatClampNeg (x_kOf x2))) - 1) (-9)).1 40 (S.2.2.2 4 (2 * (Int32.toNatClampNeg x1) + (Int32.toNatClampNeg (x_kOf x2))) - 1))).trans ((xu_k _ (by decide) _ _ _).trans rfl)) dX0_unhang_53 ?_
    exact x_ri hx hb hrt (rfl) hlk hR hS hQ (if_pos c1) dX0_unhang_56
  · refine lv_iload_n hx hb dX0_unhang_11 rfl (lv_at hl 0 rfl) ?_
    exact x_ri hx hb hrt (rfl) hlk hR hS hQ (if_neg c1) dX0_unhang_12
