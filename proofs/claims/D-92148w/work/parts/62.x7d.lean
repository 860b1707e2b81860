/-! PRINTED by gen/run_x7.py -/
set_option maxRecDepth 100000
def x_explained (S : XS) (x1 : Int32) (x2 : Int32) : Int32 × XS := (if 0 ≤ (x_needRow S 1 x1 x2).1 then (((x_tryFaults S (Int32.toNatClampNeg x1) x2).1 15 0), (x_tryFaults S (Int32.toNatClampNeg x1) x2)) else ((x_needRow S 1 x1 x2).1, (x_needRow S 1 x1 x2).2))
theorem x_explained_N (S : XS) (x1 : Int32) (x2 : Int32) (hI : XInv S) : (x_explained S x1 x2).2.2.2.2 = S.2.2.2 := by
  unfold x_explained
  refine ifI (P := fun (z : Int32 × XS) => z.2.2.2.2 = S.2.2.2) (fun c1 => ?_) (fun c1 => ?_)
  · have okc1_0 : 0 ≤ x1 ∧ x1 < 8 := (x_needRow_ok S 1 x1 x2 hI c1).2.1
    have okc1_3 : ¬ S.2.2.2 3 (Int32.toNatClampNeg x1) = 0 := (x_needRow_ok S 1 x1 x2 hI c1).2.2.2.2
    have hN22 : (x_tryFaults S (Int32.toNatClampNeg x1) x2).2.2.2 = S.2.2.2 := x_tryFaults_N S (Int32.toNatClampNeg x1) x2 (hI) (tn8 (okc1_0)) (okc1_3)
    exact hN22
  · have hN4 : (x_needRow S 1 x1 x2).2.2.2.2 = S.2.2.2 := x_needRow_N S 1 x1 x2
    exact hN4
theorem x_explained_inv (S : XS) (x1 : Int32) (x2 : Int32) (hI : XInv S) : XInv (x_explained S x1 x2).2 := by
  unfold x_explained
  refine ifI (P := fun (z : Int32 × XS) => XInv z.2) (fun c1 => ?_) (fun c1 => ?_)
  · have okc1_0 : 0 ≤ x1 ∧ x1 < 8 := (x_needRow_ok S 1 x1 x2 hI c1).2.1
    have okc1_3 : ¬ S.2.2.2 3 (Int32.toNatClampNeg x1) = 0 := (x_needRow_ok S 1 x1 x2 hI c1).2.2.2.2
    have hI22 : XInv (x_tryFaults S (Int32.toNatClampNeg x1) x2) := x_tryFaults_inv S (Int32.toNatClampNeg x1) x2 (hI) (tn8 (okc1_0)) (okc1_3)
    exact hI22
  · have hI4 : XInv (x_needRow S 1 x1 x2).2 := x_needRow_inv S 1 x1 x2 (hI)
    exact hI4
set_option maxHeartbeats 4000000 in
theorem xt_explained (l : Launch) (D : va_G) (d : Nat → ClassId) (A : Nat → Prop) (ad : XK → Nat) (S : XS) (x1 : Int32) (x2 : Int32) (hI : XInv S) : XI l yX0_explained cX0_explained 4 .int (rm_ 5) D d A ad S [.ref (ad (0, 0)), .int x1, .int x2] (x_explained S x1 x2) := by
  refine x_startI RX0 rfl (by decide) (Nat.le_of_ble_eq_true rfl) ?_
  intro p e s m av below meth c ls Q X hrt hlk hl hR hQ
  have hx := X.1.1.1
  have hb := X.1.1.2.1
  have hown := X.1.1.2.2.2.1
  have hts := X.1.1.2.2.2.2
  have hS : va_S A s.heap s.heap [] := va_S.rf
  have hl : lv_has ls 4 [(0, .ref (ad (0, 0))), (1, .int x1), (2, .int x2)] := hl
  refine lv_aload_n hx hb dX0_explained_0 rfl (lv_at hl 0 rfl) ?_
  refine lv_iconst (v := 1) hx hb dX0_explained_1 (by decide) ?_
  refine lv_iload_n hx hb dX0_explained_2 rfl (lv_at hl 1 rfl) ?_
  refine lv_iload_n hx hb dX0_explained_3 rfl (lv_at hl 2 rfl) ?_
  refine x_bi hS (xr_V X hR x_lv0 (ci := 0) (fs := x_fs ad S) rfl rfl (xt_needRow l D d A ad S 1 x1 x2 (hI)) 3 (lw_V q1014 q1016 qs17 q58 q1017) ⟨rfl, rfl⟩ (by decide +kernel) ⟨by decide, by decide⟩ ⟨by decide, by decide⟩ rfl hl.1 rfl (Nat.le_of_ble_eq_true rfl) dX0_explained_4) (fun H locs hR hS => ?_)
  have hN4 : (x_needRow S 1 x1 x2).2.2.2.2 = S.2.2.2 := x_needRow_N S 1 x1 x2
  have hI4 : XInv (x_needRow S 1 x1 x2).2 := x_needRow_inv S 1 x1 x2 (hI)
  refine lv_istore_n (lv' := [(3, .int (x_needRow S 1 x1 x2).1), (0, .ref (ad (0, 0))), (1, .int x1), (2, .int x2)]) hx hb dX0_explained_7 rfl hl (by decide) rfl (fun ls hl => ?_)
  refine lv_iload_n hx hb dX0_explained_8 rfl (lv_at hl 0 rfl) ?_
  refine lv_if_ge (tgt := 14) hx hb dX0_explained_9 (by decide) (fun c1 => ?_) (fun c1 => ?_)
  · have okc1 := x_needRow_ok S 1 x1 x2 hI c1
    have hR : XR D d A ad S H := okc1.1 ▸ hR
    have okc1_0 : 0 ≤ x1 ∧ x1 < 8 := okc1.2.1
    have okc1_1 : 1 ≤ x2 ∧ x2 ≤ 12 := okc1.2.2.1
    have okc1_2 : ¬ (1 : Int32) = 0 := okc1.2.2.2.1
    have okc1_3 : ¬ S.2.2.2 3 (Int32.toNatClampNeg x1) = 0 := okc1.2.2.2.2
    refine lv_aload_n hx hb dX0_explained_14 rfl (lv_at hl 1 rfl) ?_
    refine lv_aload_n hx hb dX0_explained_15 rfl (lv_at hl 1 rfl) ?_
    refine xg_a X.1 hR 3 (by decide) (by decide) q99 dX0_explained_16 ?_
    refine lv_iload_n hx hb dX0_explained_19 rfl (lv_at hl 2 rfl) ?_
    refine x_ldR X hR (ixl 8 8 (by decide) rfl (okc1_0)) (okc1_3) dX0_explained_20 ?_
    refine lv_iload_n hx hb dX0_explained_21 rfl (lv_at hl 3 rfl) ?_
    refine x_bv hS (xr_V X hR x_lv0 (ci := 0) (fs := x_fs ad S) rfl rfl (xt_tryFaults l D d A ad S (Int32.toNatClampNeg x1) x2 (hI) (tn8 (okc1_0)) (okc1_3)) 2 (lw_V q1025 q1027 qs18 q58 q1028) ⟨rfl, rfl⟩ (by decide +kernel) ⟨by decide, by decide⟩ ⟨by decide, by decide⟩ rfl hl.1 rfl (Nat.le_of_ble_eq_true rfl) dX0_explained_22) (fun H locs hR hS => ?_)
    have hN22 : (x_tryFaults S (Int32.toNatClampNeg x1) x2).2.2.2 = S.2.2.2 := x_tryFaults_N S (Int32.toNatClampNeg x1) x2 (hI) (tn8 (okc1_0)) (okc1_3)
    have hI22 : XInv (x_tryFaults S (Int32.toNatClampNeg x1) x2) := x_tryFaults_inv S (Int32.toNatClampNeg x1) x2 (hI) (tn8 (okc1_0)) (okc1_3)
    refine lv_aload_n hx hb dX0_explained_25 rfl (lv_at hl 1 rfl) ?_
    refine xg_i X.1 hR 15 (by decide) rfl q112 rfl dX0_explained_26 ?_
    exact x_ri hx hb hrt (rfl) hlk hR hS hQ (if_pos c1) dX0_explained_29
  · refine lv_iload_n hx hb dX0_explained_12 rfl (lv_at hl 0 rfl) ?_
    exact x_ri hx hb hrt (rfl) hlk hR hS hQ (if_neg c1) dX0_explained_13
