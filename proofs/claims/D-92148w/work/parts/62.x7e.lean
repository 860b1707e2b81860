/-! PRINTED by gen/run_x7.py -/
set_option maxRecDepth 100000
theorem x_windy_o3 (S : XS) (x1 : Int32) (x2 : Int32) (x3 : Int32) (x4 : Int32) (x5 : Int32) (y7_27 : Int32) (hI : XInv S) (hN11 : (x_needRow S (x_isFault x3 x4 x5) x1 x2).2.2.2.2 = S.2.2.2) (hI11 : XInv (x_needRow S (x_isFault x3 x4 x5) x1 x2).2) (c1 : 0 ≤ (x_needRow S (x_isFault x3 x4 x5) x1 x2).1) (okc1_0 : 0 ≤ x1 ∧ x1 < 8) (okc1_1 : 1 ≤ x2 ∧ x2 ≤ 12) (okc1_2 : ¬ (x_isFault x3 x4 x5) = 0) (okc1_3 : ¬ S.2.2.2 3 (Int32.toNatClampNeg x1) = 0) (hl48 : 0 ≤ nI (S.2.2.2 3 (Int32.toNatClampNeg x1) - 1) ∧ nI (S.2.2.2 3 (Int32.toNatClampNeg x1) - 1) ≤ 48) (hi7 : 0 ≤ y7_27) (c2 : ¬ (nI (S.2.2.2 3 (Int32.toNatClampNeg x1) - 1)) ≤ y7_27) : 0 ≤ y7_27 ∧ y7_27 < nI (S.2.2.2 3 (Int32.toNatClampNeg x1) - 1) := by 
  have bl_x1 := Int32.toInt_lt x1
  have bl_x2 := Int32.toInt_lt x2
  have bl_x3 := Int32.toInt_lt x3
  have bl_x4 := Int32.toInt_lt x4
  have bl_x5 := Int32.toInt_lt x5
  have bl_y7_27 := Int32.toInt_lt y7_27
  try simp only [x_in_eq, x_isRow_eq] at *
  try simp only [i_le, i_lt, i_eq, Int32.reduceToInt] at *
  first | (have e_0 := s32 (x := (S.2.2.2 3 (Int32.toNatClampNeg x1))) (y := 1) (by (try simp only [Int32.reduceToInt]); omega); (try simp only [Int32.reduceToInt] at e_0)) | skip
  try simp only [Int32.reduceToInt] at *
  omega
def x_windy_L27 (S : XS) (x1 : Int32) (x2 : Int32) (x3 : Int32) (x4 : Int32) (x5 : Int32) : Nat → Int32 → Int32 × Int32
  | 0, y7_27 => (0, y7_27)
  | f27 + 1, y7_27 => (if (nI (S.2.2.2 3 (Int32.toNatClampNeg x1) - 1)) ≤ y7_27 then (1, y7_27) else (if (S.2.2.1 3 (Int32.toNatClampNeg x1) (Int32.toNatClampNeg y7_27)) ≤ (x_dueOf x2 y7_27 x3 x4 x5) then (x_windy_L27 S x1 x2 x3 x4 x5 f27 (y7_27 + 1)) else (0, y7_27)))
theorem x_windy_L27_s (S : XS) (x1 : Int32) (x2 : Int32) (x3 : Int32) (x4 : Int32) (x5 : Int32) (f27 : Nat) (y7_27 : Int32) : x_windy_L27 S x1 x2 x3 x4 x5 (f27 + 1) y7_27 = (if (nI (S.2.2.2 3 (Int32.toNatClampNeg x1) - 1)) ≤ y7_27 then (1, y7_27) else (if (S.2.2.1 3 (Int32.toNatClampNeg x1) (Int32.toNatClampNeg y7_27)) ≤ (x_dueOf x2 y7_27 x3 x4 x5) then (x_windy_L27 S x1 x2 x3 x4 x5 f27 (y7_27 + 1)) else (0, y7_27))) := rfl
def x_windy_R27 (S : XS) (x1 : Int32) (x2 : Int32) (x3 : Int32) (x4 : Int32) (x5 : Int32) : Int32 × Int32 := x_windy_L27 S x1 x2 x3 x4 x5 (fz ((nI (S.2.2.2 3 (Int32.toNatClampNeg x1) - 1) - 0 : Int32).toNatClampNeg + 1)) 0
theorem x_windy_o5 (S : XS) (x1 : Int32) (x2 : Int32) (x3 : Int32) (x4 : Int32) (x5 : Int32) (y7_27 : Int32) (hI : XInv S) (hN11 : (x_needRow S (x_isFault x3 x4 x5) x1 x2).2.2.2.2 = S.2.2.2) (hI11 : XInv (x_needRow S (x_isFault x3 x4 x5) x1 x2).2) (c1 : 0 ≤ (x_needRow S (x_isFault x3 x4 x5) x1 x2).1) (okc1_0 : 0 ≤ x1 ∧ x1 < 8) (okc1_1 : 1 ≤ x2 ∧ x2 ≤ 12) (okc1_2 : ¬ (x_isFault x3 x4 x5) = 0) (okc1_3 : ¬ S.2.2.2 3 (Int32.toNatClampNeg x1) = 0) (hl48 : 0 ≤ nI (S.2.2.2 3 (Int32.toNatClampNeg x1) - 1) ∧ nI (S.2.2.2 3 (Int32.toNatClampNeg x1) - 1) ≤ 48) (hi7 : 0 ≤ y7_27) (c2 : ¬ (nI (S.2.2.2 3 (Int32.toNatClampNeg x1) - 1)) ≤ y7_27) (c4 : (S.2.2.1 3 (Int32.toNatClampNeg x1) (Int32.toNatClampNeg y7_27)) ≤ (x_dueOf x2 y7_27 x3 x4 x5)) : 0 ≤ (y7_27 + 1) := by 
  have bl_x1 := Int32.toInt_lt x1
  have bl_x2 := Int32.toInt_lt x2
  have bl_x3 := Int32.toInt_lt x3
  have bl_x4 := Int32.toInt_lt x4
  have bl_x5 := Int32.toInt_lt x5
  have bl_y7_27 := Int32.toInt_lt y7_27
  try simp only [x_in_eq, x_isRow_eq] at *
  try simp only [i_le, i_lt, i_eq, Int32.reduceToInt] at *
  first | (have e_0 := s32 (x := (S.2.2.2 3 (Int32.toNatClampNeg x1))) (y := 1) (by (try simp only [Int32.reduceToInt]); omega); (try simp only [Int32.reduceToInt] at e_0)) | skip
  first | (have e_1 := a32 (x := y7_27) (y := 1) (by (try simp only [Int32.reduceToInt]); omega); (try simp only [Int32.reduceToInt] at e_1)) | skip
  try simp only [Int32.reduceToInt] at *
  omega
theorem x_windy_o6 (S : XS) (x1 : Int32) (x2 : Int32) (x3 : Int32) (x4 : Int32) (x5 : Int32) (y7_27 : Int32) (hI : XInv S) (hN11 : (x_needRow S (x_isFault x3 x4 x5) x1 x2).2.2.2.2 = S.2.2.2) (hI11 : XInv (x_needRow S (x_isFault x3 x4 x5) x1 x2).2) (c1 : 0 ≤ (x_needRow S (x_isFault x3 x4 x5) x1 x2).1) (okc1_0 : 0 ≤ x1 ∧ x1 < 8) (okc1_1 : 1 ≤ x2 ∧ x2 ≤ 12) (okc1_2 : ¬ (x_isFault x3 x4 x5) = 0) (okc1_3 : ¬ S.2.2.2 3 (Int32.toNatClampNeg x1) = 0) (hl48 : 0 ≤ nI (S.2.2.2 3 (Int32.toNatClampNeg x1) - 1) ∧ nI (S.2.2.2 3 (Int32.toNatClampNeg x1) - 1) ≤ 48) (hi7 : 0 ≤ y7_27) (c2 : ¬ (nI (S.2.2.2 3 (Int32.toNatClampNeg x1) - 1)) ≤ y7_27) (c4 : (S.2.2.1 3 (Int32.toNatClampNeg x1) (Int32.toNatClampNeg y7_27)) ≤ (x_dueOf x2 y7_27 x3 x4 x5)) : y7_27 < nI (S.2.2.2 3 (Int32.toNatClampNeg x1) - 1) := by 
  have bl_x1 := Int32.toInt_lt x1
  have bl_x2 := Int32.toInt_lt x2
  have bl_x3 := Int32.toInt_lt x3
  have bl_x4 := Int32.toInt_lt x4
  have bl_x5 := Int32.toInt_lt x5
  have bl_y7_27 := Int32.toInt_lt y7_27
  try simp only [x_in_eq, x_isRow_eq] at *
  try simp only [i_le, i_lt, i_eq, Int32.reduceToInt] at *
  first | (have e_0 := s32 (x := (S.2.2.2 3 (Int32.toNatClampNeg x1))) (y := 1) (by (try simp only [Int32.reduceToInt]); omega); (try simp only [Int32.reduceToInt] at e_0)) | skip
  try simp only [Int32.reduceToInt] at *
  omega
def x_windy (S : XS) (x1 : Int32) (x2 : Int32) (x3 : Int32) (x4 : Int32) (x5 : Int32) : Int32 × XS := (if 0 ≤ (x_needRow S (x_isFault x3 x4 x5) x1 x2).1 then (if (x_windy_R27 S x1 x2 x3 x4 x5).1 = 0 then ((x_say S (x_windy_R27 S x1 x2 x3 x4 x5).2 0).1, (x_say S (x_windy_R27 S x1 x2 x3 x4 x5).2 0).2) else (1, S)) else ((x_needRow S (x_isFault x3 x4 x5) x1 x2).1, (x_needRow S (x_isFault x3 x4 x5) x1 x2).2))
theorem x_windy_N (S : XS) (x1 : Int32) (x2 : Int32) (x3 : Int32) (x4 : Int32) (x5 : Int32) : (x_windy S x1 x2 x3 x4 x5).2.2.2.2 = S.2.2.2 := by
  unfold x_windy
  refine ifI (P := fun (z : Int32 × XS) => z.2.2.2.2 = S.2.2.2) (fun c1 => ?_) (fun c1 => ?_)
  · refine ifI (P := fun (z : Int32 × XS) => z.2.2.2.2 = S.2.2.2) (fun cx27 => ?_) (fun cx27 => ?_)
    · have hN66 : (x_say S (x_windy_R27 S x1 x2 x3 x4 x5).2 0).2.2.2.2 = S.2.2.2 := x_say_N S (x_windy_R27 S x1 x2 x3 x4 x5).2 0
      exact hN66
    · exact rfl
  · have hN11 : (x_needRow S (x_isFault x3 x4 x5) x1 x2).2.2.2.2 = S.2.2.2 := x_needRow_N S (x_isFault x3 x4 x5) x1 x2
    exact hN11
theorem x_windy_inv (S : XS) (x1 : Int32) (x2 : Int32) (x3 : Int32) (x4 : Int32) (x5 : Int32) (hI : XInv S) : XInv (x_windy S x1 x2 x3 x4 x5).2 := by
  unfold x_windy
  refine ifI (P := fun (z : Int32 × XS) => XInv z.2) (fun c1 => ?_) (fun c1 => ?_)
  · refine ifI (P := fun (z : Int32 × XS) => XInv z.2) (fun cx27 => ?_) (fun cx27 => ?_)
    · have hI66 : XInv (x_say S (x_windy_R27 S x1 x2 x3 x4 x5).2 0).2 := x_say_invx S (x_windy_R27 S x1 x2 x3 x4 x5).2 0 hI
      exact hI66
    · exact hI
  · have hI11 : XInv (x_needRow S (x_isFault x3 x4 x5) x1 x2).2 := x_needRow_inv S (x_isFault x3 x4 x5) x1 x2 (hI)
    exact hI11
set_option maxHeartbeats 4000000 in
theorem xt_windy (l : Launch) (D : va_G) (d : Nat → ClassId) (A : Nat → Prop) (ad : XK → Nat) (S : XS) (x1 : Int32) (x2 : Int32) (x3 : Int32) (x4 : Int32) (x5 : Int32) (hI : XInv S) : XI l yX0_windy cX0_windy 8 .int (rm_ 3) D d A ad S [.ref (ad (0, 0)), .int x1, .int x2, .int x3, .int x4, .int x5] (x_windy S x1 x2 x3 x4 x5) := by
  refine x_startI RX0 rfl (by decide) (Nat.le_of_ble_eq_true rfl) ?_
  intro p e s m av below meth c ls Q X hrt hlk hl hR hQ
  have hx := X.1.1.1
  have hb := X.1.1.2.1
  have hown := X.1.1.2.2.2.1
  have hts := X.1.1.2.2.2.2
  have hS : va_S A s.heap s.heap [] := va_S.rf
  have hl : lv_has ls 8 [(0, .ref (ad (0, 0))), (1, .int x1), (2, .int x2), (3, .int x3), (4, .int x4), (5, .int x5)] := hl
  refine lv_aload_n hx hb dX0_windy_0 rfl (lv_at hl 0 rfl) ?_
  refine lv_iload_n hx hb dX0_windy_1 rfl (lv_at hl 3 rfl) ?_
  refine lv_iload hx hb dX0_windy_2 (lv_at hl 4 rfl) ?_
  refine lv_iload hx hb dX0_windy_4 (lv_at hl 5 rfl) ?_
  refine s_ci X.1.1 (st_x_isFault l x3 x4 x5) 3 (lw_S q1003 q1004 q58 q1005) ⟨rfl, rfl⟩ (by decide +kernel) ⟨by decide, by decide⟩ ⟨by decide, by decide⟩ rfl hl.1 rfl (Nat.le_of_ble_eq_true rfl) dX0_windy_6 ?_
  refine lv_iload_n hx hb dX0_windy_9 rfl (lv_at hl 1 rfl) ?_
  refine lv_iload_n hx hb dX0_windy_10 rfl (lv_at hl 2 rfl) ?_
  refine x_bi hS (xr_V X hR x_lv0 (ci := 0) (fs := x_fs ad S) rfl rfl (xt_needRow l D d A ad S (x_isFault x3 x4 x5) x1 x2 (hI)) 3 (lw_V q1014 q1016 qs17 q58 q1017) ⟨rfl, rfl⟩ (by decide +kernel) ⟨by decide, by decide⟩ ⟨by decide, by decide⟩ rfl hl.1 rfl (Nat.le_of_ble_eq_true rfl) dX0_windy_11) (fun H locs hR hS => ?_)
  have hN11 : (x_needRow S (x_isFault x3 x4 x5) x1 x2).2.2.2.2 = S.2.2.2 := x_needRow_N S (x_isFault x3 x4 x5) x1 x2
  have hI11 : XInv (x_needRow S (x_isFault x3 x4 x5) x1 x2).2 := x_needRow_inv S (x_isFault x3 x4 x5) x1 x2 (hI)
  refine lv_istore (lv' := [(6, .int (x_needRow S (x_isFault x3 x4 x5) x1 x2).1), (0, .ref (ad (0, 0))), (1, .int x1), (2, .int x2), (3, .int x3), (4, .int x4), (5, .int x5)]) hx hb dX0_windy_14 hl (by decide) rfl (fun ls hl => ?_)
  refine lv_iload hx hb dX0_windy_16 (lv_at hl 0 rfl) ?_
  refine lv_if_ge (tgt := 24) hx hb dX0_windy_18 (by decide) (fun c1 => ?_) (fun c1 => ?_)
  · have okc1 := x_needRow_ok S (x_isFault x3 x4 x5) x1 x2 hI c1
    have hR : XR D d A ad S H := okc1.1 ▸ hR
    have okc1_0 : 0 ≤ x1 ∧ x1 < 8 := okc1.2.1
    have okc1_1 : 1 ≤ x2 ∧ x2 ≤ 12 := okc1.2.2.1
    have okc1_2 : ¬ (x_isFault x3 x4 x5) = 0 := okc1.2.2.2.1
    have okc1_3 : ¬ S.2.2.2 3 (Int32.toNatClampNeg x1) = 0 := okc1.2.2.2.2
    have hl48 : 0 ≤ nI (S.2.2.2 3 (Int32.toNatClampNeg x1) - 1) ∧ nI (S.2.2.2 3 (Int32.toNatClampNeg x1) - 1) ≤ 48 := xi_rb hI (tn8 okc1_0)
    refine lv_iconst (v := 0) hx hb dX0_windy_24 (by decide) ?_
    refine lv_istore (lv' := [(7, .int 0), (6, .int (x_needRow S (x_isFault x3 x4 x5) x1 x2).1), (0, .ref (ad (0, 0))), (1, .int x1), (2, .int x2), (3, .int x3), (4, .int x4), (5, .int x5)]) hx hb dX0_windy_25 hl (by decide) rfl (fun ls hl => ?_)
    have K27b : ∀ (H : Heap) (locs : List Loc) (ls : Array Slot), ¬ (x_windy_R27 S x1 x2 x3 x4 x5).1 = 0 → XR D d A ad S H → va_S A s.heap H locs → lv_has ls 8 [(7, .int (x_windy_R27 S x1 x2 x3 x4 x5).2), (6, .int (x_needRow S (x_isFault x3 x4 x5) x1 x2).1), (0, .ref (ad (0, 0))), (1, .int x1), (2, .int x2), (3, .int x3), (4, .int x4), (5, .int x5)] → W p l e (rm_ 3) s m av below meth c H locs 0 0 Q (F0 m 76 ls []) := by
      intro H locs ls cx27 hR hS hl
      refine lv_iconst (v := 1) hx hb dX0_windy_76 (by decide) ?_
      exact x_ri hx hb hrt (rfl) hlk hR hS hQ (Eq.trans (if_pos c1) (if_neg cx27)) dX0_windy_77
    have K27 : ∀ (H : Heap) (locs : List Loc) (ls : Array Slot), (x_windy_R27 S x1 x2 x3 x4 x5).1 = 0 → XR D d A ad S H → va_S A s.heap H locs → lv_has ls 8 [(7, .int (x_windy_R27 S x1 x2 x3 x4 x5).2), (6, .int (x_needRow S (x_isFault x3 x4 x5) x1 x2).1), (0, .ref (ad (0, 0))), (1, .int x1), (2, .int x2), (3, .int x3), (4, .int x4), (5, .int x5)] → W p l e (rm_ 3) s m av below meth c H locs 0 0 Q (F0 m 62 ls []) := by
      intro H locs ls cx27 hR hS hl
      refine lv_aload_n hx hb dX0_windy_62 rfl (lv_at hl 2 rfl) ?_
      refine lv_iload hx hb dX0_windy_63 (lv_at hl 0 rfl) ?_
      refine lv_iconst (v := 0) hx hb dX0_windy_65 (by decide) ?_
      refine x_bi hS (xr_V X hR x_lv0 (ci := 0) (fs := x_fs ad S) rfl rfl (xt_say l D d A ad S (x_windy_R27 S x1 x2 x3 x4 x5).2 0) 2 (lw_V q991 q993 qs16 q58 q994) ⟨rfl, rfl⟩ (by decide +kernel) ⟨by decide, by decide⟩ ⟨by decide, by decide⟩ rfl hl.1 rfl (Nat.le_of_ble_eq_true rfl) dX0_windy_66) (fun H locs hR hS => ?_)
      have hN66 : (x_say S (x_windy_R27 S x1 x2 x3 x4 x5).2 0).2.2.2.2 = S.2.2.2 := x_say_N S (x_windy_R27 S x1 x2 x3 x4 x5).2 0
      have hI66 : XInv (x_say S (x_windy_R27 S x1 x2 x3 x4 x5).2 0).2 := x_say_invx S (x_windy_R27 S x1 x2 x3 x4 x5).2 0 hI
      exact x_ri hx hb hrt (rfl) hlk hR hS hQ (Eq.trans (if_pos c1) (if_pos cx27)) dX0_windy_69
    have L27 : ∀ (f27 : Nat) (y7_27 : Int32) (H : Heap) (locs : List Loc) (ls : Array Slot), (nI (S.2.2.2 3 (Int32.toNatClampNeg x1) - 1) - y7_27 : Int32).toNatClampNeg < f27 → 0 ≤ y7_27 → x_windy_L27 S x1 x2 x3 x4 x5 (f27) y7_27 = (x_windy_R27 S x1 x2 x3 x4 x5) → XR D d A ad S H → va_S A s.heap H locs → lv_has ls 8 [(7, .int y7_27), (6, .int (x_needRow S (x_isFault x3 x4 x5) x1 x2).1), (0, .ref (ad (0, 0))), (1, .int x1), (2, .int x2), (3, .int x3), (4, .int x4), (5, .int x5)] → W p l e (rm_ 3) s m av below meth c H locs 0 0 Q (F0 m 27 ls []) := by
      intro f27
      induction f27 with
      | zero => intro y7_27 H locs ls hf; exact absurd hf (Nat.not_lt_zero _)
      | succ f27 ih =>
        intro y7_27 H locs ls hf hi7 hE hR hS hl
        refine lv_iload hx hb dX0_windy_27 (lv_at hl 0 rfl) ?_
        refine lv_aload_n hx hb dX0_windy_29 rfl (lv_at hl 2 rfl) ?_
        refine xg_a X.1 hR 3 (by decide) (by decide) q99 dX0_windy_30 ?_
        refine lv_iload_n hx hb dX0_windy_33 rfl (lv_at hl 3 rfl) ?_
        refine x_ldR X hR (ixl 8 8 (by decide) rfl (okc1_0)) (okc1_3) dX0_windy_34 ?_
        refine x_lnr X hR (x_lvr (tn8 (okc1_0)) (okc1_3)) (v := nI (S.2.2.2 3 (Int32.toNatClampNeg x1) - 1)) rfl dX0_windy_35 ?_
        refine lv_icmp_ge (tgt := 76) hx hb dX0_windy_36 (by decide) (fun c2 => ?_) (fun c2 => ?_)
        · have e0 : (x_windy_R27 S x1 x2 x3 x4 x5) = (1, y7_27) := Eq.trans (Eq.symm hE) (Eq.trans (x_windy_L27_s _ _ _ _ _ _ _ _) (if_pos c2))
          exact K27b _ _ _ (by rw [e0]; exact (by decide : ¬ (1 : Int32) = 0)) hR hS (by rw [e0]; exact lv_sub hl [0, 1, 2, 3, 4, 5, 6, 7] rfl)
        · refine lv_aload_n hx hb dX0_windy_39 rfl (lv_at hl 2 rfl) ?_
          refine xg_a X.1 hR 3 (by decide) (by decide) q99 dX0_windy_40 ?_
          refine lv_iload_n hx hb dX0_windy_43 rfl (lv_at hl 3 rfl) ?_
          refine x_ldR X hR (ixl 8 8 (by decide) rfl (okc1_0)) (okc1_3) dX0_windy_44 ?_
          refine lv_iload hx hb dX0_windy_45 (lv_at hl 0 rfl) ?_
          refine x_ldr X hR (x_lvr (tn8 (okc1_0)) (okc1_3)) (ix_ (xi_rl (X := S) hI (tn8 (okc1_0))) (x_windy_o3 S x1 x2 x3 x4 x5 y7_27 hI hN11 hI11 c1 okc1_0 okc1_1 okc1_2 okc1_3 hl48 hi7 c2)) (v := S.2.2.1 3 (Int32.toNatClampNeg x1) (Int32.toNatClampNeg y7_27)) rfl dX0_windy_47 ?_
          refine lv_iload_n hx hb dX0_windy_48 rfl (lv_at hl 4 rfl) ?_
          refine lv_iload hx hb dX0_windy_49 (lv_at hl 0 rfl) ?_
          refine lv_iload_n hx hb dX0_windy_51 rfl (lv_at hl 5 rfl) ?_
          refine lv_iload hx hb dX0_windy_52 (lv_at hl 6 rfl) ?_
          refine lv_iload hx hb dX0_windy_54 (lv_at hl 7 rfl) ?_
          refine s_ci X.1.1 (st_x_dueOf l x2 y7_27 x3 x4 x5) 5 (lw_S q1006 q1007 q58 q1008) ⟨rfl, rfl⟩ (by decide +kernel) ⟨by decide, by decide⟩ ⟨by decide, by decide⟩ rfl hl.1 rfl (Nat.le_of_ble_eq_true rfl) dX0_windy_56 ?_
          refine lv_icmp_le (tgt := 70) hx hb dX0_windy_59 (by decide) (fun c4 => ?_) (fun c4 => ?_)
          · refine lv_iinc (v := (y7_27 + 1)) (lv' := [(7, .int (y7_27 + 1)), (6, .int (x_needRow S (x_isFault x3 x4 x5) x1 x2).1), (0, .ref (ad (0, 0))), (1, .int x1), (2, .int x2), (3, .int x3), (4, .int x4), (5, .int x5)]) hx hb dX0_windy_70 hl (k := 0) rfl rfl (by decide) rfl (fun ls hl => ?_)
            refine lv_goto (tgt := 27) hx hb dX0_windy_73 (by decide) ?_
            exact ih (y7_27 + 1) _ _  _ (Nat.lt_of_lt_of_le (up_ hi7 (x_windy_o6 S x1 x2 x3 x4 x5 y7_27 hI hN11 hI11 c1 okc1_0 okc1_1 okc1_2 okc1_3 hl48 hi7 c2 c4)) (Nat.le_of_lt_succ hf)) (x_windy_o5 S x1 x2 x3 x4 x5 y7_27 hI hN11 hI11 c1 okc1_0 okc1_1 okc1_2 okc1_3 hl48 hi7 c2 c4) (Eq.trans (Eq.symm (Eq.trans (x_windy_L27_s _ _ _ _ _ _ _ _) (Eq.trans (if_neg c2) (if_pos c4)))) hE) hR hS (lv_sub hl [0, 1, 2, 3, 4, 5, 6, 7] rfl)
          · have e0 : (x_windy_R27 S x1 x2 x3 x4 x5) = (0, y7_27) := Eq.trans (Eq.symm hE) (Eq.trans (x_windy_L27_s _ _ _ _ _ _ _ _) (Eq.trans (if_neg c2) (if_neg c4)))
            exact K27 _ _ _ (by rw [e0]) hR hS (by rw [e0]; exact lv_sub hl [0, 1, 2, 3, 4, 5, 6, 7] rfl)
    exact L27 _ 0 _ _  _ (fz_lt _) (by decide) rfl hR hS (lv_sub hl [0, 1, 2, 3, 4, 5, 6, 7] rfl)
  · refine lv_iload hx hb dX0_windy_21 (lv_at hl 0 rfl) ?_
    exact x_ri hx hb hrt (rfl) hlk hR hS hQ (if_neg c1) dX0_windy_23
