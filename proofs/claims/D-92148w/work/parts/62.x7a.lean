/-! PRINTED by gen/run_x7.py -/
set_option maxRecDepth 100000
theorem ne_xabs (b : Int64) (h : ¬ b = 0) : ¬ x_abs b = 0 := by
  unfold x_abs
  split <;> first | exact h | (intro e; apply h; grind)
def x_meet_v69 (S : XS) (x1 : Int32) (x2 : Int32) : Int64 := (x_floorModL ((x_w_exact S (Int32.toNatClampNeg x1)) - (x_w_exact S (Int32.toNatClampNeg x2))) 124416000)
def x_meet_v84 (S : XS) (x1 : Int32) (x2 : Int32) : Int64 := ((Int32.toInt64 (S.1 62 (Int32.toNatClampNeg x1))) - (Int32.toInt64 (S.1 62 (Int32.toNatClampNeg x2))))
def x_meet_j122_s0 (S : XS) (x1 : Int32) (x2 : Int32) : Int64 := (if (x_meet_v84 S x1 x2) ≤ 0 then (x_meet_v69 S x1 x2) else (124416000 - (x_meet_v69 S x1 x2)))
def x_meet (S : XS) (x1 : Int32) (x2 : Int32) : Int32 × XS := (if 0 ≤ (x_needTwo S x1 x2).1 then (if (S.1 64 (Int32.toNatClampNeg x1)) = 0 then ((-4), S) else (if (S.1 64 (Int32.toNatClampNeg x2)) = 0 then ((-4), S) else (if (x_meet_v69 S x1 x2) = 0 then (0, S) else (if (x_meet_v84 S x1 x2) = 0 then ((-9), S) else ((Int64.toInt32 ((((x_meet_j122_s0 S x1 x2) + (x_abs (x_meet_v84 S x1 x2))) - 1) / (x_abs (x_meet_v84 S x1 x2)))), S))))) else ((x_needTwo S x1 x2).1, (x_needTwo S x1 x2).2))
theorem x_meet_N (S : XS) (x1 : Int32) (x2 : Int32) : (x_meet S x1 x2).2.2.2.2 = S.2.2.2 := by
  unfold x_meet
  refine ifI (P := fun (z : Int32 × XS) => z.2.2.2.2 = S.2.2.2) (fun c1 => ?_) (fun c1 => ?_)
  · refine ifI (P := fun (z : Int32 × XS) => z.2.2.2.2 = S.2.2.2) (fun c2 => ?_) (fun c2 => ?_)
    · exact rfl
    · refine ifI (P := fun (z : Int32 × XS) => z.2.2.2.2 = S.2.2.2) (fun c3 => ?_) (fun c3 => ?_)
      · exact rfl
      · refine ifI (P := fun (z : Int32 × XS) => z.2.2.2.2 = S.2.2.2) (fun c4 => ?_) (fun c4 => ?_)
        · exact rfl
        · refine ifI (P := fun (z : Int32 × XS) => z.2.2.2.2 = S.2.2.2) (fun c5 => ?_) (fun c5 => ?_)
          · exact rfl
          · exact rfl
  · have hN3 : (x_needTwo S x1 x2).2.2.2.2 = S.2.2.2 := x_needTwo_N S x1 x2
    exact hN3
theorem x_meet_inv (S : XS) (x1 : Int32) (x2 : Int32) (hI : XInv S) : XInv (x_meet S x1 x2).2 := by
  unfold x_meet
  refine ifI (P := fun (z : Int32 × XS) => XInv z.2) (fun c1 => ?_) (fun c1 => ?_)
  · refine ifI (P := fun (z : Int32 × XS) => XInv z.2) (fun c2 => ?_) (fun c2 => ?_)
    · exact hI
    · refine ifI (P := fun (z : Int32 × XS) => XInv z.2) (fun c3 => ?_) (fun c3 => ?_)
      · exact hI
      · refine ifI (P := fun (z : Int32 × XS) => XInv z.2) (fun c4 => ?_) (fun c4 => ?_)
        · exact hI
        · refine ifI (P := fun (z : Int32 × XS) => XInv z.2) (fun c5 => ?_) (fun c5 => ?_)
          · exact hI
          · exact hI
  · have hI3 : XInv (x_needTwo S x1 x2).2 := x_needTwo_inv S x1 x2 (hI)
    exact hI3
set_option maxHeartbeats 4000000 in
theorem xt_meet (l : Launch) (D : va_G) (d : Nat → ClassId) (A : Nat → Prop) (ad : XK → Nat) (S : XS) (x1 : Int32) (x2 : Int32) (hI : XInv S) : XI l yX0_meet cX0_meet 16 .int (rm_ 3) D d A ad S [.ref (ad (0, 0)), .int x1, .int x2] (x_meet S x1 x2) := by
  refine x_startI RX0 rfl (by decide) (Nat.le_of_ble_eq_true rfl) ?_
  intro p e s m av below meth c ls Q X hrt hlk hl hR hQ
  have hx := X.1.1.1
  have hb := X.1.1.2.1
  have hown := X.1.1.2.2.2.1
  have hts := X.1.1.2.2.2.2
  have hS : va_S A s.heap s.heap [] := va_S.rf
  have hl : lv_has ls 16 [(0, .ref (ad (0, 0))), (1, .int x1), (2, .int x2)] := hl
  refine lv_aload_n hx hb dX0_meet_0 rfl (lv_at hl 0 rfl) ?_
  refine lv_iload_n hx hb dX0_meet_1 rfl (lv_at hl 1 rfl) ?_
  refine lv_iload_n hx hb dX0_meet_2 rfl (lv_at hl 2 rfl) ?_
  refine x_bi hS (xr_V X hR x_lv0 (ci := 0) (fs := x_fs ad S) rfl rfl (xt_needTwo l D d A ad S x1 x2 (hI)) 2 (lw_V q927 q929 qs11 q58 q930) ⟨rfl, rfl⟩ (by decide +kernel) ⟨by decide, by decide⟩ ⟨by decide, by decide⟩ rfl hl.1 rfl (Nat.le_of_ble_eq_true rfl) dX0_meet_3) (fun H locs hR hS => ?_)
  have hN3 : (x_needTwo S x1 x2).2.2.2.2 = S.2.2.2 := x_needTwo_N S x1 x2
  have hI3 : XInv (x_needTwo S x1 x2).2 := x_needTwo_inv S x1 x2 (hI)
  refine lv_istore_n (lv' := [(3, .int (x_needTwo S x1 x2).1), (0, .ref (ad (0, 0))), (1, .int x1), (2, .int x2)]) hx hb dX0_meet_6 rfl hl (by decide) rfl (fun ls hl => ?_)
  refine lv_iload_n hx hb dX0_meet_7 rfl (lv_at hl 0 rfl) ?_
  refine lv_if_ge (tgt := 13) hx hb dX0_meet_8 (by decide) (fun c1 => ?_) (fun c1 => ?_)
  · have okc1 := x_needTwo_ok S x1 x2 hI c1
    have hR : XR D d A ad S H := okc1.1 ▸ hR
    have okc1_0 : 0 ≤ x1 ∧ x1 < 4 := okc1.2.1
    have okc1_1 : 0 ≤ x2 ∧ x2 < 4 := okc1.2.2.1
    have okc1_2 : ¬ S.2.2.2 5 (Int32.toNatClampNeg x1) = 0 := okc1.2.2.2.1
    have okc1_3 : ¬ S.2.2.2 5 (Int32.toNatClampNeg x2) = 0 := okc1.2.2.2.2
    refine lv_aload_n hx hb dX0_meet_13 rfl (lv_at hl 1 rfl) ?_
    refine xg_a X.1 hR 7 (by decide) (by decide) q104 dX0_meet_14 ?_
    refine lv_iload_n hx hb dX0_meet_17 rfl (lv_at hl 2 rfl) ?_
    refine x_ldw X hR (ixl 4 4 (by decide) rfl (okc1_0)) (okc1_2) dX0_meet_18 ?_
    refine lv_astore (lv' := [(4, .ref (ad (70, (Int32.toNatClampNeg x1)))), (3, .int (x_needTwo S x1 x2).1), (0, .ref (ad (0, 0))), (1, .int x1), (2, .int x2)]) hx hb dX0_meet_19 hl (by decide) rfl (fun ls hl => ?_)
    refine lv_aload_n hx hb dX0_meet_21 rfl (lv_at hl 2 rfl) ?_
    refine xg_a X.1 hR 7 (by decide) (by decide) q104 dX0_meet_22 ?_
    refine lv_iload_n hx hb dX0_meet_25 rfl (lv_at hl 4 rfl) ?_
    refine x_ldw X hR (ixl 4 4 (by decide) rfl (okc1_1)) (okc1_3) dX0_meet_26 ?_
    refine lv_astore (lv' := [(5, .ref (ad (70, (Int32.toNatClampNeg x2)))), (4, .ref (ad (70, (Int32.toNatClampNeg x1)))), (3, .int (x_needTwo S x1 x2).1), (0, .ref (ad (0, 0))), (1, .int x1), (2, .int x2)]) hx hb dX0_meet_27 hl (by decide) rfl (fun ls hl => ?_)
    refine lv_aload hx hb dX0_meet_29 (lv_at hl 1 rfl) ?_
    refine xgw X hR (x_lvw (tn4 (okc1_0)) (okc1_2)) 4 (Or.inl (by decide)) (Or.inr q704) rfl dX0_meet_31 ?_
    refine lv_if_eq (tgt := 45) hx hb dX0_meet_34 (by decide) (fun c2 => ?_) (fun c2 => ?_)
    · refine lv_bipush (v := (-4)) hx hb dX0_meet_45 (by decide) ?_
      exact x_ri hx hb hrt (rfl) hlk hR hS hQ (Eq.trans (if_pos c1) (if_pos c2)) dX0_meet_47
    · refine lv_aload hx hb dX0_meet_37 (lv_at hl 0 rfl) ?_
      refine xgw X hR (x_lvw (tn4 (okc1_1)) (okc1_3)) 4 (Or.inl (by decide)) (Or.inr q704) rfl dX0_meet_39 ?_
      refine lv_if_ne (tgt := 48) hx hb dX0_meet_42 (by decide) (fun c3 => ?_) (fun c3 => ?_)
      · refine lv_ldc2 hx hb hown (hts _ q938) dX0_meet_48 ?_
        refine lv_lstore (lv' := [(6, .long 124416000), (5, .ref (ad (70, (Int32.toNatClampNeg x2)))), (4, .ref (ad (70, (Int32.toNatClampNeg x1)))), (3, .int (x_needTwo S x1 x2).1), (0, .ref (ad (0, 0))), (1, .int x1), (2, .int x2)]) hx hb dX0_meet_51 hl (by decide) rfl (fun ls hl => ?_)
        refine lv_aload hx hb dX0_meet_53 (lv_at hl 2 rfl) ?_
        refine x_bl hS (xr_V X hR (x_lvw (tn4 (okc1_0)) (okc1_2)) (ci := 6) (fs := x_tw ad S (Int32.toNatClampNeg x1)) rfl rfl (xt_w_exact l D d A ad S (Int32.toNatClampNeg x1) (hI) (tn4 (okc1_0)) (okc1_2)) 0 (lw_V q939 q940 q941 q77 q942) ⟨rfl, rfl⟩ (by decide +kernel) ⟨by decide, by decide⟩ ⟨by decide, by decide⟩ rfl hl.1 rfl (Nat.le_of_ble_eq_true rfl) dX0_meet_55) (fun H locs hR hS => ?_)
        refine lv_aload hx hb dX0_meet_58 (lv_at hl 1 rfl) ?_
        refine x_bl hS (xr_V X hR (x_lvw (tn4 (okc1_1)) (okc1_3)) (ci := 6) (fs := x_tw ad S (Int32.toNatClampNeg x2)) rfl rfl (xt_w_exact l D d A ad S (Int32.toNatClampNeg x2) (hI) (tn4 (okc1_1)) (okc1_3)) 0 (lw_V q939 q940 q941 q77 q942) ⟨rfl, rfl⟩ (by decide +kernel) ⟨by decide, by decide⟩ ⟨by decide, by decide⟩ rfl hl.1 rfl (Nat.le_of_ble_eq_true rfl) dX0_meet_60) (fun H locs hR hS => ?_)
        refine lv_lsub hx hb dX0_meet_63 ?_
        refine lv_lload hx hb dX0_meet_64 (lv_at hl 0 rfl) ?_
        refine s_cl X.1.1 (st_x_floorModL l ((x_w_exact S (Int32.toNatClampNeg x1)) - (x_w_exact S (Int32.toNatClampNeg x2))) 124416000 (by decide)) 2 (lw_S q944 q945 q74 q946) ⟨rfl, rfl⟩ (by decide +kernel) ⟨by decide, by decide⟩ ⟨by decide, by decide⟩ rfl hl.1 rfl (Nat.le_of_ble_eq_true rfl) dX0_meet_66 ?_
        refine lv_lstore (lv' := [(8, .long (x_meet_v69 S x1 x2)), (6, .long 124416000), (5, .ref (ad (70, (Int32.toNatClampNeg x2)))), (4, .ref (ad (70, (Int32.toNatClampNeg x1)))), (3, .int (x_needTwo S x1 x2).1), (0, .ref (ad (0, 0))), (1, .int x1), (2, .int x2)]) hx hb dX0_meet_69 hl (by decide) rfl (fun ls hl => ?_)
        refine lv_aload hx hb dX0_meet_71 (lv_at hl 3 rfl) ?_
        refine xgw X hR (x_lvw (tn4 (okc1_0)) (okc1_2)) 2 (Or.inl (by decide)) (Or.inr q700) rfl dX0_meet_73 ?_
        refine lv_i2l hx hb dX0_meet_76 rfl ?_
        refine lv_aload hx hb dX0_meet_77 (lv_at hl 2 rfl) ?_
        refine xgw X hR (x_lvw (tn4 (okc1_1)) (okc1_3)) 2 (Or.inl (by decide)) (Or.inr q700) rfl dX0_meet_79 ?_
        refine lv_i2l hx hb dX0_meet_82 rfl ?_
        refine lv_lsub hx hb dX0_meet_83 ?_
        refine lv_lstore (lv' := [(10, .long (x_meet_v84 S x1 x2)), (8, .long (x_meet_v69 S x1 x2)), (6, .long 124416000), (5, .ref (ad (70, (Int32.toNatClampNeg x2)))), (4, .ref (ad (70, (Int32.toNatClampNeg x1)))), (3, .int (x_needTwo S x1 x2).1), (0, .ref (ad (0, 0))), (1, .int x1), (2, .int x2)]) hx hb dX0_meet_84 hl (by decide) rfl (fun ls hl => ?_)
        refine lv_lload hx hb dX0_meet_86 (lv_at hl 1 rfl) ?_
        refine lv_lconst (v := 0) hx hb dX0_meet_88 (by decide) ?_
        refine hl_ne (tgt := 95) hx hb dX0_meet_89 dX0_meet_90 (by decide) (fun c4 => ?_) (fun c4 => ?_)
        · refine lv_lload hx hb dX0_meet_95 (lv_at hl 0 rfl) ?_
          refine lv_lconst (v := 0) hx hb dX0_meet_97 (by decide) ?_
          refine hl_ne (tgt := 105) hx hb dX0_meet_98 dX0_meet_99 (by decide) (fun c5 => ?_) (fun c5 => ?_)
          · refine lv_lload hx hb dX0_meet_105 (lv_at hl 0 rfl) ?_
            refine lv_lconst (v := 0) hx hb dX0_meet_107 (by decide) ?_
            have J8 : ∀ (w7 : Int64) (H : Heap) (locs : List Loc) (ls : Array Slot), w7 = (x_meet_j122_s0 S x1 x2) → XR D d A ad S H → va_S A s.heap H locs → lv_has ls 16 [(10, .long (x_meet_v84 S x1 x2)), (8, .long (x_meet_v69 S x1 x2)), (6, .long 124416000), (5, .ref (ad (70, (Int32.toNatClampNeg x2)))), (4, .ref (ad (70, (Int32.toNatClampNeg x1)))), (3, .int (x_needTwo S x1 x2).1), (0, .ref (ad (0, 0))), (1, .int x1), (2, .int x2)] → W p l e (rm_ 3) s m av below meth c H locs 0 0 Q (F0 m 122 ls [.long w7]) := by
              intro w7 H locs ls ew7 hR hS hl
              subst ew7
              refine lv_lstore (lv' := [(12, .long (x_meet_j122_s0 S x1 x2)), (10, .long (x_meet_v84 S x1 x2)), (8, .long (x_meet_v69 S x1 x2)), (6, .long 124416000), (5, .ref (ad (70, (Int32.toNatClampNeg x2)))), (4, .ref (ad (70, (Int32.toNatClampNeg x1)))), (3, .int (x_needTwo S x1 x2).1), (0, .ref (ad (0, 0))), (1, .int x1), (2, .int x2)]) hx hb dX0_meet_122 hl (by decide) rfl (fun ls hl => ?_)
              refine lv_lload hx hb dX0_meet_124 (lv_at hl 1 rfl) ?_
              refine s_cl X.1.1 (st_x_abs l (x_meet_v84 S x1 x2)) 1 (lw_S q947 q948 q74 q949) ⟨rfl, rfl⟩ (by decide +kernel) ⟨by decide, by decide⟩ ⟨by decide, by decide⟩ rfl hl.1 rfl (Nat.le_of_ble_eq_true rfl) dX0_meet_126 ?_
              refine lv_lstore (lv' := [(14, .long (x_abs (x_meet_v84 S x1 x2))), (12, .long (x_meet_j122_s0 S x1 x2)), (10, .long (x_meet_v84 S x1 x2)), (8, .long (x_meet_v69 S x1 x2)), (6, .long 124416000), (5, .ref (ad (70, (Int32.toNatClampNeg x2)))), (4, .ref (ad (70, (Int32.toNatClampNeg x1)))), (3, .int (x_needTwo S x1 x2).1), (0, .ref (ad (0, 0))), (1, .int x1), (2, .int x2)]) hx hb dX0_meet_129 hl (by decide) rfl (fun ls hl => ?_)
              refine lv_lload hx hb dX0_meet_131 (lv_at hl 1 rfl) ?_
              refine lv_lload hx hb dX0_meet_133 (lv_at hl 0 rfl) ?_
              refine lv_ladd hx hb dX0_meet_135 ?_
              refine lv_lconst (v := 1) hx hb dX0_meet_136 (by decide) ?_
              refine lv_lsub hx hb dX0_meet_137 ?_
              refine lv_lload hx hb dX0_meet_138 (lv_at hl 0 rfl) ?_
              refine lv_ldiv hx hb dX0_meet_140 (ne_xabs _ (by assumption)) ?_
              refine lv_l2i hx hb dX0_meet_141 rfl ?_
              exact x_ri hx hb hrt (rfl) hlk hR hS hQ (Eq.trans (if_pos c1) (Eq.trans (if_neg c2) (Eq.trans (if_neg c3) (Eq.trans (if_neg c4) (if_neg c5))))) dX0_meet_142
            refine hl_le (tgt := 120) hx hb dX0_meet_108 dX0_meet_109 (by decide) (fun c6 => ?_) (fun c6 => ?_)
            · refine lv_lload hx hb dX0_meet_120 (lv_at hl 1 rfl) ?_
              exact J8 _ _ _  _ (Eq.symm (if_pos c6)) hR hS  (lv_sub hl [0, 1, 2, 3, 4, 5, 6, 7, 8] rfl)
            · refine lv_lload hx hb dX0_meet_112 (lv_at hl 2 rfl) ?_
              refine lv_lload hx hb dX0_meet_114 (lv_at hl 1 rfl) ?_
              refine lv_lsub hx hb dX0_meet_116 ?_
              refine lv_goto (tgt := 122) hx hb dX0_meet_117 (by decide) ?_
              exact J8 _ _ _  _ (Eq.symm (if_neg c6)) hR hS  (lv_sub hl [0, 1, 2, 3, 4, 5, 6, 7, 8] rfl)
          · refine lv_bipush (v := (-9)) hx hb dX0_meet_102 (by decide) ?_
            exact x_ri hx hb hrt (rfl) hlk hR hS hQ (Eq.trans (if_pos c1) (Eq.trans (if_neg c2) (Eq.trans (if_neg c3) (Eq.trans (if_neg c4) (if_pos c5))))) dX0_meet_104
        · refine lv_iconst (v := 0) hx hb dX0_meet_93 (by decide) ?_
          exact x_ri hx hb hrt (rfl) hlk hR hS hQ (Eq.trans (if_pos c1) (Eq.trans (if_neg c2) (Eq.trans (if_neg c3) (if_pos c4)))) dX0_meet_94
      · refine lv_bipush (v := (-4)) hx hb dX0_meet_45 (by decide) ?_
        exact x_ri hx hb hrt (rfl) hlk hR hS hQ (Eq.trans (if_pos c1) (Eq.trans (if_neg c2) (if_pos c3))) dX0_meet_47
  · refine lv_iload_n hx hb dX0_meet_11 rfl (lv_at hl 0 rfl) ?_
    exact x_ri hx hb hrt (rfl) hlk hR hS hQ (if_neg c1) dX0_meet_12
def x_offOf_j31_s0 (S : XS) (x1 : Nat) (x2 : Int32) : Int32 := (if x2 = 0 then (x_nextHour (S.1 60 x1)) else (x_nextQuarter (S.1 60 x1)))
def x_offOf_v33 (S : XS) (x1 : Nat) (x2 : Int32) : Int32 := ((x_offOf_j31_s0 S x1 x2) - 1)
theorem x_offOf_o4 (S : XS) (x1 : Nat) (x2 : Int32) (hI : XInv S) (ht : x1 < 4) (h5 : ¬ S.2.2.2 5 x1 = 0) (hk : 0 ≤ x2 ∧ x2 < 2) (ho : ¬ S.2.2.2 4 (2 * x1 + (Int32.toNatClampNeg x2)) = 0) (hP : S.2.2.2 0 (S.2.2.2 4 (2 * x1 + (Int32.toNatClampNeg x2)) - 1) = 1 ∨ S.2.2.2 0 (S.2.2.2 4 (2 * x1 + (Int32.toNatClampNeg x2)) - 1) = 3) (hq : 2 * x1 + (Int32.toNatClampNeg x2) < 8) (hj : (S.2.2.2 4 (2 * x1 + (Int32.toNatClampNeg x2)) - 1) < S.2.2.2 7 0) (hm : 1 ≤ (xw_many S (S.2.2.2 4 (2 * x1 + (Int32.toNatClampNeg x2)) - 1)) ∧ (xw_many S (S.2.2.2 4 (2 * x1 + (Int32.toNatClampNeg x2)) - 1)) ≤ 24) : ¬ (xw_many S (S.2.2.2 4 (2 * x1 + (Int32.toNatClampNeg x2)) - 1)) = 0 := by 
  have bl_x2 := Int32.toInt_lt x2
  try simp only [i_le, i_lt, i_eq, Int32.reduceToInt] at *
  first | (have e_0 := m32 (x := 2) (y := x1) (by (try simp only [Int32.reduceToInt]); omega); (try simp only [Int32.reduceToInt] at e_0)) | skip
  first | (have e_1 := a32 (x := (2 * x1)) (y := (Int32.toNatClampNeg x2)) (by (try simp only [Int32.reduceToInt]); omega); (try simp only [Int32.reduceToInt] at e_1)) | skip
  first | (have e_2 := s32 (x := (S.2.2.2 4 (2 * x1 + (Int32.toNatClampNeg x2)))) (y := 1) (by (try simp only [Int32.reduceToInt]); omega); (try simp only [Int32.reduceToInt] at e_2)) | skip
  try simp only [Int32.reduceToInt] at *
  omega
def x_offOf (S : XS) (x1 : Nat) (x2 : Int32) : Int32 := (x_floorMod ((S.1 50 (S.2.2.2 4 (2 * x1 + (Int32.toNatClampNeg x2)) - 1)) - (x_offOf_v33 S x1 x2)) (xw_many S (S.2.2.2 4 (2 * x1 + (Int32.toNatClampNeg x2)) - 1)))
set_option maxHeartbeats 4000000 in
theorem xt_offOf (l : Launch) (D : va_G) (d : Nat → ClassId) (A : Nat → Prop) (ad : XK → Nat) (S : XS) (x1 : Nat) (x2 : Int32) (hI : XInv S) (ht : x1 < 4) (h5 : ¬ S.2.2.2 5 x1 = 0) (hk : 0 ≤ x2 ∧ x2 < 2) (ho : ¬ S.2.2.2 4 (2 * x1 + (Int32.toNatClampNeg x2)) = 0) (hP : S.2.2.2 0 (S.2.2.2 4 (2 * x1 + (Int32.toNatClampNeg x2)) - 1) = 1 ∨ S.2.2.2 0 (S.2.2.2 4 (2 * x1 + (Int32.toNatClampNeg x2)) - 1) = 3) : XI l yX0_offOf cX0_offOf 5 .int (rm_ 1) D d A ad S [.ref (ad (0, 0)), .ref (ad (70, x1)), .int x2] ((x_offOf S x1 x2), S) := by
  refine x_startI RX0 rfl (by decide) (Nat.le_of_ble_eq_true rfl) ?_
  intro p e s m av below meth c ls Q X hrt hlk hl hR hQ
  have hx := X.1.1.1
  have hb := X.1.1.2.1
  have hown := X.1.1.2.2.2.1
  have hts := X.1.1.2.2.2.2
  have hS : va_S A s.heap s.heap [] := va_S.rf
  have hl : lv_has ls 5 [(0, .ref (ad (0, 0))), (1, .ref (ad (70, x1))), (2, .int x2)] := hl
  have hq : 2 * x1 + (Int32.toNatClampNeg x2) < 8 := tp8 ht hk
  have hj : (S.2.2.2 4 (2 * x1 + (Int32.toNatClampNeg x2)) - 1) < S.2.2.2 7 0 := xi_own hI hq ho
  refine lv_aload_n hx hb dX0_offOf_0 rfl (lv_at hl 1 rfl) ?_
  refine xgwo X hR (x_lvw (ht) (h5)) (Or.inr q706) dX0_offOf_1 ?_
  refine lv_iload_n hx hb dX0_offOf_4 rfl (lv_at hl 2 rfl) ?_
  refine x_ldoE X hR (x_lvo (ht) (h5)) (ixl 2 2 (by decide) rfl (hk)) (n := S.2.2.2 4 (2 * x1 + (Int32.toNatClampNeg x2))) rfl (ho) dX0_offOf_5 ?_
  refine x_castP X hR (x_lvt (hj)) (hP) q423 dX0_offOf_6 ?_
  refine lv_astore_n (lv' := [(3, .ref (ad (40, (S.2.2.2 4 (2 * x1 + (Int32.toNatClampNeg x2)) - 1)))), (0, .ref (ad (0, 0))), (1, .ref (ad (70, x1))), (2, .int x2)]) hx hb dX0_offOf_9 rfl hl (by decide) rfl (fun ls hl => ?_)
  refine lv_iload_n hx hb dX0_offOf_10 rfl (lv_at hl 3 rfl) ?_
  have J3 : ∀ (w2 : Int32) (H : Heap) (locs : List Loc) (ls : Array Slot), w2 = (x_offOf_j31_s0 S x1 x2) → XR D d A ad S H → va_S A s.heap H locs → lv_has ls 5 [(3, .ref (ad (40, (S.2.2.2 4 (2 * x1 + (Int32.toNatClampNeg x2)) - 1)))), (0, .ref (ad (0, 0))), (1, .ref (ad (70, x1))), (2, .int x2)] → W p l e (rm_ 1) s m av below meth c H locs 0 0 Q (F0 m 31 ls [.int w2]) := by
    intro w2 H locs ls ew2 hR hS hl
    subst ew2
    refine lv_iconst (v := 1) hx hb dX0_offOf_31 (by decide) ?_
    refine lv_isub hx hb dX0_offOf_32 ?_
    refine lv_istore (lv' := [(4, .int (x_offOf_v33 S x1 x2)), (3, .ref (ad (40, (S.2.2.2 4 (2 * x1 + (Int32.toNatClampNeg x2)) - 1)))), (0, .ref (ad (0, 0))), (1, .ref (ad (70, x1))), (2, .int x2)]) hx hb dX0_offOf_33 hl (by decide) rfl (fun ls hl => ?_)
    refine lv_aload_n hx hb dX0_offOf_35 rfl (lv_at hl 1 rfl) ?_
    refine xg_at X hR (x_lvt (hj)) (hP) q431 rfl dX0_offOf_36 ?_
    refine lv_iload hx hb dX0_offOf_39 (lv_at hl 0 rfl) ?_
    refine lv_isub hx hb dX0_offOf_41 ?_
    refine lv_aload_n hx hb dX0_offOf_42 rfl (lv_at hl 1 rfl) ?_
    refine vp_many X hR hS (hI) (hj) (hP) q663 hl.1 ⟨by decide, by decide⟩ ⟨by decide, by decide⟩ (Nat.le_of_ble_eq_true rfl) dX0_offOf_43 (fun H locs hR hS => ?_)
    have hm : 1 ≤ (xw_many S (S.2.2.2 4 (2 * x1 + (Int32.toNatClampNeg x2)) - 1)) ∧ (xw_many S (S.2.2.2 4 (2 * x1 + (Int32.toNatClampNeg x2)) - 1)) ≤ 24 := xi_nb hI hj (k13 hP)
    refine s_ci X.1.1 (st_x_floorMod l ((S.1 50 (S.2.2.2 4 (2 * x1 + (Int32.toNatClampNeg x2)) - 1)) - (x_offOf_v33 S x1 x2)) (xw_many S (S.2.2.2 4 (2 * x1 + (Int32.toNatClampNeg x2)) - 1)) (x_offOf_o4 S x1 x2 hI ht h5 hk ho hP hq hj hm)) 2 (lw_S q931 q932 q74 q933) ⟨rfl, rfl⟩ (by decide +kernel) ⟨by decide, by decide⟩ ⟨by decide, by decide⟩ rfl hl.1 rfl (Nat.le_of_ble_eq_true rfl) dX0_offOf_46 ?_
    exact x_ri hx hb hrt (rfl) hlk hR hS hQ (hF1 rfl) dX0_offOf_49
  refine lv_if_ne (tgt := 24) hx hb dX0_offOf_11 (by decide) (fun c1 => ?_) (fun c1 => ?_)
  · refine lv_aload_n hx hb dX0_offOf_24 rfl (lv_at hl 2 rfl) ?_
    refine xgw X hR (x_lvw (ht) (h5)) 0 (Or.inl (by decide)) (Or.inr q696) rfl dX0_offOf_25 ?_
    refine s_ci X.1.1 (st_x_nextQuarter l (S.1 60 x1)) 1 (lw_S q965 q966 q58 q967) ⟨rfl, rfl⟩ (by decide +kernel) ⟨by decide, by decide⟩ ⟨by decide, by decide⟩ rfl hl.1 rfl (Nat.le_of_ble_eq_true rfl) dX0_offOf_28 ?_
    exact J3 _ _ _  _ (Eq.symm (if_neg c1)) hR hS  (lv_sub hl [0, 1, 2, 3] rfl)
  · refine lv_aload_n hx hb dX0_offOf_14 rfl (lv_at hl 2 rfl) ?_
    refine xgw X hR (x_lvw (ht) (h5)) 0 (Or.inl (by decide)) (Or.inr q696) rfl dX0_offOf_15 ?_
    refine s_ci X.1.1 (st_x_nextHour l (S.1 60 x1)) 1 (lw_S q962 q963 q58 q964) ⟨rfl, rfl⟩ (by decide +kernel) ⟨by decide, by decide⟩ ⟨by decide, by decide⟩ rfl hl.1 rfl (Nat.le_of_ble_eq_true rfl) dX0_offOf_18 ?_
    refine lv_goto (tgt := 31) hx hb dX0_offOf_21 (by decide) ?_
    exact J3 _ _ _  _ (Eq.symm (if_pos c1)) hR hS  (lv_sub hl [0, 1, 2, 3] rfl)
def x_right (S : XS) (x1 : Int32) (x2 : Int32) : Int32 × XS := (if 0 ≤ (x_needPlate S x1 x2).1 then (if (x_offOf S (Int32.toNatClampNeg x1) (x_kOf x2)) = 0 then (1, S) else (0, S)) else ((x_needPlate S x1 x2).1, (x_needPlate S x1 x2).2))
theorem x_right_N (S : XS) (x1 : Int32) (x2 : Int32) : (x_right S x1 x2).2.2.2.2 = S.2.2.2 := by
  unfold x_right
  refine ifI (P := fun (z : Int32 × XS) => z.2.2.2.2 = S.2.2.2) (fun c1 => ?_) (fun c1 => ?_)
  · refine ifI (P := fun (z : Int32 × XS) => z.2.2.2.2 = S.2.2.2) (fun c2 => ?_) (fun c2 => ?_)
    · exact rfl
    · exact rfl
  · have hN3 : (x_needPlate S x1 x2).2.2.2.2 = S.2.2.2 := x_needPlate_N S x1 x2
    exact hN3
theorem x_right_inv (S : XS) (x1 : Int32) (x2 : Int32) (hI : XInv S) : XInv (x_right S x1 x2).2 := by
  have hkq : 0 ≤ x_kOf x2 ∧ x_kOf x2 < 2 := x_kOf_b x2
  unfold x_right
  refine ifI (P := fun (z : Int32 × XS) => XInv z.2) (fun c1 => ?_) (fun c1 => ?_)
  · refine ifI (P := fun (z : Int32 × XS) => XInv z.2) (fun c2 => ?_) (fun c2 => ?_)
    · exact hI
    · exact hI
  · have hI3 : XInv (x_needPlate S x1 x2).2 := x_needPlate_inv S x1 x2 (hI)
    exact hI3
set_option maxHeartbeats 4000000 in
theorem xt_right (l : Launch) (D : va_G) (d : Nat → ClassId) (A : Nat → Prop) (ad : XK → Nat) (S : XS) (x1 : Int32) (x2 : Int32) (hI : XInv S) : XI l yX0_right cX0_right 4 .int (rm_ 5) D d A ad S [.ref (ad (0, 0)), .int x1, .int x2] (x_right S x1 x2) := by
  refine x_startI RX0 rfl (by decide) (Nat.le_of_ble_eq_true rfl) ?_
  intro p e s m av below meth c ls Q X hrt hlk hl hR hQ
  have hx := X.1.1.1
  have hb := X.1.1.2.1
  have hown := X.1.1.2.2.2.1
  have hts := X.1.1.2.2.2.2
  have hS : va_S A s.heap s.heap [] := va_S.rf
  have hl : lv_has ls 4 [(0, .ref (ad (0, 0))), (1, .int x1), (2, .int x2)] := hl
  have hkq : 0 ≤ x_kOf x2 ∧ x_kOf x2 < 2 := x_kOf_b x2
  refine lv_aload_n hx hb dX0_right_0 rfl (lv_at hl 0 rfl) ?_
  refine lv_iload_n hx hb dX0_right_1 rfl (lv_at hl 1 rfl) ?_
  refine lv_iload_n hx hb dX0_right_2 rfl (lv_at hl 2 rfl) ?_
  refine x_bi hS (xr_V X hR x_lv0 (ci := 0) (fs := x_fs ad S) rfl rfl (xt_needPlate l D d A ad S x1 x2 (hI)) 2 (lw_V q954 q956 qs12 q58 q957) ⟨rfl, rfl⟩ (by decide +kernel) ⟨by decide, by decide⟩ ⟨by decide, by decide⟩ rfl hl.1 rfl (Nat.le_of_ble_eq_true rfl) dX0_right_3) (fun H locs hR hS => ?_)
  have hN3 : (x_needPlate S x1 x2).2.2.2.2 = S.2.2.2 := x_needPlate_N S x1 x2
  have hI3 : XInv (x_needPlate S x1 x2).2 := x_needPlate_inv S x1 x2 (hI)
  refine lv_istore_n (lv' := [(3, .int (x_needPlate S x1 x2).1), (0, .ref (ad (0, 0))), (1, .int x1), (2, .int x2)]) hx hb dX0_right_6 rfl hl (by decide) rfl (fun ls hl => ?_)
  refine lv_iload_n hx hb dX0_right_7 rfl (lv_at hl 0 rfl) ?_
  refine lv_if_ge (tgt := 15) hx hb dX0_right_8 (by decide) (fun c1 => ?_) (fun c1 => ?_)
  · have okc1 := x_needPlate_ok S x1 x2 hI c1
    have hR : XR D d A ad S H := okc1.1 ▸ hR
    have okc1_0 : 0 ≤ x1 ∧ x1 < 4 := okc1.2.1
    have okc1_1 : ¬ S.2.2.2 5 (Int32.toNatClampNeg x1) = 0 := okc1.2.2.1
    have okc1_2 : ¬ S.2.2.2 4 (2 * (Int32.toNatClampNeg x1) + (Int32.toNatClampNeg (x_kOf x2))) = 0 := okc1.2.2.2.1
    have okc1_3 : S.2.2.2 0 (S.2.2.2 4 (2 * (Int32.toNatClampNeg x1) + (Int32.toNatClampNeg (x_kOf x2))) - 1) = 1 ∨ S.2.2.2 0 (S.2.2.2 4 (2 * (Int32.toNatClampNeg x1) + (Int32.toNatClampNeg (x_kOf x2))) - 1) = 3 := okc1.2.2.2.2
    refine lv_aload_n hx hb dX0_right_15 rfl (lv_at hl 1 rfl) ?_
    refine lv_aload_n hx hb dX0_right_16 rfl (lv_at hl 1 rfl) ?_
    refine xg_a X.1 hR 7 (by decide) (by decide) q104 dX0_right_17 ?_
    refine lv_iload_n hx hb dX0_right_20 rfl (lv_at hl 2 rfl) ?_
    refine x_ldw X hR (ixl 4 4 (by decide) rfl (okc1_0)) (okc1_1) dX0_right_21 ?_
    refine lv_iload_n hx hb dX0_right_22 rfl (lv_at hl 3 rfl) ?_
    refine s_ci X.1.1 (st_x_kOf l x2) 1 (lw_S q751 q752 q58 q753) ⟨rfl, rfl⟩ (by decide +kernel) ⟨by decide, by decide⟩ ⟨by decide, by decide⟩ rfl hl.1 rfl (Nat.le_of_ble_eq_true rfl) dX0_right_23 ?_
    refine x_bi hS (xr_V X hR x_lv0 (ci := 0) (fs := x_fs ad S) rfl rfl (xt_offOf l D d A ad S (Int32.toNatClampNeg x1) (x_kOf x2) (hI) (tn4 (okc1_0)) (okc1_1) (hkq) (okc1_2) (okc1_3)) 2 (lw_V q958 q960 qs13 q58 q961) ⟨rfl, rfl⟩ (by decide +kernel) ⟨by decide, by decide⟩ ⟨by decide, by decide⟩ rfl hl.1 rfl (Nat.le_of_ble_eq_true rfl) dX0_right_26) (fun H locs hR hS => ?_)
    refine lv_if_ne (tgt := 36) hx hb dX0_right_29 (by decide) (fun c2 => ?_) (fun c2 => ?_)
    · refine lv_iconst (v := 0) hx hb dX0_right_36 (by decide) ?_
      exact x_ri hx hb hrt (rfl) hlk hR hS hQ (Eq.trans (if_pos c1) (if_neg c2)) dX0_right_37
    · refine lv_iconst (v := 1) hx hb dX0_right_32 (by decide) ?_
      refine lv_goto (tgt := 37) hx hb dX0_right_33 (by decide) ?_
      exact x_ri hx hb hrt (rfl) hlk hR hS hQ (Eq.trans (if_pos c1) (if_pos c2)) dX0_right_37
  · refine lv_iload_n hx hb dX0_right_11 rfl (lv_at hl 0 rfl) ?_
    refine lv_goto (tgt := 37) hx hb dX0_right_12 (by decide) ?_
    exact x_ri hx hb hrt (rfl) hlk hR hS hQ (if_neg c1) dX0_right_37
def x_off (S : XS) (x1 : Int32) (x2 : Int32) : Int32 × XS := (if 0 ≤ (x_needPlate S x1 x2).1 then ((x_offOf S (Int32.toNatClampNeg x1) (x_kOf x2)), S) else ((x_needPlate S x1 x2).1, (x_needPlate S x1 x2).2))
theorem x_off_N (S : XS) (x1 : Int32) (x2 : Int32) : (x_off S x1 x2).2.2.2.2 = S.2.2.2 := by
  unfold x_off
  refine ifI (P := fun (z : Int32 × XS) => z.2.2.2.2 = S.2.2.2) (fun c1 => ?_) (fun c1 => ?_)
  · exact rfl
  · have hN3 : (x_needPlate S x1 x2).2.2.2.2 = S.2.2.2 := x_needPlate_N S x1 x2
    exact hN3
theorem x_off_inv (S : XS) (x1 : Int32) (x2 : Int32) (hI : XInv S) : XInv (x_off S x1 x2).2 := by
  have hkq : 0 ≤ x_kOf x2 ∧ x_kOf x2 < 2 := x_kOf_b x2
  unfold x_off
  refine ifI (P := fun (z : Int32 × XS) => XInv z.2) (fun c1 => ?_) (fun c1 => ?_)
  · exact hI
  · have hI3 : XInv (x_needPlate S x1 x2).2 := x_needPlate_inv S x1 x2 (hI)
    exact hI3
set_option maxHeartbeats 4000000 in
theorem xt_off (l : Launch) (D : va_G) (d : Nat → ClassId) (A : Nat → Prop) (ad : XK → Nat) (S : XS) (x1 : Int32) (x2 : Int32) (hI : XInv S) : XI l yX0_off cX0_off 4 .int (rm_ 5) D d A ad S [.ref (ad (0, 0)), .int x1, .int x2] (x_off S x1 x2) := by
  refine x_startI RX0 rfl (by decide) (Nat.le_of_ble_eq_true rfl) ?_
  intro p e s m av below meth c ls Q X hrt hlk hl hR hQ
  have hx := X.1.1.1
  have hb := X.1.1.2.1
  have hown := X.1.1.2.2.2.1
  have hts := X.1.1.2.2.2.2
  have hS : va_S A s.heap s.heap [] := va_S.rf
  have hl : lv_has ls 4 [(0, .ref (ad (0, 0))), (1, .int x1), (2, .int x2)] := hl
  have hkq : 0 ≤ x_kOf x2 ∧ x_kOf x2 < 2 := x_kOf_b x2
  refine lv_aload_n hx hb dX0_off_0 rfl (lv_at hl 0 rfl) ?_
  refine lv_iload_n hx hb dX0_off_1 rfl (lv_at hl 1 rfl) ?_
  refine lv_iload_n hx hb dX0_off_2 rfl (lv_at hl 2 rfl) ?_
  refine x_bi hS (xr_V X hR x_lv0 (ci := 0) (fs := x_fs ad S) rfl rfl (xt_needPlate l D d A ad S x1 x2 (hI)) 2 (lw_V q954 q956 qs12 q58 q957) ⟨rfl, rfl⟩ (by decide +kernel) ⟨by decide, by decide⟩ ⟨by decide, by decide⟩ rfl hl.1 rfl (Nat.le_of_ble_eq_true rfl) dX0_off_3) (fun H locs hR hS => ?_)
  have hN3 : (x_needPlate S x1 x2).2.2.2.2 = S.2.2.2 := x_needPlate_N S x1 x2
  have hI3 : XInv (x_needPlate S x1 x2).2 := x_needPlate_inv S x1 x2 (hI)
  refine lv_istore_n (lv' := [(3, .int (x_needPlate S x1 x2).1), (0, .ref (ad (0, 0))), (1, .int x1), (2, .int x2)]) hx hb dX0_off_6 rfl hl (by decide) rfl (fun ls hl => ?_)
  refine lv_iload_n hx hb dX0_off_7 rfl (lv_at hl 0 rfl) ?_
  refine lv_if_ge (tgt := 15) hx hb dX0_off_8 (by decide) (fun c1 => ?_) (fun c1 => ?_)
  · have okc1 := x_needPlate_ok S x1 x2 hI c1
    have hR : XR D d A ad S H := okc1.1 ▸ hR
    have okc1_0 : 0 ≤ x1 ∧ x1 < 4 := okc1.2.1
    have okc1_1 : ¬ S.2.2.2 5 (Int32.toNatClampNeg x1) = 0 := okc1.2.2.1
    have okc1_2 : ¬ S.2.2.2 4 (2 * (Int32.toNatClampNeg x1) + (Int32.toNatClampNeg (x_kOf x2))) = 0 := okc1.2.2.2.1
    have okc1_3 : S.2.2.2 0 (S.2.2.2 4 (2 * (Int32.toNatClampNeg x1) + (Int32.toNatClampNeg (x_kOf x2))) - 1) = 1 ∨ S.2.2.2 0 (S.2.2.2 4 (2 * (Int32.toNatClampNeg x1) + (Int32.toNatClampNeg (x_kOf x2))) - 1) = 3 := okc1.2.2.2.2
    refine lv_aload_n hx hb dX0_off_15 rfl (lv_at hl 1 rfl) ?_
    refine lv_aload_n hx hb dX0_off_16 rfl (lv_at hl 1 rfl) ?_
    refine xg_a X.1 hR 7 (by decide) (by decide) q104 dX0_off_17 ?_
    refine lv_iload_n hx hb dX0_off_20 rfl (lv_at hl 2 rfl) ?_
    refine x_ldw X hR (ixl 4 4 (by decide) rfl (okc1_0)) (okc1_1) dX0_off_21 ?_
    refine lv_iload_n hx hb dX0_off_22 rfl (lv_at hl 3 rfl) ?_
    refine s_ci X.1.1 (st_x_kOf l x2) 1 (lw_S q751 q752 q58 q753) ⟨rfl, rfl⟩ (by decide +kernel) ⟨by decide, by decide⟩ ⟨by decide, by decide⟩ rfl hl.1 rfl (Nat.le_of_ble_eq_true rfl) dX0_off_23 ?_
    refine x_bi hS (xr_V X hR x_lv0 (ci := 0) (fs := x_fs ad S) rfl rfl (xt_offOf l D d A ad S (Int32.toNatClampNeg x1) (x_kOf x2) (hI) (tn4 (okc1_0)) (okc1_1) (hkq) (okc1_2) (okc1_3)) 2 (lw_V q958 q960 qs13 q58 q961) ⟨rfl, rfl⟩ (by decide +kernel) ⟨by decide, by decide⟩ ⟨by decide, by decide⟩ rfl hl.1 rfl (Nat.le_of_ble_eq_true rfl) dX0_off_26) (fun H locs hR hS => ?_)
    exact x_ri hx hb hrt (rfl) hlk hR hS hQ (if_pos c1) dX0_off_29
  · refine lv_iload_n hx hb dX0_off_11 rfl (lv_at hl 0 rfl) ?_
    refine lv_goto (tgt := 29) hx hb dX0_off_12 (by decide) ?_
    exact x_ri hx hb hrt (rfl) hlk hR hS hQ (if_neg c1) dX0_off_29
theorem x_act_o2 (S : XS) (x1 : Int32) (hI : XInv S) (hA : 0 ≤ S.1 9 0 ∧ S.1 9 0 ≤ 48) (c1 : ¬ (x_in x1 0 ((S.1 9 0) - 1)) = 0) : 0 ≤ x1 ∧ x1 < 48 := by 
  have bl_x1 := Int32.toInt_lt x1
  try simp only [x_in_eq] at *
  try simp only [i_le, i_lt, i_eq, Int32.reduceToInt] at *
  first | (have e_0 := s32 (x := (S.1 9 0)) (y := 1) (by (try simp only [Int32.reduceToInt]); omega); (try simp only [Int32.reduceToInt] at e_0)) | skip
  try simp only [Int32.reduceToInt] at *
  omega
def x_act (S : XS) (x1 : Int32) : Int32 := (if (x_in x1 0 ((S.1 9 0) - 1)) = 0 then (-9) else (S.1 10 (Int32.toNatClampNeg x1)))
set_option maxHeartbeats 4000000 in
theorem xt_act (l : Launch) (D : va_G) (d : Nat → ClassId) (A : Nat → Prop) (ad : XK → Nat) (S : XS) (x1 : Int32) (hI : XInv S) : XI l yX0_act cX0_act 2 .int (rm_ 1) D d A ad S [.ref (ad (0, 0)), .int x1] ((x_act S x1), S) := by
  refine x_startI RX0 rfl (by decide) (Nat.le_of_ble_eq_true rfl) ?_
  intro p e s m av below meth c ls Q X hrt hlk hl hR hQ
  have hx := X.1.1.1
  have hb := X.1.1.2.1
  have hown := X.1.1.2.2.2.1
  have hts := X.1.1.2.2.2.2
  have hS : va_S A s.heap s.heap [] := va_S.rf
  have hl : lv_has ls 2 [(0, .ref (ad (0, 0))), (1, .int x1)] := hl
  have hA : 0 ≤ S.1 9 0 ∧ S.1 9 0 ≤ 48 := xi_am hI
  refine lv_iload_n hx hb dX0_act_0 rfl (lv_at hl 1 rfl) ?_
  refine lv_iconst (v := 0) hx hb dX0_act_1 (by decide) ?_
  refine lv_aload_n hx hb dX0_act_2 rfl (lv_at hl 0 rfl) ?_
  refine xg_i X.1 hR 9 (by decide) rfl q106 rfl dX0_act_3 ?_
  refine lv_iconst (v := 1) hx hb dX0_act_6 (by decide) ?_
  refine lv_isub hx hb dX0_act_7 ?_
  refine s_ci X.1.1 (st_x_in l x1 0 ((S.1 9 0) - 1)) 3 (lw_S q280 q281 q58 q282) ⟨rfl, rfl⟩ (by decide +kernel) ⟨by decide, by decide⟩ ⟨by decide, by decide⟩ rfl hl.1 rfl (Nat.le_of_ble_eq_true rfl) dX0_act_8 ?_
  refine lv_if_eq (tgt := 23) hx hb dX0_act_11 (by decide) (fun c1 => ?_) (fun c1 => ?_)
  · refine lv_bipush (v := (-9)) hx hb dX0_act_23 (by decide) ?_
    exact x_ri hx hb hrt (rfl) hlk hR hS hQ (hF1 (if_pos c1)) dX0_act_25
  · refine lv_aload_n hx hb dX0_act_14 rfl (lv_at hl 0 rfl) ?_
    refine xg_a X.1 hR 10 (by decide) (by decide) q107 dX0_act_15 ?_
    refine lv_iload_n hx hb dX0_act_18 rfl (lv_at hl 1 rfl) ?_
    refine x_ld X.1 hR ⟨by decide, rfl⟩ (ixl 48 48 (by decide) rfl (x_act_o2 S x1 hI hA c1)) (v := S.1 10 (Int32.toNatClampNeg x1)) rfl dX0_act_19 ?_
    refine lv_goto (tgt := 25) hx hb dX0_act_20 (by decide) ?_
    exact x_ri hx hb hrt (rfl) hlk hR hS hQ (hF1 (if_neg c1)) dX0_act_25
def x_due (S : XS) (x1 : Int32) (x2 : Int32) (x3 : Int32) (x4 : Int32) (x5 : Int32) : Int32 := (if (x_in x1 1 12) = 0 then (-1) else (if (x_in x2 0 47) = 0 then (-1) else (if (x_isFault x3 x4 x5) = 0 then (-1) else (x_dueOf x1 x2 x3 x4 x5))))
set_option maxHeartbeats 4000000 in
theorem xt_due (l : Launch) (D : va_G) (d : Nat → ClassId) (A : Nat → Prop) (ad : XK → Nat) (S : XS) (x1 : Int32) (x2 : Int32) (x3 : Int32) (x4 : Int32) (x5 : Int32) : XI l yX0_due cX0_due 6 .int (rm_ 2) D d A ad S [.ref (ad (0, 0)), .int x1, .int x2, .int x3, .int x4, .int x5] ((x_due S x1 x2 x3 x4 x5), S) := by
  refine x_startI RX0 rfl (by decide) (Nat.le_of_ble_eq_true rfl) ?_
  intro p e s m av below meth c ls Q X hrt hlk hl hR hQ
  have hx := X.1.1.1
  have hb := X.1.1.2.1
  have hown := X.1.1.2.2.2.1
  have hts := X.1.1.2.2.2.2
  have hS : va_S A s.heap s.heap [] := va_S.rf
  have hl : lv_has ls 6 [(0, .ref (ad (0, 0))), (1, .int x1), (2, .int x2), (3, .int x3), (4, .int x4), (5, .int x5)] := hl
  refine lv_iload_n hx hb dX0_due_0 rfl (lv_at hl 1 rfl) ?_
  refine lv_iconst (v := 1) hx hb dX0_due_1 (by decide) ?_
  refine lv_bipush (v := 12) hx hb dX0_due_2 (by decide) ?_
  refine s_ci X.1.1 (st_x_in l x1 1 12) 3 (lw_S q280 q281 q58 q282) ⟨rfl, rfl⟩ (by decide +kernel) ⟨by decide, by decide⟩ ⟨by decide, by decide⟩ rfl hl.1 rfl (Nat.le_of_ble_eq_true rfl) dX0_due_4 ?_
  refine lv_if_eq (tgt := 44) hx hb dX0_due_7 (by decide) (fun c1 => ?_) (fun c1 => ?_)
  · refine lv_iconst (v := (-1)) hx hb dX0_due_44 (by decide) ?_
    exact x_ri hx hb hrt (rfl) hlk hR hS hQ (hF1 (if_pos c1)) dX0_due_45
  · refine lv_iload_n hx hb dX0_due_10 rfl (lv_at hl 2 rfl) ?_
    refine lv_iconst (v := 0) hx hb dX0_due_11 (by decide) ?_
    refine lv_bipush (v := 47) hx hb dX0_due_12 (by decide) ?_
    refine s_ci X.1.1 (st_x_in l x2 0 47) 3 (lw_S q280 q281 q58 q282) ⟨rfl, rfl⟩ (by decide +kernel) ⟨by decide, by decide⟩ ⟨by decide, by decide⟩ rfl hl.1 rfl (Nat.le_of_ble_eq_true rfl) dX0_due_14 ?_
    refine lv_if_eq (tgt := 44) hx hb dX0_due_17 (by decide) (fun c2 => ?_) (fun c2 => ?_)
    · refine lv_iconst (v := (-1)) hx hb dX0_due_44 (by decide) ?_
      exact x_ri hx hb hrt (rfl) hlk hR hS hQ (hF1 (Eq.trans (if_neg c1) (if_pos c2))) dX0_due_45
    · refine lv_iload_n hx hb dX0_due_20 rfl (lv_at hl 3 rfl) ?_
      refine lv_iload hx hb dX0_due_21 (lv_at hl 4 rfl) ?_
      refine lv_iload hx hb dX0_due_23 (lv_at hl 5 rfl) ?_
      refine s_ci X.1.1 (st_x_isFault l x3 x4 x5) 3 (lw_S q1003 q1004 q58 q1005) ⟨rfl, rfl⟩ (by decide +kernel) ⟨by decide, by decide⟩ ⟨by decide, by decide⟩ rfl hl.1 rfl (Nat.le_of_ble_eq_true rfl) dX0_due_25 ?_
      refine lv_if_eq (tgt := 44) hx hb dX0_due_28 (by decide) (fun c3 => ?_) (fun c3 => ?_)
      · refine lv_iconst (v := (-1)) hx hb dX0_due_44 (by decide) ?_
        exact x_ri hx hb hrt (rfl) hlk hR hS hQ (hF1 (Eq.trans (if_neg c1) (Eq.trans (if_neg c2) (if_pos c3)))) dX0_due_45
      · refine lv_iload_n hx hb dX0_due_31 rfl (lv_at hl 1 rfl) ?_
        refine lv_iload_n hx hb dX0_due_32 rfl (lv_at hl 2 rfl) ?_
        refine lv_iload_n hx hb dX0_due_33 rfl (lv_at hl 3 rfl) ?_
        refine lv_iload hx hb dX0_due_34 (lv_at hl 4 rfl) ?_
        refine lv_iload hx hb dX0_due_36 (lv_at hl 5 rfl) ?_
        refine s_ci X.1.1 (st_x_dueOf l x1 x2 x3 x4 x5) 5 (lw_S q1006 q1007 q58 q1008) ⟨rfl, rfl⟩ (by decide +kernel) ⟨by decide, by decide⟩ ⟨by decide, by decide⟩ rfl hl.1 rfl (Nat.le_of_ble_eq_true rfl) dX0_due_38 ?_
        refine lv_goto (tgt := 45) hx hb dX0_due_41 (by decide) ?_
        exact x_ri hx hb hrt (rfl) hlk hR hS hQ (hF1 (Eq.trans (if_neg c1) (Eq.trans (if_neg c2) (if_neg c3)))) dX0_due_45
theorem x_findings_o2 (x1 : Int32) (c1 : ¬ (x_in x1 1 5) = 0) : 0 ≤ x1 ∧ x1 < 6 := by 
  have bl_x1 := Int32.toInt_lt x1
  try simp only [x_in_eq] at *
  try simp only [i_le, i_lt, i_eq, Int32.reduceToInt] at *
  try simp only [Int32.reduceToInt] at *
  omega
def x_findings (S : XS) (x1 : Int32) : Int32 := (if (x_in x1 1 5) = 0 then (-1) else (S.1 1 (Int32.toNatClampNeg x1)))
set_option maxHeartbeats 4000000 in
theorem xt_findings (l : Launch) (D : va_G) (d : Nat → ClassId) (A : Nat → Prop) (ad : XK → Nat) (S : XS) (x1 : Int32) : XI l yX0_findings cX0_findings 2 .int (rm_ 1) D d A ad S [.ref (ad (0, 0)), .int x1] ((x_findings S x1), S) := by
  refine x_startI RX0 rfl (by decide) (Nat.le_of_ble_eq_true rfl) ?_
  intro p e s m av below meth c ls Q X hrt hlk hl hR hQ
  have hx := X.1.1.1
  have hb := X.1.1.2.1
  have hown := X.1.1.2.2.2.1
  have hts := X.1.1.2.2.2.2
  have hS : va_S A s.heap s.heap [] := va_S.rf
  have hl : lv_has ls 2 [(0, .ref (ad (0, 0))), (1, .int x1)] := hl
  refine lv_iload_n hx hb dX0_findings_0 rfl (lv_at hl 1 rfl) ?_
  refine lv_iconst (v := 1) hx hb dX0_findings_1 (by decide) ?_
  refine lv_iconst (v := 5) hx hb dX0_findings_2 (by decide) ?_
  refine s_ci X.1.1 (st_x_in l x1 1 5) 3 (lw_S q280 q281 q58 q282) ⟨rfl, rfl⟩ (by decide +kernel) ⟨by decide, by decide⟩ ⟨by decide, by decide⟩ rfl hl.1 rfl (Nat.le_of_ble_eq_true rfl) dX0_findings_3 ?_
  refine lv_if_eq (tgt := 18) hx hb dX0_findings_6 (by decide) (fun c1 => ?_) (fun c1 => ?_)
  · refine lv_iconst (v := (-1)) hx hb dX0_findings_18 (by decide) ?_
    exact x_ri hx hb hrt (rfl) hlk hR hS hQ (hF1 (if_pos c1)) dX0_findings_19
  · refine lv_aload_n hx hb dX0_findings_9 rfl (lv_at hl 0 rfl) ?_
    refine xg_a X.1 hR 1 (by decide) (by decide) q97 dX0_findings_10 ?_
    refine lv_iload_n hx hb dX0_findings_13 rfl (lv_at hl 1 rfl) ?_
    refine x_ld X.1 hR ⟨by decide, rfl⟩ (ixl 6 6 (by decide) rfl (x_findings_o2 x1 c1)) (v := S.1 1 (Int32.toNatClampNeg x1)) rfl dX0_findings_14 ?_
    refine lv_goto (tgt := 19) hx hb dX0_findings_15 (by decide) ?_
    exact x_ri hx hb hrt (rfl) hlk hR hS hQ (hF1 (if_neg c1)) dX0_findings_19
def x_faultTold (S : XS) (x1 : Int32) : Int32 := (if x1 = 0 then (S.1 16 0) else (S.1 17 0))
set_option maxHeartbeats 4000000 in
theorem xt_faultTold (l : Launch) (D : va_G) (d : Nat → ClassId) (A : Nat → Prop) (ad : XK → Nat) (S : XS) (x1 : Int32) : XI l yX0_faultTold cX0_faultTold 2 .int (rm_ 0) D d A ad S [.ref (ad (0, 0)), .int x1] ((x_faultTold S x1), S) := by
  refine x_startI RX0 rfl (by decide) (Nat.le_of_ble_eq_true rfl) ?_
  intro p e s m av below meth c ls Q X hrt hlk hl hR hQ
  have hx := X.1.1.1
  have hb := X.1.1.2.1
  have hown := X.1.1.2.2.2.1
  have hts := X.1.1.2.2.2.2
  have hS : va_S A s.heap s.heap [] := va_S.rf
  have hl : lv_has ls 2 [(0, .ref (ad (0, 0))), (1, .int x1)] := hl
  refine lv_iload_n hx hb dX0_faultTold_0 rfl (lv_at hl 1 rfl) ?_
  refine lv_if_eq (tgt := 11) hx hb dX0_faultTold_1 (by decide) (fun c1 => ?_) (fun c1 => ?_)
  · refine lv_aload_n hx hb dX0_faultTold_11 rfl (lv_at hl 0 rfl) ?_
    refine xg_i X.1 hR 16 (by decide) rfl q113 rfl dX0_faultTold_12 ?_
    exact x_ri hx hb hrt (rfl) hlk hR hS hQ (hF1 (if_pos c1)) dX0_faultTold_15
  · refine lv_aload_n hx hb dX0_faultTold_4 rfl (lv_at hl 0 rfl) ?_
    refine xg_i X.1 hR 17 (by decide) rfl q114 rfl dX0_faultTold_5 ?_
    refine lv_goto (tgt := 15) hx hb dX0_faultTold_8 (by decide) ?_
    exact x_ri hx hb hrt (rfl) hlk hR hS hQ (hF1 (if_neg c1)) dX0_faultTold_15
theorem x_chosen_o2 (S : XS) (x1 : Int32) (hI : XInv S) (hA : 0 ≤ S.1 22 0 ∧ S.1 22 0 ≤ 4) (c1 : ¬ (x_in x1 0 ((S.1 22 0) - 1)) = 0) : 0 ≤ x1 ∧ x1 < 4 := by 
  have bl_x1 := Int32.toInt_lt x1
  try simp only [x_in_eq] at *
  try simp only [i_le, i_lt, i_eq, Int32.reduceToInt] at *
  first | (have e_0 := s32 (x := (S.1 22 0)) (y := 1) (by (try simp only [Int32.reduceToInt]); omega); (try simp only [Int32.reduceToInt] at e_0)) | skip
  try simp only [Int32.reduceToInt] at *
  omega
def x_chosen (S : XS) (x1 : Int32) : Int32 := (if (x_in x1 0 ((S.1 22 0) - 1)) = 0 then (-9) else (S.1 23 (Int32.toNatClampNeg x1)))
set_option maxHeartbeats 4000000 in
theorem xt_chosen (l : Launch) (D : va_G) (d : Nat → ClassId) (A : Nat → Prop) (ad : XK → Nat) (S : XS) (x1 : Int32) (hI : XInv S) : XI l yX0_chosen cX0_chosen 2 .int (rm_ 1) D d A ad S [.ref (ad (0, 0)), .int x1] ((x_chosen S x1), S) := by
  refine x_startI RX0 rfl (by decide) (Nat.le_of_ble_eq_true rfl) ?_
  intro p e s m av below meth c ls Q X hrt hlk hl hR hQ
  have hx := X.1.1.1
  have hb := X.1.1.2.1
  have hown := X.1.1.2.2.2.1
  have hts := X.1.1.2.2.2.2
  have hS : va_S A s.heap s.heap [] := va_S.rf
  have hl : lv_has ls 2 [(0, .ref (ad (0, 0))), (1, .int x1)] := hl
  have hA : 0 ≤ S.1 22 0 ∧ S.1 22 0 ≤ 4 := xi_cm hI
  refine lv_iload_n hx hb dX0_chosen_0 rfl (lv_at hl 1 rfl) ?_
  refine lv_iconst (v := 0) hx hb dX0_chosen_1 (by decide) ?_
  refine lv_aload_n hx hb dX0_chosen_2 rfl (lv_at hl 0 rfl) ?_
  refine xg_i X.1 hR 22 (by decide) rfl q119 rfl dX0_chosen_3 ?_
  refine lv_iconst (v := 1) hx hb dX0_chosen_6 (by decide) ?_
  refine lv_isub hx hb dX0_chosen_7 ?_
  refine s_ci X.1.1 (st_x_in l x1 0 ((S.1 22 0) - 1)) 3 (lw_S q280 q281 q58 q282) ⟨rfl, rfl⟩ (by decide +kernel) ⟨by decide, by decide⟩ ⟨by decide, by decide⟩ rfl hl.1 rfl (Nat.le_of_ble_eq_true rfl) dX0_chosen_8 ?_
  refine lv_if_eq (tgt := 23) hx hb dX0_chosen_11 (by decide) (fun c1 => ?_) (fun c1 => ?_)
  · refine lv_bipush (v := (-9)) hx hb dX0_chosen_23 (by decide) ?_
    exact x_ri hx hb hrt (rfl) hlk hR hS hQ (hF1 (if_pos c1)) dX0_chosen_25
  · refine lv_aload_n hx hb dX0_chosen_14 rfl (lv_at hl 0 rfl) ?_
    refine xg_a X.1 hR 23 (by decide) (by decide) q120 dX0_chosen_15 ?_
    refine lv_iload_n hx hb dX0_chosen_18 rfl (lv_at hl 1 rfl) ?_
    refine x_ld X.1 hR ⟨by decide, rfl⟩ (ixl 4 4 (by decide) rfl (x_chosen_o2 S x1 hI hA c1)) (v := S.1 23 (Int32.toNatClampNeg x1)) rfl dX0_chosen_19 ?_
    refine lv_goto (tgt := 25) hx hb dX0_chosen_20 (by decide) ?_
    exact x_ri hx hb hrt (rfl) hlk hR hS hQ (hF1 (if_neg c1)) dX0_chosen_25
theorem x_misfitsOf_o2 (S : XS) (x1 : Nat) (y6_6 : Int32) (hI : XInv S) (hr : x1 < 8) (h3 : ¬ S.2.2.2 3 x1 = 0) (hl48 : 0 ≤ nI (S.2.2.2 3 x1 - 1) ∧ nI (S.2.2.2 3 x1 - 1) ≤ 48) (hi6 : 0 ≤ y6_6) (c1 : ¬ (nI (S.2.2.2 3 x1 - 1)) ≤ y6_6) : 0 ≤ y6_6 ∧ y6_6 < nI (S.2.2.2 3 x1 - 1) := by 
  have bl_y6_6 := Int32.toInt_lt y6_6
  try simp only [i_le, i_lt, i_eq, Int32.reduceToInt] at *
  first | (have e_0 := s32 (x := (S.2.2.2 3 x1)) (y := 1) (by (try simp only [Int32.reduceToInt]); omega); (try simp only [Int32.reduceToInt] at e_0)) | skip
  try simp only [Int32.reduceToInt] at *
  omega
theorem x_misfitsOf_o4 (S : XS) (x1 : Nat) (y6_6 : Int32) (hI : XInv S) (hr : x1 < 8) (h3 : ¬ S.2.2.2 3 x1 = 0) (hl48 : 0 ≤ nI (S.2.2.2 3 x1 - 1) ∧ nI (S.2.2.2 3 x1 - 1) ≤ 48) (hi6 : 0 ≤ y6_6) (c1 : ¬ (nI (S.2.2.2 3 x1 - 1)) ≤ y6_6) (c3 : ¬ (S.2.2.1 3 x1 (Int32.toNatClampNeg y6_6)) < 0) : 0 ≤ y6_6 ∧ y6_6 < nI (S.2.2.2 3 x1 - 1) := by 
  have bl_y6_6 := Int32.toInt_lt y6_6
  try simp only [i_le, i_lt, i_eq, Int32.reduceToInt] at *
  first | (have e_0 := s32 (x := (S.2.2.2 3 x1)) (y := 1) (by (try simp only [Int32.reduceToInt]); omega); (try simp only [Int32.reduceToInt] at e_0)) | skip
  try simp only [Int32.reduceToInt] at *
  omega
def x_misfitsOf_j44_s0 (S : XS) (x1 : Nat) (x2 : Int32) (x3 : Int32) (x4 : Int32) (x5 : Int32) (y6_6 : Int32) : Int32 := (if (S.2.2.1 3 x1 (Int32.toNatClampNeg y6_6)) < 0 then 0 else (if (S.2.2.1 3 x1 (Int32.toNatClampNeg y6_6)) = (x_dueOf x2 y6_6 x3 x4 x5) then 0 else 1))
def x_misfitsOf_v45 (S : XS) (x1 : Nat) (x2 : Int32) (x3 : Int32) (x4 : Int32) (x5 : Int32) (y5_6 : Int32) (y6_6 : Int32) : Int32 := (y5_6 + (x_misfitsOf_j44_s0 S x1 x2 x3 x4 x5 y6_6))
def x_misfitsOf_L6 (S : XS) (x1 : Nat) (x2 : Int32) (x3 : Int32) (x4 : Int32) (x5 : Int32) : Nat → Int32 → Int32 → Int32 × Int32
  | 0, y5_6, y6_6 => (y5_6, y6_6)
  | f6 + 1, y5_6, y6_6 => (if (nI (S.2.2.2 3 x1 - 1)) ≤ y6_6 then (y5_6, y6_6) else (x_misfitsOf_L6 S x1 x2 x3 x4 x5 f6 (x_misfitsOf_v45 S x1 x2 x3 x4 x5 y5_6 y6_6) (y6_6 + 1)))
theorem x_misfitsOf_L6_s (S : XS) (x1 : Nat) (x2 : Int32) (x3 : Int32) (x4 : Int32) (x5 : Int32) (f6 : Nat) (y5_6 : Int32) (y6_6 : Int32) : x_misfitsOf_L6 S x1 x2 x3 x4 x5 (f6 + 1) y5_6 y6_6 = (if (nI (S.2.2.2 3 x1 - 1)) ≤ y6_6 then (y5_6, y6_6) else (x_misfitsOf_L6 S x1 x2 x3 x4 x5 f6 (x_misfitsOf_v45 S x1 x2 x3 x4 x5 y5_6 y6_6) (y6_6 + 1))) := rfl
def x_misfitsOf_R6 (S : XS) (x1 : Nat) (x2 : Int32) (x3 : Int32) (x4 : Int32) (x5 : Int32) : Int32 × Int32 := x_misfitsOf_L6 S x1 x2 x3 x4 x5 (fz ((nI (S.2.2.2 3 x1 - 1) - 0 : Int32).toNatClampNeg + 1)) 0 0
theorem x_misfitsOf_o8 (S : XS) (x1 : Nat) (y6_6 : Int32) (hI : XInv S) (hr : x1 < 8) (h3 : ¬ S.2.2.2 3 x1 = 0) (hl48 : 0 ≤ nI (S.2.2.2 3 x1 - 1) ∧ nI (S.2.2.2 3 x1 - 1) ≤ 48) (hi6 : 0 ≤ y6_6) (c1 : ¬ (nI (S.2.2.2 3 x1 - 1)) ≤ y6_6) : 0 ≤ (y6_6 + 1) := by 
  have bl_y6_6 := Int32.toInt_lt y6_6
  try simp only [i_le, i_lt, i_eq, Int32.reduceToInt] at *
  first | (have e_0 := s32 (x := (S.2.2.2 3 x1)) (y := 1) (by (try simp only [Int32.reduceToInt]); omega); (try simp only [Int32.reduceToInt] at e_0)) | skip
  first | (have e_1 := a32 (x := y6_6) (y := 1) (by (try simp only [Int32.reduceToInt]); omega); (try simp only [Int32.reduceToInt] at e_1)) | skip
  try simp only [Int32.reduceToInt] at *
  omega
theorem x_misfitsOf_o9 (S : XS) (x1 : Nat) (y6_6 : Int32) (hI : XInv S) (hr : x1 < 8) (h3 : ¬ S.2.2.2 3 x1 = 0) (hl48 : 0 ≤ nI (S.2.2.2 3 x1 - 1) ∧ nI (S.2.2.2 3 x1 - 1) ≤ 48) (hi6 : 0 ≤ y6_6) (c1 : ¬ (nI (S.2.2.2 3 x1 - 1)) ≤ y6_6) : y6_6 < nI (S.2.2.2 3 x1 - 1) := by 
  have bl_y6_6 := Int32.toInt_lt y6_6
  try simp only [i_le, i_lt, i_eq, Int32.reduceToInt] at *
  first | (have e_0 := s32 (x := (S.2.2.2 3 x1)) (y := 1) (by (try simp only [Int32.reduceToInt]); omega); (try simp only [Int32.reduceToInt] at e_0)) | skip
  try simp only [Int32.reduceToInt] at *
  omega
def x_misfitsOf (S : XS) (x1 : Nat) (x2 : Int32) (x3 : Int32) (x4 : Int32) (x5 : Int32) : Int32 := (x_misfitsOf_R6 S x1 x2 x3 x4 x5).1
set_option maxHeartbeats 4000000 in
theorem xt_misfitsOf (l : Launch) (D : va_G) (d : Nat → ClassId) (A : Nat → Prop) (ad : XK → Nat) (S : XS) (x1 : Nat) (x2 : Int32) (x3 : Int32) (x4 : Int32) (x5 : Int32) (hI : XInv S) (hr : x1 < 8) (h3 : ¬ S.2.2.2 3 x1 = 0) : XI l yX0_misfitsOf cX0_misfitsOf 7 .int (rm_ 2) D d A ad S [.ref (ad (30, x1)), .int x2, .int x3, .int x4, .int x5] ((x_misfitsOf S x1 x2 x3 x4 x5), S) := by
  refine x_startI RX0 rfl (by decide) (Nat.le_of_ble_eq_true rfl) ?_
  intro p e s m av below meth c ls Q X hrt hlk hl hR hQ
  have hx := X.1.1.1
  have hb := X.1.1.2.1
  have hown := X.1.1.2.2.2.1
  have hts := X.1.1.2.2.2.2
  have hS : va_S A s.heap s.heap [] := va_S.rf
  have hl : lv_has ls 7 [(0, .ref (ad (30, x1))), (1, .int x2), (2, .int x3), (3, .int x4), (4, .int x5)] := hl
  have hl48 : 0 ≤ nI (S.2.2.2 3 x1 - 1) ∧ nI (S.2.2.2 3 x1 - 1) ≤ 48 := xi_rb hI hr
  refine lv_iconst (v := 0) hx hb dX0_misfitsOf_0 (by decide) ?_
  refine lv_istore (lv' := [(5, .int 0), (0, .ref (ad (30, x1))), (1, .int x2), (2, .int x3), (3, .int x4), (4, .int x5)]) hx hb dX0_misfitsOf_1 hl (by decide) rfl (fun ls hl => ?_)
  refine lv_iconst (v := 0) hx hb dX0_misfitsOf_3 (by decide) ?_
  refine lv_istore (lv' := [(6, .int 0), (5, .int 0), (0, .ref (ad (30, x1))), (1, .int x2), (2, .int x3), (3, .int x4), (4, .int x5)]) hx hb dX0_misfitsOf_4 hl (by decide) rfl (fun ls hl => ?_)
  have K6 : ∀ (H : Heap) (locs : List Loc) (ls : Array Slot), XR D d A ad S H → va_S A s.heap H locs → lv_has ls 7 [(6, .int (x_misfitsOf_R6 S x1 x2 x3 x4 x5).2), (5, .int (x_misfitsOf_R6 S x1 x2 x3 x4 x5).1), (0, .ref (ad (30, x1))), (1, .int x2), (2, .int x3), (3, .int x4), (4, .int x5)] → W p l e (rm_ 2) s m av below meth c H locs 0 0 Q (F0 m 53 ls []) := by
    intro H locs ls hR hS hl
    refine lv_iload hx hb dX0_misfitsOf_53 (lv_at hl 1 rfl) ?_
    exact x_ri hx hb hrt (rfl) hlk hR hS hQ (hF1 rfl) dX0_misfitsOf_55
  have L6 : ∀ (f6 : Nat) (y5_6 : Int32) (y6_6 : Int32) (H : Heap) (locs : List Loc) (ls : Array Slot), (nI (S.2.2.2 3 x1 - 1) - y6_6 : Int32).toNatClampNeg < f6 → 0 ≤ y6_6 → x_misfitsOf_L6 S x1 x2 x3 x4 x5 (f6) y5_6 y6_6 = (x_misfitsOf_R6 S x1 x2 x3 x4 x5) → XR D d A ad S H → va_S A s.heap H locs → lv_has ls 7 [(6, .int y6_6), (5, .int y5_6), (0, .ref (ad (30, x1))), (1, .int x2), (2, .int x3), (3, .int x4), (4, .int x5)] → W p l e (rm_ 2) s m av below meth c H locs 0 0 Q (F0 m 6 ls []) := by
    intro f6
    induction f6 with
    | zero => intro y5_6 y6_6 H locs ls hf; exact absurd hf (Nat.not_lt_zero _)
    | succ f6 ih =>
      intro y5_6 y6_6 H locs ls hf hi6 hE hR hS hl
      refine lv_iload hx hb dX0_misfitsOf_6 (lv_at hl 0 rfl) ?_
      refine lv_aload_n hx hb dX0_misfitsOf_8 rfl (lv_at hl 2 rfl) ?_
      refine x_lnr X hR (x_lvr (hr) (h3)) (v := nI (S.2.2.2 3 x1 - 1)) rfl dX0_misfitsOf_9 ?_
      refine lv_icmp_ge (tgt := 53) hx hb dX0_misfitsOf_10 (by decide) (fun c1 => ?_) (fun c1 => ?_)
      · have e0 : (x_misfitsOf_R6 S x1 x2 x3 x4 x5) = (y5_6, y6_6) := Eq.trans (Eq.symm hE) (Eq.trans (x_misfitsOf_L6_s _ _ _ _ _ _ _ _ _) (if_pos c1))
        exact K6 _ _ _ hR hS (by rw [e0]; exact lv_sub hl [0, 1, 2, 3, 4, 5, 6] rfl)
      · refine lv_iload hx hb dX0_misfitsOf_13 (lv_at hl 1 rfl) ?_
        refine lv_aload_n hx hb dX0_misfitsOf_15 rfl (lv_at hl 2 rfl) ?_
        refine lv_iload hx hb dX0_misfitsOf_16 (lv_at hl 0 rfl) ?_
        refine x_ldr X hR (x_lvr (hr) (h3)) (ix_ (xi_rl (X := S) hI (hr)) (x_misfitsOf_o2 S x1 y6_6 hI hr h3 hl48 hi6 c1)) (v := S.2.2.1 3 x1 (Int32.toNatClampNeg y6_6)) rfl dX0_misfitsOf_18 ?_
        have J7 : ∀ (w6 : Int32) (H : Heap) (locs : List Loc) (ls : Array Slot), w6 = (x_misfitsOf_j44_s0 S x1 x2 x3 x4 x5 y6_6) → XR D d A ad S H → va_S A s.heap H locs → lv_has ls 7 [(6, .int y6_6), (5, .int y5_6), (0, .ref (ad (30, x1))), (1, .int x2), (2, .int x3), (3, .int x4), (4, .int x5)] → W p l e (rm_ 2) s m av below meth c H locs 0 0 Q (F0 m 44 ls [.int w6, .int y5_6]) := by
          intro w6 H locs ls ew6 hR hS hl
          subst ew6
          refine lv_iadd hx hb dX0_misfitsOf_44 ?_
          refine lv_istore (lv' := [(5, .int (x_misfitsOf_v45 S x1 x2 x3 x4 x5 y5_6 y6_6)), (6, .int y6_6), (0, .ref (ad (30, x1))), (1, .int x2), (2, .int x3), (3, .int x4), (4, .int x5)]) hx hb dX0_misfitsOf_45 hl (by decide) rfl (fun ls hl => ?_)
          refine lv_iinc (v := (y6_6 + 1)) (lv' := [(6, .int (y6_6 + 1)), (5, .int (x_misfitsOf_v45 S x1 x2 x3 x4 x5 y5_6 y6_6)), (0, .ref (ad (30, x1))), (1, .int x2), (2, .int x3), (3, .int x4), (4, .int x5)]) hx hb dX0_misfitsOf_47 hl (k := 1) rfl rfl (by decide) rfl (fun ls hl => ?_)
          refine lv_goto (tgt := 6) hx hb dX0_misfitsOf_50 (by decide) ?_
          exact ih (x_misfitsOf_v45 S x1 x2 x3 x4 x5 y5_6 y6_6) (y6_6 + 1) _ _  _ (Nat.lt_of_lt_of_le (up_ hi6 (x_misfitsOf_o9 S x1 y6_6 hI hr h3 hl48 hi6 c1)) (Nat.le_of_lt_succ hf)) (x_misfitsOf_o8 S x1 y6_6 hI hr h3 hl48 hi6 c1) (Eq.trans (Eq.symm (Eq.trans (x_misfitsOf_L6_s _ _ _ _ _ _ _ _ _) (if_neg c1))) hE) hR hS (lv_sub hl [0, 1, 2, 3, 4, 5, 6] rfl)
        refine lv_if_lt (tgt := 43) hx hb dX0_misfitsOf_19 (by decide) (fun c3 => ?_) (fun c3 => ?_)
        · refine lv_iconst (v := 0) hx hb dX0_misfitsOf_43 (by decide) ?_
          exact J7 _ _ _  _ (Eq.symm (if_pos c3)) hR hS  (lv_sub hl [0, 1, 2, 3, 4, 5, 6] rfl)
        · refine lv_aload_n hx hb dX0_misfitsOf_22 rfl (lv_at hl 2 rfl) ?_
          refine lv_iload hx hb dX0_misfitsOf_23 (lv_at hl 0 rfl) ?_
          refine x_ldr X hR (x_lvr (hr) (h3)) (ix_ (xi_rl (X := S) hI (hr)) (x_misfitsOf_o4 S x1 y6_6 hI hr h3 hl48 hi6 c1 c3)) (v := S.2.2.1 3 x1 (Int32.toNatClampNeg y6_6)) rfl dX0_misfitsOf_25 ?_
          refine lv_iload_n hx hb dX0_misfitsOf_26 rfl (lv_at hl 3 rfl) ?_
          refine lv_iload hx hb dX0_misfitsOf_27 (lv_at hl 0 rfl) ?_
          refine lv_iload_n hx hb dX0_misfitsOf_29 rfl (lv_at hl 4 rfl) ?_
          refine lv_iload_n hx hb dX0_misfitsOf_30 rfl (lv_at hl 5 rfl) ?_
          refine lv_iload hx hb dX0_misfitsOf_31 (lv_at hl 6 rfl) ?_
          refine s_ci X.1.1 (st_x_dueOf l x2 y6_6 x3 x4 x5) 5 (lw_S q1006 q1007 q58 q1008) ⟨rfl, rfl⟩ (by decide +kernel) ⟨by decide, by decide⟩ ⟨by decide, by decide⟩ rfl hl.1 rfl (Nat.le_of_ble_eq_true rfl) dX0_misfitsOf_33 ?_
          refine lv_icmp_eq (tgt := 43) hx hb dX0_misfitsOf_36 (by decide) (fun c5 => ?_) (fun c5 => ?_)
          · refine lv_iconst (v := 0) hx hb dX0_misfitsOf_43 (by decide) ?_
            exact J7 _ _ _  _ (Eq.symm (Eq.trans (if_neg c3) (if_pos c5))) hR hS  (lv_sub hl [0, 1, 2, 3, 4, 5, 6] rfl)
          · refine lv_iconst (v := 1) hx hb dX0_misfitsOf_39 (by decide) ?_
            refine lv_goto (tgt := 44) hx hb dX0_misfitsOf_40 (by decide) ?_
            exact J7 _ _ _  _ (Eq.symm (Eq.trans (if_neg c3) (if_neg c5))) hR hS  (lv_sub hl [0, 1, 2, 3, 4, 5, 6] rfl)
  exact L6 _ 0 0 _ _  _ (fz_lt _) (by decide) rfl hR hS (lv_sub hl [0, 1, 2, 3, 4, 5, 6] rfl)
def x_misfits (S : XS) (x1 : Int32) (x2 : Int32) (x3 : Int32) (x4 : Int32) (x5 : Int32) : Int32 × XS := (if 0 ≤ (x_needRow S (x_isFault x3 x4 x5) x1 x2).1 then ((x_misfitsOf S (Int32.toNatClampNeg x1) x2 x3 x4 x5), S) else ((x_needRow S (x_isFault x3 x4 x5) x1 x2).1, (x_needRow S (x_isFault x3 x4 x5) x1 x2).2))
theorem x_misfits_N (S : XS) (x1 : Int32) (x2 : Int32) (x3 : Int32) (x4 : Int32) (x5 : Int32) : (x_misfits S x1 x2 x3 x4 x5).2.2.2.2 = S.2.2.2 := by
  unfold x_misfits
  refine ifI (P := fun (z : Int32 × XS) => z.2.2.2.2 = S.2.2.2) (fun c1 => ?_) (fun c1 => ?_)
  · exact rfl
  · have hN11 : (x_needRow S (x_isFault x3 x4 x5) x1 x2).2.2.2.2 = S.2.2.2 := x_needRow_N S (x_isFault x3 x4 x5) x1 x2
    exact hN11
theorem x_misfits_inv (S : XS) (x1 : Int32) (x2 : Int32) (x3 : Int32) (x4 : Int32) (x5 : Int32) (hI : XInv S) : XInv (x_misfits S x1 x2 x3 x4 x5).2 := by
  unfold x_misfits
  refine ifI (P := fun (z : Int32 × XS) => XInv z.2) (fun c1 => ?_) (fun c1 => ?_)
  · exact hI
  · have hI11 : XInv (x_needRow S (x_isFault x3 x4 x5) x1 x2).2 := x_needRow_inv S (x_isFault x3 x4 x5) x1 x2 (hI)
    exact hI11
set_option maxHeartbeats 4000000 in
theorem xt_misfits (l : Launch) (D : va_G) (d : Nat → ClassId) (A : Nat → Prop) (ad : XK → Nat) (S : XS) (x1 : Int32) (x2 : Int32) (x3 : Int32) (x4 : Int32) (x5 : Int32) (hI : XInv S) : XI l yX0_misfits cX0_misfits 7 .int (rm_ 3) D d A ad S [.ref (ad (0, 0)), .int x1, .int x2, .int x3, .int x4, .int x5] (x_misfits S x1 x2 x3 x4 x5) := by
  refine x_startI RX0 rfl (by decide) (Nat.le_of_ble_eq_true rfl) ?_
  intro p e s m av below meth c ls Q X hrt hlk hl hR hQ
  have hx := X.1.1.1
  have hb := X.1.1.2.1
  have hown := X.1.1.2.2.2.1
  have hts := X.1.1.2.2.2.2
  have hS : va_S A s.heap s.heap [] := va_S.rf
  have hl : lv_has ls 7 [(0, .ref (ad (0, 0))), (1, .int x1), (2, .int x2), (3, .int x3), (4, .int x4), (5, .int x5)] := hl
  refine lv_aload_n hx hb dX0_misfits_0 rfl (lv_at hl 0 rfl) ?_
  refine lv_iload_n hx hb dX0_misfits_1 rfl (lv_at hl 3 rfl) ?_
  refine lv_iload hx hb dX0_misfits_2 (lv_at hl 4 rfl) ?_
  refine lv_iload hx hb dX0_misfits_4 (lv_at hl 5 rfl) ?_
  refine s_ci X.1.1 (st_x_isFault l x3 x4 x5) 3 (lw_S q1003 q1004 q58 q1005) ⟨rfl, rfl⟩ (by decide +kernel) ⟨by decide, by decide⟩ ⟨by decide, by decide⟩ rfl hl.1 rfl (Nat.le_of_ble_eq_true rfl) dX0_misfits_6 ?_
  refine lv_iload_n hx hb dX0_misfits_9 rfl (lv_at hl 1 rfl) ?_
  refine lv_iload_n hx hb dX0_misfits_10 rfl (lv_at hl 2 rfl) ?_
  refine x_bi hS (xr_V X hR x_lv0 (ci := 0) (fs := x_fs ad S) rfl rfl (xt_needRow l D d A ad S (x_isFault x3 x4 x5) x1 x2 (hI)) 3 (lw_V q1014 q1016 qs17 q58 q1017) ⟨rfl, rfl⟩ (by decide +kernel) ⟨by decide, by decide⟩ ⟨by decide, by decide⟩ rfl hl.1 rfl (Nat.le_of_ble_eq_true rfl) dX0_misfits_11) (fun H locs hR hS => ?_)
  have hN11 : (x_needRow S (x_isFault x3 x4 x5) x1 x2).2.2.2.2 = S.2.2.2 := x_needRow_N S (x_isFault x3 x4 x5) x1 x2
  have hI11 : XInv (x_needRow S (x_isFault x3 x4 x5) x1 x2).2 := x_needRow_inv S (x_isFault x3 x4 x5) x1 x2 (hI)
  refine lv_istore (lv' := [(6, .int (x_needRow S (x_isFault x3 x4 x5) x1 x2).1), (0, .ref (ad (0, 0))), (1, .int x1), (2, .int x2), (3, .int x3), (4, .int x4), (5, .int x5)]) hx hb dX0_misfits_14 hl (by decide) rfl (fun ls hl => ?_)
  refine lv_iload hx hb dX0_misfits_16 (lv_at hl 0 rfl) ?_
  refine lv_if_ge (tgt := 26) hx hb dX0_misfits_18 (by decide) (fun c1 => ?_) (fun c1 => ?_)
  · have okc1 := x_needRow_ok S (x_isFault x3 x4 x5) x1 x2 hI c1
    have hR : XR D d A ad S H := okc1.1 ▸ hR
    have okc1_0 : 0 ≤ x1 ∧ x1 < 8 := okc1.2.1
    have okc1_1 : 1 ≤ x2 ∧ x2 ≤ 12 := okc1.2.2.1
    have okc1_2 : ¬ (x_isFault x3 x4 x5) = 0 := okc1.2.2.2.1
    have okc1_3 : ¬ S.2.2.2 3 (Int32.toNatClampNeg x1) = 0 := okc1.2.2.2.2
    refine lv_aload_n hx hb dX0_misfits_26 rfl (lv_at hl 1 rfl) ?_
    refine xg_a X.1 hR 3 (by decide) (by decide) q99 dX0_misfits_27 ?_
    refine lv_iload_n hx hb dX0_misfits_30 rfl (lv_at hl 2 rfl) ?_
    refine x_ldR X hR (ixl 8 8 (by decide) rfl (okc1_0)) (okc1_3) dX0_misfits_31 ?_
    refine lv_iload_n hx hb dX0_misfits_32 rfl (lv_at hl 3 rfl) ?_
    refine lv_iload_n hx hb dX0_misfits_33 rfl (lv_at hl 4 rfl) ?_
    refine lv_iload hx hb dX0_misfits_34 (lv_at hl 5 rfl) ?_
    refine lv_iload hx hb dX0_misfits_36 (lv_at hl 6 rfl) ?_
    refine x_bi hS (xr_S X hR (xt_misfitsOf l D d A ad S (Int32.toNatClampNeg x1) x2 x3 x4 x5 (hI) (tn8 (okc1_0)) (okc1_3)) 5 (lw_S q1018 q1019 q58 q1020) ⟨rfl, rfl⟩ (by decide +kernel) ⟨by decide, by decide⟩ ⟨by decide, by decide⟩ rfl hl.1 rfl (Nat.le_of_ble_eq_true rfl) dX0_misfits_38) (fun H locs hR hS => ?_)
    exact x_ri hx hb hrt (rfl) hlk hR hS hQ (if_pos c1) dX0_misfits_41
  · refine lv_iload hx hb dX0_misfits_21 (lv_at hl 0 rfl) ?_
    refine lv_goto (tgt := 41) hx hb dX0_misfits_23 (by decide) ?_
    exact x_ri hx hb hrt (rfl) hlk hR hS hQ (if_neg c1) dX0_misfits_41
