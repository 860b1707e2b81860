/-! PRINTED by gen/run_x7.py -/
set_option maxRecDepth 100000
def x_tryFault_j27_s0 (S : XS) (x1 : Nat) (x2 : Int32) (x3 : Int32) (x4 : Int32) (x5 : Int32) : Int32 := (if (x_misfitsOf S x1 x2 x3 x4 x5) = 0 then 1 else 0)
def x_tryFault_j72_s0 (x3 : Int32) (x4 : Int32) : Int32 := (if x3 = 0 then (-9) else x4)
def x_tryFault (S : XS) (x1 : Nat) (x2 : Int32) (x3 : Int32) (x4 : Int32) (x5 : Int32) : XS := (if (S.1 14 0) = (-9) then (if x3 = 0 then (xu (xu (xu (xu (xu S 15 0 ((S.1 15 0) + (x_tryFault_j27_s0 S x1 x2 x3 x4 x5))) 14 0 (x_misfitsOf S x1 x2 x3 x4 x5)) 11 0 x3) 12 0 (x_tryFault_j72_s0 x3 x4)) 13 0 (-9)) else (if x3 = 3 then (xu (xu (xu (xu (xu S 15 0 ((S.1 15 0) + (x_tryFault_j27_s0 S x1 x2 x3 x4 x5))) 14 0 (x_misfitsOf S x1 x2 x3 x4 x5)) 11 0 x3) 12 0 (x_tryFault_j72_s0 x3 x4)) 13 0 (-9)) else (xu (xu (xu (xu (xu S 15 0 ((S.1 15 0) + (x_tryFault_j27_s0 S x1 x2 x3 x4 x5))) 14 0 (x_misfitsOf S x1 x2 x3 x4 x5)) 11 0 x3) 12 0 (x_tryFault_j72_s0 x3 x4)) 13 0 x5))) else (if (S.1 14 0) ≤ (x_misfitsOf S x1 x2 x3 x4 x5) then (xu S 15 0 ((S.1 15 0) + (x_tryFault_j27_s0 S x1 x2 x3 x4 x5))) else (if x3 = 0 then (xu (xu (xu (xu (xu S 15 0 ((S.1 15 0) + (x_tryFault_j27_s0 S x1 x2 x3 x4 x5))) 14 0 (x_misfitsOf S x1 x2 x3 x4 x5)) 11 0 x3) 12 0 (x_tryFault_j72_s0 x3 x4)) 13 0 (-9)) else (if x3 = 3 then (xu (xu (xu (xu (xu S 15 0 ((S.1 15 0) + (x_tryFault_j27_s0 S x1 x2 x3 x4 x5))) 14 0 (x_misfitsOf S x1 x2 x3 x4 x5)) 11 0 x3) 12 0 (x_tryFault_j72_s0 x3 x4)) 13 0 (-9)) else (xu (xu (xu (xu (xu S 15 0 ((S.1 15 0) + (x_tryFault_j27_s0 S x1 x2 x3 x4 x5))) 14 0 (x_misfitsOf S x1 x2 x3 x4 x5)) 11 0 x3) 12 0 (x_tryFault_j72_s0 x3 x4)) 13 0 x5)))))
theorem x_tryFault_N (S : XS) (x1 : Nat) (x2 : Int32) (x3 : Int32) (x4 : Int32) (x5 : Int32) : (x_tryFault S x1 x2 x3 x4 x5).2.2.2 = S.2.2.2 := by
  unfold x_tryFault
  refine ifI (P := fun (z : XS) => z.2.2.2 = S.2.2.2) (fun c4 => ?_) (fun c4 => ?_)
  · refine ifI (P := fun (z : XS) => z.2.2.2 = S.2.2.2) (fun c8 => ?_) (fun c8 => ?_)
    · exact rfl
    · refine ifI (P := fun (z : XS) => z.2.2.2 = S.2.2.2) (fun c9 => ?_) (fun c9 => ?_)
      · exact rfl
      · exact rfl
  · refine ifI (P := fun (z : XS) => z.2.2.2 = S.2.2.2) (fun c10 => ?_) (fun c10 => ?_)
    · exact rfl
    · refine ifI (P := fun (z : XS) => z.2.2.2 = S.2.2.2) (fun c14 => ?_) (fun c14 => ?_)
      · exact rfl
      · refine ifI (P := fun (z : XS) => z.2.2.2 = S.2.2.2) (fun c15 => ?_) (fun c15 => ?_)
        · exact rfl
        · exact rfl
theorem x_tryFault_inv (S : XS) (x1 : Nat) (x2 : Int32) (x3 : Int32) (x4 : Int32) (x5 : Int32) (hI : XInv S) (hr : x1 < 8) (h3 : ¬ S.2.2.2 3 x1 = 0) : XInv (x_tryFault S x1 x2 x3 x4 x5) := by
  unfold x_tryFault
  refine ifI (P := fun (z : XS) => XInv z) (fun c4 => ?_) (fun c4 => ?_)
  · refine ifI (P := fun (z : XS) => XInv z) (fun c8 => ?_) (fun c8 => ?_)
    · exact (XInv_xu (XInv_xu (XInv_xu (XInv_xu (XInv_xu hI _ _ _ (by decide)) _ _ _ (by decide)) _ _ _ (by decide)) _ _ _ (by decide)) _ _ _ (by decide))
    · refine ifI (P := fun (z : XS) => XInv z) (fun c9 => ?_) (fun c9 => ?_)
      · exact (XInv_xu (XInv_xu (XInv_xu (XInv_xu (XInv_xu hI _ _ _ (by decide)) _ _ _ (by decide)) _ _ _ (by decide)) _ _ _ (by decide)) _ _ _ (by decide))
      · exact (XInv_xu (XInv_xu (XInv_xu (XInv_xu (XInv_xu hI _ _ _ (by decide)) _ _ _ (by decide)) _ _ _ (by decide)) _ _ _ (by decide)) _ _ _ (by decide))
  · refine ifI (P := fun (z : XS) => XInv z) (fun c10 => ?_) (fun c10 => ?_)
    · exact (XInv_xu hI _ _ _ (by decide))
    · refine ifI (P := fun (z : XS) => XInv z) (fun c14 => ?_) (fun c14 => ?_)
      · exact (XInv_xu (XInv_xu (XInv_xu (XInv_xu (XInv_xu hI _ _ _ (by decide)) _ _ _ (by decide)) _ _ _ (by decide)) _ _ _ (by decide)) _ _ _ (by decide))
      · refine ifI (P := fun (z : XS) => XInv z) (fun c15 => ?_) (fun c15 => ?_)
        · exact (XInv_xu (XInv_xu (XInv_xu (XInv_xu (XInv_xu hI _ _ _ (by decide)) _ _ _ (by decide)) _ _ _ (by decide)) _ _ _ (by decide)) _ _ _ (by decide))
        · exact (XInv_xu (XInv_xu (XInv_xu (XInv_xu (XInv_xu hI _ _ _ (by decide)) _ _ _ (by decide)) _ _ _ (by decide)) _ _ _ (by decide)) _ _ _ (by decide))
set_option maxHeartbeats 4000000 in
theorem xt_tryFault (l : Launch) (D : va_G) (d : Nat → ClassId) (A : Nat → Prop) (ad : XK → Nat) (S : XS) (x1 : Nat) (x2 : Int32) (x3 : Int32) (x4 : Int32) (x5 : Int32) (hI : XInv S) (hr : x1 < 8) (h3 : ¬ S.2.2.2 3 x1 = 0) : XV l yX0_tryFault cX0_tryFault 7 (rm_ 3) D d A ad S [.ref (ad (0, 0)), .ref (ad (30, x1)), .int x2, .int x3, .int x4, .int x5] (x_tryFault S x1 x2 x3 x4 x5) := by
  refine x_startV RX0 rfl (by decide) (Nat.le_of_ble_eq_true rfl) ?_
  intro p e s m av below meth c ls Q X hrt hlk hl hR hQ
  have hx := X.1.1.1
  have hb := X.1.1.2.1
  have hown := X.1.1.2.2.2.1
  have hts := X.1.1.2.2.2.2
  have hS : va_S A s.heap s.heap [] := va_S.rf
  have hl : lv_has ls 7 [(0, .ref (ad (0, 0))), (1, .ref (ad (30, x1))), (2, .int x2), (3, .int x3), (4, .int x4), (5, .int x5)] := hl
  refine lv_aload_n hx hb dX0_tryFault_0 rfl (lv_at hl 1 rfl) ?_
  refine lv_iload_n hx hb dX0_tryFault_1 rfl (lv_at hl 2 rfl) ?_
  refine lv_iload_n hx hb dX0_tryFault_2 rfl (lv_at hl 3 rfl) ?_
  refine lv_iload hx hb dX0_tryFault_3 (lv_at hl 4 rfl) ?_
  refine lv_iload hx hb dX0_tryFault_5 (lv_at hl 5 rfl) ?_
  refine x_bi hS (xr_S X hR (xt_misfitsOf l D d A ad S x1 x2 x3 x4 x5 (hI) (hr) (h3)) 5 (lw_S q1018 q1019 q58 q1020) ⟨rfl, rfl⟩ (by decide +kernel) ⟨by decide, by decide⟩ ⟨by decide, by decide⟩ rfl hl.1 rfl (Nat.le_of_ble_eq_true rfl) dX0_tryFault_7) (fun H locs hR hS => ?_)
  refine lv_istore (lv' := [(6, .int (x_misfitsOf S x1 x2 x3 x4 x5)), (0, .ref (ad (0, 0))), (1, .ref (ad (30, x1))), (2, .int x2), (3, .int x3), (4, .int x4), (5, .int x5)]) hx hb dX0_tryFault_10 hl (by decide) rfl (fun ls hl => ?_)
  refine lv_aload_n hx hb dX0_tryFault_12 rfl (lv_at hl 1 rfl) ?_
  refine lv_dup hx hb dX0_tryFault_13 rfl ?_
  refine xg_i X.1 hR 15 (by decide) rfl q112 rfl dX0_tryFault_14 ?_
  refine lv_iload hx hb dX0_tryFault_17 (lv_at hl 0 rfl) ?_
  have J3 : ∀ (w2 : Int32) (H : Heap) (locs : List Loc) (ls : Array Slot), w2 = (x_tryFault_j27_s0 S x1 x2 x3 x4 x5) → XR D d A ad S H → va_S A s.heap H locs → lv_has ls 7 [(6, .int (x_misfitsOf S x1 x2 x3 x4 x5)), (0, .ref (ad (0, 0))), (1, .ref (ad (30, x1))), (2, .int x2), (3, .int x3), (4, .int x4), (5, .int x5)] → W p l e (rm_ 3) s m av below meth c H locs 0 0 Q (F0 m 27 ls [.int w2, .int (S.1 15 0), .ref (ad (0, 0))]) := by
    intro w2 H locs ls ew2 hR hS hl
    subst ew2
    refine lv_iadd hx hb dX0_tryFault_27 ?_
    refine xp_i X.1 hR hS 15 (by decide) rfl rfl rfl q112 dX0_tryFault_28 (fun H locs hR hS => ?_)
    refine lv_aload_n hx hb dX0_tryFault_31 rfl (lv_at hl 1 rfl) ?_
    refine xg_i X.1 hR 14 (by decide) rfl q111 ((xu_k _ (by decide) _ _ _).trans rfl) dX0_tryFault_32 ?_
    refine lv_bipush (v := (-9)) hx hb dX0_tryFault_35 (by decide) ?_
    refine lv_icmp_eq (tgt := 49) hx hb dX0_tryFault_37 (by decide) (fun c4 => ?_) (fun c4 => ?_)
    · refine lv_aload_n hx hb dX0_tryFault_49 rfl (lv_at hl 1 rfl) ?_
      refine lv_iload hx hb dX0_tryFault_50 (lv_at hl 0 rfl) ?_
      refine xp_i X.1 hR hS 14 (by decide) rfl rfl rfl q111 dX0_tryFault_52 (fun H locs hR hS => ?_)
      refine lv_aload_n hx hb dX0_tryFault_55 rfl (lv_at hl 1 rfl) ?_
      refine lv_iload_n hx hb dX0_tryFault_56 rfl (lv_at hl 4 rfl) ?_
      refine xp_i X.1 hR hS 11 (by decide) rfl rfl rfl q108 dX0_tryFault_57 (fun H locs hR hS => ?_)
      refine lv_aload_n hx hb dX0_tryFault_60 rfl (lv_at hl 1 rfl) ?_
      refine lv_iload_n hx hb dX0_tryFault_61 rfl (lv_at hl 4 rfl) ?_
      have J7 : ∀ (w6 : Int32) (H : Heap) (locs : List Loc) (ls : Array Slot), w6 = (x_tryFault_j72_s0 x3 x4) → XR D d A ad (xu (xu (xu S 15 0 ((S.1 15 0) + (x_tryFault_j27_s0 S x1 x2 x3 x4 x5))) 14 0 (x_misfitsOf S x1 x2 x3 x4 x5)) 11 0 x3) H → va_S A s.heap H locs → lv_has ls 7 [(6, .int (x_misfitsOf S x1 x2 x3 x4 x5)), (0, .ref (ad (0, 0))), (1, .ref (ad (30, x1))), (2, .int x2), (3, .int x3), (4, .int x4), (5, .int x5)] → W p l e (rm_ 3) s m av below meth c H locs 0 0 Q (F0 m 72 ls [.int w6, .ref (ad (0, 0))]) := by
        intro w6 H locs ls ew6 hR hS hl
        subst ew6
        refine xp_i X.1 hR hS 12 (by decide) rfl rfl rfl q109 dX0_tryFault_72 (fun H locs hR hS => ?_)
        refine lv_aload_n hx hb dX0_tryFault_75 rfl (lv_at hl 1 rfl) ?_
        refine lv_iload_n hx hb dX0_tryFault_76 rfl (lv_at hl 4 rfl) ?_
        refine lv_if_eq (tgt := 85) hx hb dX0_tryFault_77 (by decide) (fun c8 => ?_) (fun c8 => ?_)
        · refine lv_bipush (v := (-9)) hx hb dX0_tryFault_85 (by decide) ?_
          refine lv_goto (tgt := 92) hx hb dX0_tryFault_87 (by decide) ?_
          refine xp_i X.1 hR hS 13 (by decide) rfl rfl rfl q110 dX0_tryFault_92 (fun H locs hR hS => ?_)
          exact x_rv hx hb hrt hlk hR hS hQ (Eq.trans (if_pos c4) (if_pos c8)) dX0_tryFault_95
        · refine lv_iload_n hx hb dX0_tryFault_80 rfl (lv_at hl 4 rfl) ?_
          refine lv_iconst (v := 3) hx hb dX0_tryFault_81 (by decide) ?_
          refine lv_icmp_ne (tgt := 90) hx hb dX0_tryFault_82 (by decide) (fun c9 => ?_) (fun c9 => ?_)
          · refine lv_iload hx hb dX0_tryFault_90 (lv_at hl 6 rfl) ?_
            refine xp_i X.1 hR hS 13 (by decide) rfl rfl rfl q110 dX0_tryFault_92 (fun H locs hR hS => ?_)
            exact x_rv hx hb hrt hlk hR hS hQ (Eq.trans (if_pos c4) (Eq.trans (if_neg c8) (if_neg c9))) dX0_tryFault_95
          · refine lv_bipush (v := (-9)) hx hb dX0_tryFault_85 (by decide) ?_
            refine lv_goto (tgt := 92) hx hb dX0_tryFault_87 (by decide) ?_
            refine xp_i X.1 hR hS 13 (by decide) rfl rfl rfl q110 dX0_tryFault_92 (fun H locs hR hS => ?_)
            exact x_rv hx hb hrt hlk hR hS hQ (Eq.trans (if_pos c4) (Eq.trans (if_neg c8) (if_pos c9))) dX0_tryFault_95
      refine lv_if_ne (tgt := 70) hx hb dX0_tryFault_62 (by decide) (fun c5 => ?_) (fun c5 => ?_)
      · refine lv_iload hx hb dX0_tryFault_70 (lv_at hl 5 rfl) ?_
        exact J7 _ _ _  _ (Eq.symm (if_neg c5)) hR hS  (lv_sub hl [0, 1, 2, 3, 4, 5, 6] rfl)
      · refine lv_bipush (v := (-9)) hx hb dX0_tryFault_65 (by decide) ?_
        refine lv_goto (tgt := 72) hx hb dX0_tryFault_67 (by decide) ?_
        exact J7 _ _ _  _ (Eq.symm (if_pos c5)) hR hS  (lv_sub hl [0, 1, 2, 3, 4, 5, 6] rfl)
    · refine lv_iload hx hb dX0_tryFault_40 (lv_at hl 0 rfl) ?_
      refine lv_aload_n hx hb dX0_tryFault_42 rfl (lv_at hl 1 rfl) ?_
      refine xg_i X.1 hR 14 (by decide) rfl q111 ((xu_k _ (by decide) _ _ _).trans rfl) dX0_tryFault_43 ?_
      refine lv_icmp_ge (tgt := 95) hx hb dX0_tryFault_46 (by decide) (fun c10 => ?_) (fun c10 => ?_)
      · exact x_rv hx hb hrt hlk hR hS hQ (Eq.trans (if_neg c4) (if_pos c10)) dX0_tryFault_95
      · refine lv_aload_n hx hb dX0_tryFault_49 rfl (lv_at hl 1 rfl) ?_
        refine lv_iload hx hb dX0_tryFault_50 (lv_at hl 0 rfl) ?_
        refine xp_i X.1 hR hS 14 (by decide) rfl rfl rfl q111 dX0_tryFault_52 (fun H locs hR hS => ?_)
        refine lv_aload_n hx hb dX0_tryFault_55 rfl (lv_at hl 1 rfl) ?_
        refine lv_iload_n hx hb dX0_tryFault_56 rfl (lv_at hl 4 rfl) ?_
        refine xp_i X.1 hR hS 11 (by decide) rfl rfl rfl q108 dX0_tryFault_57 (fun H locs hR hS => ?_)
        refine lv_aload_n hx hb dX0_tryFault_60 rfl (lv_at hl 1 rfl) ?_
        refine lv_iload_n hx hb dX0_tryFault_61 rfl (lv_at hl 4 rfl) ?_
        have J13 : ∀ (w12 : Int32) (H : Heap) (locs : List Loc) (ls : Array Slot), w12 = (x_tryFault_j72_s0 x3 x4) → XR D d A ad (xu (xu (xu S 15 0 ((S.1 15 0) + (x_tryFault_j27_s0 S x1 x2 x3 x4 x5))) 14 0 (x_misfitsOf S x1 x2 x3 x4 x5)) 11 0 x3) H → va_S A s.heap H locs → lv_has ls 7 [(6, .int (x_misfitsOf S x1 x2 x3 x4 x5)), (0, .ref (ad (0, 0))), (1, .ref (ad (30, x1))), (2, .int x2), (3, .int x3), (4, .int x4), (5, .int x5)] → W p l e (rm_ 3) s m av below meth c H locs 0 0 Q (F0 m 72 ls [.int w12, .ref (ad (0, 0))]) := by
          intro w12 H locs ls ew12 hR hS hl
          subst ew12
          refine xp_i X.1 hR hS 12 (by decide) rfl rfl rfl q109 dX0_tryFault_72 (fun H locs hR hS => ?_)
          refine lv_aload_n hx hb dX0_tryFault_75 rfl (lv_at hl 1 rfl) ?_
          refine lv_iload_n hx hb dX0_tryFault_76 rfl (lv_at hl 4 rfl) ?_
          refine lv_if_eq (tgt := 85) hx hb dX0_tryFault_77 (by decide) (fun c14 => ?_) (fun c14 => ?_)
          · refine lv_bipush (v := (-9)) hx hb dX0_tryFault_85 (by decide) ?_
            refine lv_goto (tgt := 92) hx hb dX0_tryFault_87 (by decide) ?_
            refine xp_i X.1 hR hS 13 (by decide) rfl rfl rfl q110 dX0_tryFault_92 (fun H locs hR hS => ?_)
            exact x_rv hx hb hrt hlk hR hS hQ (Eq.trans (if_neg c4) (Eq.trans (if_neg c10) (if_pos c14))) dX0_tryFault_95
          · refine lv_iload_n hx hb dX0_tryFault_80 rfl (lv_at hl 4 rfl) ?_
            refine lv_iconst (v := 3) hx hb dX0_tryFault_81 (by decide) ?_
            refine lv_icmp_ne (tgt := 90) hx hb dX0_tryFault_82 (by decide) (fun c15 => ?_) (fun c15 => ?_)
            · refine lv_iload hx hb dX0_tryFault_90 (lv_at hl 6 rfl) ?_
              refine xp_i X.1 hR hS 13 (by decide) rfl rfl rfl q110 dX0_tryFault_92 (fun H locs hR hS => ?_)
              exact x_rv hx hb hrt hlk hR hS hQ (Eq.trans (if_neg c4) (Eq.trans (if_neg c10) (Eq.trans (if_neg c14) (if_neg c15)))) dX0_tryFault_95
            · refine lv_bipush (v := (-9)) hx hb dX0_tryFault_85 (by decide) ?_
              refine lv_goto (tgt := 92) hx hb dX0_tryFault_87 (by decide) ?_
              refine xp_i X.1 hR hS 13 (by decide) rfl rfl rfl q110 dX0_tryFault_92 (fun H locs hR hS => ?_)
              exact x_rv hx hb hrt hlk hR hS hQ (Eq.trans (if_neg c4) (Eq.trans (if_neg c10) (Eq.trans (if_neg c14) (if_pos c15)))) dX0_tryFault_95
        refine lv_if_ne (tgt := 70) hx hb dX0_tryFault_62 (by decide) (fun c11 => ?_) (fun c11 => ?_)
        · refine lv_iload hx hb dX0_tryFault_70 (lv_at hl 5 rfl) ?_
          exact J13 _ _ _  _ (Eq.symm (if_neg c11)) hR hS  (lv_sub hl [0, 1, 2, 3, 4, 5, 6] rfl)
        · refine lv_bipush (v := (-9)) hx hb dX0_tryFault_65 (by decide) ?_
          refine lv_goto (tgt := 72) hx hb dX0_tryFault_67 (by decide) ?_
          exact J13 _ _ _  _ (Eq.symm (if_pos c11)) hR hS  (lv_sub hl [0, 1, 2, 3, 4, 5, 6] rfl)
  refine lv_if_ne (tgt := 26) hx hb dX0_tryFault_19 (by decide) (fun c1 => ?_) (fun c1 => ?_)
  · refine lv_iconst (v := 0) hx hb dX0_tryFault_26 (by decide) ?_
    exact J3 _ _ _  _ (Eq.symm (if_neg c1)) hR hS  (lv_sub hl [0, 1, 2, 3, 4, 5, 6] rfl)
  · refine lv_iconst (v := 1) hx hb dX0_tryFault_22 (by decide) ?_
    refine lv_goto (tgt := 27) hx hb dX0_tryFault_23 (by decide) ?_
    exact J3 _ _ _  _ (Eq.symm (if_pos c1)) hR hS  (lv_sub hl [0, 1, 2, 3, 4, 5, 6] rfl)
theorem x_tryFaults_j53_le (k : Int32) : (if k = 3 then (1 : Int32) else 48) ≤ 48 := by
  split <;> decide
def x_tryFaults_j53_s0 (y3_22 : Int32) : Int32 := (if y3_22 = 3 then 1 else 48)
def x_tryFaults_j78_S (x1 : Nat) (x2 : Int32) (y3_22 : Int32) (y4_30 : Int32) (y5_40 : Int32) (S_40 : XS) : XS := (if (x_isFault y3_22 y4_30 y5_40) = 0 then S_40 else (x_tryFault S_40 x1 x2 y3_22 y4_30 y5_40))
theorem x_tryFaults_j78_S_N (x1 : Nat) (x2 : Int32) (y3_22 : Int32) (y4_30 : Int32) (y5_40 : Int32) (S_40 : XS) : (x_tryFaults_j78_S x1 x2 y3_22 y4_30 y5_40 S_40).2.2.2 = S_40.2.2.2 := by
  unfold x_tryFaults_j78_S
  refine ifI (P := fun (z : XS) => z.2.2.2 = S_40.2.2.2) (fun c7 => ?_) (fun c7 => ?_)
  · exact rfl
  · have hN75 : (x_tryFault S_40 x1 x2 y3_22 y4_30 y5_40).2.2.2 = S_40.2.2.2 := x_tryFault_N S_40 x1 x2 y3_22 y4_30 y5_40
    exact hN75
theorem x_tryFaults_j78_S_I (S : XS) (x1 : Nat) (x2 : Int32) (y3_22 : Int32) (S_22 : XS) (y4_30 : Int32) (S_30 : XS) (y5_40 : Int32) (S_40 : XS) (hI : XInv S) (hr : x1 < 8) (h3 : ¬ S.2.2.2 3 x1 = 0) (hi3 : 0 ≤ y3_22) (hJ1 : XInv S_22) (hM1 : S_22.2.2.2 = S.2.2.2) (c1 : ¬ 5 ≤ y3_22) (hi4 : 0 ≤ y4_30) (hJ2 : XInv S_30) (hM2 : S_30.2.2.2 = S.2.2.2) (c2 : ¬ 48 ≤ y4_30) (hi5 : 0 ≤ y5_40) (hJ3 : XInv S_40) (hM3 : S_40.2.2.2 = S.2.2.2) (c6 : ¬ (x_tryFaults_j53_s0 y3_22) ≤ y5_40) : XInv (x_tryFaults_j78_S x1 x2 y3_22 y4_30 y5_40 S_40) := by
  unfold x_tryFaults_j78_S
  refine ifI (P := XInv) (fun c7 => ?_) (fun c7 => ?_)
  · exact hJ3
  · have hI75 : XInv (x_tryFault S_40 x1 x2 y3_22 y4_30 y5_40) := x_tryFault_inv S_40 x1 x2 y3_22 y4_30 y5_40 (hJ3) (hr) (by show ¬ S_40.2.2.2 3 x1 = 0; rw [hM3]; exact h3)
    exact hI75
def x_tryFaults_L40 (x1 : Nat) (x2 : Int32) (y3_22 : Int32) (y4_30 : Int32) : Nat → Int32 → XS → Int32 × XS
  | 0, y5_40, S_40 => (y5_40, S_40)
  | f40 + 1, y5_40, S_40 => (if (x_tryFaults_j53_s0 y3_22) ≤ y5_40 then (y5_40, S_40) else (x_tryFaults_L40 x1 x2 y3_22 y4_30 f40 (y5_40 + 1) (x_tryFaults_j78_S x1 x2 y3_22 y4_30 y5_40 S_40)))
theorem x_tryFaults_L40_s (x1 : Nat) (x2 : Int32) (y3_22 : Int32) (y4_30 : Int32) (f40 : Nat) (y5_40 : Int32) (S_40 : XS) : x_tryFaults_L40 x1 x2 y3_22 y4_30 (f40 + 1) y5_40 S_40 = (if (x_tryFaults_j53_s0 y3_22) ≤ y5_40 then (y5_40, S_40) else (x_tryFaults_L40 x1 x2 y3_22 y4_30 f40 (y5_40 + 1) (x_tryFaults_j78_S x1 x2 y3_22 y4_30 y5_40 S_40))) := rfl
def x_tryFaults_R40 (x1 : Nat) (x2 : Int32) (y3_22 : Int32) (y4_30 : Int32) (S_30 : XS) : Int32 × XS := x_tryFaults_L40 x1 x2 y3_22 y4_30 (fz ((48 - 0 : Int32).toNatClampNeg + 1)) 0 S_30
theorem x_tryFaults_o10 (S : XS) (x1 : Nat) (x2 : Int32) (y3_22 : Int32) (S_22 : XS) (y4_30 : Int32) (S_30 : XS) (y5_40 : Int32) (S_40 : XS) (hI : XInv S) (hr : x1 < 8) (h3 : ¬ S.2.2.2 3 x1 = 0) (hN17 : (x_tryFault (xu (xu S 14 0 (-9)) 15 0 0) x1 x2 0 0 0).2.2.2 = S.2.2.2) (hI17 : XInv (x_tryFault (xu (xu S 14 0 (-9)) 15 0 0) x1 x2 0 0 0)) (hi3 : 0 ≤ y3_22) (hJ1 : XInv S_22) (hM1 : S_22.2.2.2 = S.2.2.2) (c1 : ¬ 5 ≤ y3_22) (hi4 : 0 ≤ y4_30) (hJ2 : XInv S_30) (hM2 : S_30.2.2.2 = S.2.2.2) (c2 : ¬ 48 ≤ y4_30) (hi5 : 0 ≤ y5_40) (hJ3 : XInv S_40) (hM3 : S_40.2.2.2 = S.2.2.2) (hj53 : (x_tryFaults_j53_s0 y3_22) ≤ 48) (c6 : ¬ (x_tryFaults_j53_s0 y3_22) ≤ y5_40) (hN_j78_S : (x_tryFaults_j78_S x1 x2 y3_22 y4_30 y5_40 S_40).2.2.2 = S_40.2.2.2) (hI_j78_S : XInv (x_tryFaults_j78_S x1 x2 y3_22 y4_30 y5_40 S_40)) : 0 ≤ (y5_40 + 1) := by 
  have bl_x2 := Int32.toInt_lt x2
  have bl_y3_22 := Int32.toInt_lt y3_22
  have bl_y4_30 := Int32.toInt_lt y4_30
  have bl_y5_40 := Int32.toInt_lt y5_40
  try simp only [i_le, i_lt, i_eq, Int32.reduceToInt] at *
  first | (have e_0 := a32 (x := y5_40) (y := 1) (by (try simp only [Int32.reduceToInt]); omega); (try simp only [Int32.reduceToInt] at e_0)) | skip
  try simp only [Int32.reduceToInt] at *
  omega
theorem x_tryFaults_L40_P (S : XS) (x1 : Nat) (x2 : Int32) (y3_22 : Int32) (S_22 : XS) (y4_30 : Int32) (S_30 : XS) (hI : XInv S) (hr : x1 < 8) (h3 : ¬ S.2.2.2 3 x1 = 0) (hi3 : 0 ≤ y3_22) (hJ1 : XInv S_22) (hM1 : S_22.2.2.2 = S.2.2.2) (c1 : ¬ 5 ≤ y3_22) (hi4 : 0 ≤ y4_30) (hJ2 : XInv S_30) (hM2 : S_30.2.2.2 = S.2.2.2) (c2 : ¬ 48 ≤ y4_30) : ∀ (f40 : Nat) (y5_40 : Int32) (S_40 : XS), (0 ≤ y5_40) → (XInv S_40) → (S_40.2.2.2 = S.2.2.2) → (XInv (x_tryFaults_L40 x1 x2 y3_22 y4_30 f40 y5_40 S_40).2) ∧ ((x_tryFaults_L40 x1 x2 y3_22 y4_30 f40 y5_40 S_40).2.2.2.2 = S.2.2.2) := by
  intro f40
  induction f40 with
  | zero =>
    intro y5_40 S_40 hi5 hJ3 hM3
    exact ⟨hJ3, hM3⟩
  | succ f40 ih =>
    intro y5_40 S_40 hi5 hJ3 hM3
    rw [x_tryFaults_L40_s]
    refine ifI (P := fun (z : Int32 × XS) => (XInv z.2) ∧ (z.2.2.2.2 = S.2.2.2)) (fun c6 => ?_) (fun c6 => ?_)
    · exact ⟨hJ3, hM3⟩
    · have hN17 : (x_tryFault (xu (xu S 14 0 (-9)) 15 0 0) x1 x2 0 0 0).2.2.2 = S.2.2.2 := x_tryFault_N (xu (xu S 14 0 (-9)) 15 0 0) x1 x2 0 0 0
      have hI17 : XInv (x_tryFault (xu (xu S 14 0 (-9)) 15 0 0) x1 x2 0 0 0) := x_tryFault_inv (xu (xu S 14 0 (-9)) 15 0 0) x1 x2 0 0 0 ((XInv_xu (XInv_xu hI _ _ _ (by decide)) _ _ _ (by decide))) (hr) (h3)
      have hj53 : (x_tryFaults_j53_s0 y3_22) ≤ 48 := by unfold x_tryFaults_j53_s0; exact x_tryFaults_j53_le _
      have hN_j78_S : (x_tryFaults_j78_S x1 x2 y3_22 y4_30 y5_40 S_40).2.2.2 = S_40.2.2.2 := x_tryFaults_j78_S_N x1 x2 y3_22 y4_30 y5_40 S_40
      have hI_j78_S : XInv (x_tryFaults_j78_S x1 x2 y3_22 y4_30 y5_40 S_40) := x_tryFaults_j78_S_I S x1 x2 y3_22 S_22 y4_30 S_30 y5_40 S_40 hI hr h3 hi3 hJ1 hM1 c1 hi4 hJ2 hM2 c2 hi5 hJ3 hM3 c6
      exact ih (y5_40 + 1) (x_tryFaults_j78_S x1 x2 y3_22 y4_30 y5_40 S_40) (x_tryFaults_o10 S x1 x2 y3_22 S_22 y4_30 S_30 y5_40 S_40 hI hr h3 hN17 hI17 hi3 hJ1 hM1 c1 hi4 hJ2 hM2 c2 hi5 hJ3 hM3 hj53 c6 hN_j78_S hI_j78_S) (hI_j78_S) ((hN_j78_S.trans hM3))
theorem x_tryFaults_R40_P (S : XS) (x1 : Nat) (x2 : Int32) (y3_22 : Int32) (S_22 : XS) (y4_30 : Int32) (S_30 : XS) (hI : XInv S) (hr : x1 < 8) (h3 : ¬ S.2.2.2 3 x1 = 0) (hi3 : 0 ≤ y3_22) (hJ1 : XInv S_22) (hM1 : S_22.2.2.2 = S.2.2.2) (c1 : ¬ 5 ≤ y3_22) (hi4 : 0 ≤ y4_30) (hJ2 : XInv S_30) (hM2 : S_30.2.2.2 = S.2.2.2) (c2 : ¬ 48 ≤ y4_30) : (XInv (x_tryFaults_R40 x1 x2 y3_22 y4_30 S_30).2) ∧ ((x_tryFaults_R40 x1 x2 y3_22 y4_30 S_30).2.2.2.2 = S.2.2.2) := by
  unfold x_tryFaults_R40
  exact x_tryFaults_L40_P S x1 x2 y3_22 S_22 y4_30 S_30 hI hr h3 hi3 hJ1 hM1 c1 hi4 hJ2 hM2 c2 (fz ((48 - 0 : Int32).toNatClampNeg + 1)) 0 S_30 (by decide) (hJ2) (hM2)
def x_tryFaults_L30 (x1 : Nat) (x2 : Int32) (y3_22 : Int32) : Nat → Int32 → XS → Int32 × XS
  | 0, y4_30, S_30 => (y4_30, S_30)
  | f30 + 1, y4_30, S_30 => (if 48 ≤ y4_30 then (y4_30, S_30) else (x_tryFaults_L30 x1 x2 y3_22 f30 (y4_30 + 1) (x_tryFaults_R40 x1 x2 y3_22 y4_30 S_30).2))
theorem x_tryFaults_L30_s (x1 : Nat) (x2 : Int32) (y3_22 : Int32) (f30 : Nat) (y4_30 : Int32) (S_30 : XS) : x_tryFaults_L30 x1 x2 y3_22 (f30 + 1) y4_30 S_30 = (if 48 ≤ y4_30 then (y4_30, S_30) else (x_tryFaults_L30 x1 x2 y3_22 f30 (y4_30 + 1) (x_tryFaults_R40 x1 x2 y3_22 y4_30 S_30).2)) := rfl
def x_tryFaults_R30 (x1 : Nat) (x2 : Int32) (y3_22 : Int32) (S_22 : XS) : Int32 × XS := x_tryFaults_L30 x1 x2 y3_22 (fz ((48 - 0 : Int32).toNatClampNeg + 1)) 0 S_22
theorem x_tryFaults_o11 (S : XS) (x1 : Nat) (x2 : Int32) (y3_22 : Int32) (S_22 : XS) (y4_30 : Int32) (S_30 : XS) (hI : XInv S) (hr : x1 < 8) (h3 : ¬ S.2.2.2 3 x1 = 0) (hN17 : (x_tryFault (xu (xu S 14 0 (-9)) 15 0 0) x1 x2 0 0 0).2.2.2 = S.2.2.2) (hI17 : XInv (x_tryFault (xu (xu S 14 0 (-9)) 15 0 0) x1 x2 0 0 0)) (hi3 : 0 ≤ y3_22) (hJ1 : XInv S_22) (hM1 : S_22.2.2.2 = S.2.2.2) (c1 : ¬ 5 ≤ y3_22) (hi4 : 0 ≤ y4_30) (hJ2 : XInv S_30) (hM2 : S_30.2.2.2 = S.2.2.2) (c2 : ¬ 48 ≤ y4_30) (hJ3p : XInv (x_tryFaults_R40 x1 x2 y3_22 y4_30 S_30).2) (hM3p : (x_tryFaults_R40 x1 x2 y3_22 y4_30 S_30).2.2.2.2 = S.2.2.2) : 0 ≤ (y4_30 + 1) := by 
  have bl_x2 := Int32.toInt_lt x2
  have bl_y3_22 := Int32.toInt_lt y3_22
  have bl_y4_30 := Int32.toInt_lt y4_30
  try simp only [i_le, i_lt, i_eq, Int32.reduceToInt] at *
  first | (have e_0 := a32 (x := y4_30) (y := 1) (by (try simp only [Int32.reduceToInt]); omega); (try simp only [Int32.reduceToInt] at e_0)) | skip
  try simp only [Int32.reduceToInt] at *
  omega
theorem x_tryFaults_L30_P (S : XS) (x1 : Nat) (x2 : Int32) (y3_22 : Int32) (S_22 : XS) (hI : XInv S) (hr : x1 < 8) (h3 : ¬ S.2.2.2 3 x1 = 0) (hi3 : 0 ≤ y3_22) (hJ1 : XInv S_22) (hM1 : S_22.2.2.2 = S.2.2.2) (c1 : ¬ 5 ≤ y3_22) : ∀ (f30 : Nat) (y4_30 : Int32) (S_30 : XS), (0 ≤ y4_30) → (XInv S_30) → (S_30.2.2.2 = S.2.2.2) → (XInv (x_tryFaults_L30 x1 x2 y3_22 f30 y4_30 S_30).2) ∧ ((x_tryFaults_L30 x1 x2 y3_22 f30 y4_30 S_30).2.2.2.2 = S.2.2.2) := by
  intro f30
  induction f30 with
  | zero =>
    intro y4_30 S_30 hi4 hJ2 hM2
    exact ⟨hJ2, hM2⟩
  | succ f30 ih =>
    intro y4_30 S_30 hi4 hJ2 hM2
    rw [x_tryFaults_L30_s]
    refine ifI (P := fun (z : Int32 × XS) => (XInv z.2) ∧ (z.2.2.2.2 = S.2.2.2)) (fun c2 => ?_) (fun c2 => ?_)
    · exact ⟨hJ2, hM2⟩
    · have hN17 : (x_tryFault (xu (xu S 14 0 (-9)) 15 0 0) x1 x2 0 0 0).2.2.2 = S.2.2.2 := x_tryFault_N (xu (xu S 14 0 (-9)) 15 0 0) x1 x2 0 0 0
      have hI17 : XInv (x_tryFault (xu (xu S 14 0 (-9)) 15 0 0) x1 x2 0 0 0) := x_tryFault_inv (xu (xu S 14 0 (-9)) 15 0 0) x1 x2 0 0 0 ((XInv_xu (XInv_xu hI _ _ _ (by decide)) _ _ _ (by decide))) (hr) (h3)
      have hJ3p : XInv (x_tryFaults_R40 x1 x2 y3_22 y4_30 S_30).2 := (x_tryFaults_R40_P S x1 x2 y3_22 S_22 y4_30 S_30 hI hr h3 hi3 hJ1 hM1 c1 hi4 hJ2 hM2 c2).1
      have hM3p : (x_tryFaults_R40 x1 x2 y3_22 y4_30 S_30).2.2.2.2 = S.2.2.2 := (x_tryFaults_R40_P S x1 x2 y3_22 S_22 y4_30 S_30 hI hr h3 hi3 hJ1 hM1 c1 hi4 hJ2 hM2 c2).2
      exact ih (y4_30 + 1) (x_tryFaults_R40 x1 x2 y3_22 y4_30 S_30).2 (x_tryFaults_o11 S x1 x2 y3_22 S_22 y4_30 S_30 hI hr h3 hN17 hI17 hi3 hJ1 hM1 c1 hi4 hJ2 hM2 c2 hJ3p hM3p) (hJ3p) (hM3p)
theorem x_tryFaults_R30_P (S : XS) (x1 : Nat) (x2 : Int32) (y3_22 : Int32) (S_22 : XS) (hI : XInv S) (hr : x1 < 8) (h3 : ¬ S.2.2.2 3 x1 = 0) (hi3 : 0 ≤ y3_22) (hJ1 : XInv S_22) (hM1 : S_22.2.2.2 = S.2.2.2) (c1 : ¬ 5 ≤ y3_22) : (XInv (x_tryFaults_R30 x1 x2 y3_22 S_22).2) ∧ ((x_tryFaults_R30 x1 x2 y3_22 S_22).2.2.2.2 = S.2.2.2) := by
  unfold x_tryFaults_R30
  exact x_tryFaults_L30_P S x1 x2 y3_22 S_22 hI hr h3 hi3 hJ1 hM1 c1 (fz ((48 - 0 : Int32).toNatClampNeg + 1)) 0 S_22 (by decide) (hJ1) (hM1)
def x_tryFaults_L22 (x1 : Nat) (x2 : Int32) : Nat → Int32 → XS → Int32 × XS
  | 0, y3_22, S_22 => (y3_22, S_22)
  | f22 + 1, y3_22, S_22 => (if 5 ≤ y3_22 then (y3_22, S_22) else (x_tryFaults_L22 x1 x2 f22 (y3_22 + 1) (x_tryFaults_R30 x1 x2 y3_22 S_22).2))
theorem x_tryFaults_L22_s (x1 : Nat) (x2 : Int32) (f22 : Nat) (y3_22 : Int32) (S_22 : XS) : x_tryFaults_L22 x1 x2 (f22 + 1) y3_22 S_22 = (if 5 ≤ y3_22 then (y3_22, S_22) else (x_tryFaults_L22 x1 x2 f22 (y3_22 + 1) (x_tryFaults_R30 x1 x2 y3_22 S_22).2)) := rfl
def x_tryFaults_R22 (S : XS) (x1 : Nat) (x2 : Int32) : Int32 × XS := x_tryFaults_L22 x1 x2 (fz ((5 - 1 : Int32).toNatClampNeg + 1)) 1 (x_tryFault (xu (xu S 14 0 (-9)) 15 0 0) x1 x2 0 0 0)
theorem x_tryFaults_o12 (S : XS) (x1 : Nat) (x2 : Int32) (y3_22 : Int32) (S_22 : XS) (hI : XInv S) (hr : x1 < 8) (h3 : ¬ S.2.2.2 3 x1 = 0) (hN17 : (x_tryFault (xu (xu S 14 0 (-9)) 15 0 0) x1 x2 0 0 0).2.2.2 = S.2.2.2) (hI17 : XInv (x_tryFault (xu (xu S 14 0 (-9)) 15 0 0) x1 x2 0 0 0)) (hi3 : 0 ≤ y3_22) (hJ1 : XInv S_22) (hM1 : S_22.2.2.2 = S.2.2.2) (c1 : ¬ 5 ≤ y3_22) (hJ2p : XInv (x_tryFaults_R30 x1 x2 y3_22 S_22).2) (hM2p : (x_tryFaults_R30 x1 x2 y3_22 S_22).2.2.2.2 = S.2.2.2) : 0 ≤ (y3_22 + 1) := by 
  have bl_x2 := Int32.toInt_lt x2
  have bl_y3_22 := Int32.toInt_lt y3_22
  try simp only [i_le, i_lt, i_eq, Int32.reduceToInt] at *
  first | (have e_0 := a32 (x := y3_22) (y := 1) (by (try simp only [Int32.reduceToInt]); omega); (try simp only [Int32.reduceToInt] at e_0)) | skip
  try simp only [Int32.reduceToInt] at *
  omega
theorem x_tryFaults_L22_P (S : XS) (x1 : Nat) (x2 : Int32) (hI : XInv S) (hr : x1 < 8) (h3 : ¬ S.2.2.2 3 x1 = 0) : ∀ (f22 : Nat) (y3_22 : Int32) (S_22 : XS), (0 ≤ y3_22) → (XInv S_22) → (S_22.2.2.2 = S.2.2.2) → (XInv (x_tryFaults_L22 x1 x2 f22 y3_22 S_22).2) ∧ ((x_tryFaults_L22 x1 x2 f22 y3_22 S_22).2.2.2.2 = S.2.2.2) := by
  intro f22
  induction f22 with
  | zero =>
    intro y3_22 S_22 hi3 hJ1 hM1
    exact ⟨hJ1, hM1⟩
  | succ f22 ih =>
    intro y3_22 S_22 hi3 hJ1 hM1
    rw [x_tryFaults_L22_s]
    refine ifI (P := fun (z : Int32 × XS) => (XInv z.2) ∧ (z.2.2.2.2 = S.2.2.2)) (fun c1 => ?_) (fun c1 => ?_)
    · exact ⟨hJ1, hM1⟩
    · have hN17 : (x_tryFault (xu (xu S 14 0 (-9)) 15 0 0) x1 x2 0 0 0).2.2.2 = S.2.2.2 := x_tryFault_N (xu (xu S 14 0 (-9)) 15 0 0) x1 x2 0 0 0
      have hI17 : XInv (x_tryFault (xu (xu S 14 0 (-9)) 15 0 0) x1 x2 0 0 0) := x_tryFault_inv (xu (xu S 14 0 (-9)) 15 0 0) x1 x2 0 0 0 ((XInv_xu (XInv_xu hI _ _ _ (by decide)) _ _ _ (by decide))) (hr) (h3)
      have hJ2p : XInv (x_tryFaults_R30 x1 x2 y3_22 S_22).2 := (x_tryFaults_R30_P S x1 x2 y3_22 S_22 hI hr h3 hi3 hJ1 hM1 c1).1
      have hM2p : (x_tryFaults_R30 x1 x2 y3_22 S_22).2.2.2.2 = S.2.2.2 := (x_tryFaults_R30_P S x1 x2 y3_22 S_22 hI hr h3 hi3 hJ1 hM1 c1).2
      exact ih (y3_22 + 1) (x_tryFaults_R30 x1 x2 y3_22 S_22).2 (x_tryFaults_o12 S x1 x2 y3_22 S_22 hI hr h3 hN17 hI17 hi3 hJ1 hM1 c1 hJ2p hM2p) (hJ2p) (hM2p)
theorem x_tryFaults_R22_P (S : XS) (x1 : Nat) (x2 : Int32) (hI : XInv S) (hr : x1 < 8) (h3 : ¬ S.2.2.2 3 x1 = 0) : (XInv (x_tryFaults_R22 S x1 x2).2) ∧ ((x_tryFaults_R22 S x1 x2).2.2.2.2 = S.2.2.2) := by
  unfold x_tryFaults_R22
  have hN17 : (x_tryFault (xu (xu S 14 0 (-9)) 15 0 0) x1 x2 0 0 0).2.2.2 = S.2.2.2 := x_tryFault_N (xu (xu S 14 0 (-9)) 15 0 0) x1 x2 0 0 0
  have hI17 : XInv (x_tryFault (xu (xu S 14 0 (-9)) 15 0 0) x1 x2 0 0 0) := x_tryFault_inv (xu (xu S 14 0 (-9)) 15 0 0) x1 x2 0 0 0 ((XInv_xu (XInv_xu hI _ _ _ (by decide)) _ _ _ (by decide))) (hr) (h3)
  exact x_tryFaults_L22_P S x1 x2 hI hr h3 (fz ((5 - 1 : Int32).toNatClampNeg + 1)) 1 (x_tryFault (xu (xu S 14 0 (-9)) 15 0 0) x1 x2 0 0 0) (by decide) (hI17) (hN17)
theorem x_tryFaults_o13 (S : XS) (x1 : Nat) (x2 : Int32) (y3_22 : Int32) (S_22 : XS) (hI : XInv S) (hr : x1 < 8) (h3 : ¬ S.2.2.2 3 x1 = 0) (hN17 : (x_tryFault (xu (xu S 14 0 (-9)) 15 0 0) x1 x2 0 0 0).2.2.2 = S.2.2.2) (hI17 : XInv (x_tryFault (xu (xu S 14 0 (-9)) 15 0 0) x1 x2 0 0 0)) (hi3 : 0 ≤ y3_22) (hJ1 : XInv S_22) (hM1 : S_22.2.2.2 = S.2.2.2) (c1 : ¬ 5 ≤ y3_22) (hJ2p : XInv (x_tryFaults_R30 x1 x2 y3_22 S_22).2) (hM2p : (x_tryFaults_R30 x1 x2 y3_22 S_22).2.2.2.2 = S.2.2.2) : y3_22 < 5 := by 
  have bl_x2 := Int32.toInt_lt x2
  have bl_y3_22 := Int32.toInt_lt y3_22
  try simp only [i_le, i_lt, i_eq, Int32.reduceToInt] at *
  try simp only [Int32.reduceToInt] at *
  omega
theorem x_tryFaults_o14 (S : XS) (x1 : Nat) (x2 : Int32) (y3_22 : Int32) (S_22 : XS) (y4_30 : Int32) (S_30 : XS) (hI : XInv S) (hr : x1 < 8) (h3 : ¬ S.2.2.2 3 x1 = 0) (hN17 : (x_tryFault (xu (xu S 14 0 (-9)) 15 0 0) x1 x2 0 0 0).2.2.2 = S.2.2.2) (hI17 : XInv (x_tryFault (xu (xu S 14 0 (-9)) 15 0 0) x1 x2 0 0 0)) (hi3 : 0 ≤ y3_22) (hJ1 : XInv S_22) (hM1 : S_22.2.2.2 = S.2.2.2) (c1 : ¬ 5 ≤ y3_22) (hi4 : 0 ≤ y4_30) (hJ2 : XInv S_30) (hM2 : S_30.2.2.2 = S.2.2.2) (c2 : ¬ 48 ≤ y4_30) (hJ3p : XInv (x_tryFaults_R40 x1 x2 y3_22 y4_30 S_30).2) (hM3p : (x_tryFaults_R40 x1 x2 y3_22 y4_30 S_30).2.2.2.2 = S.2.2.2) : y4_30 < 48 := by 
  have bl_x2 := Int32.toInt_lt x2
  have bl_y3_22 := Int32.toInt_lt y3_22
  have bl_y4_30 := Int32.toInt_lt y4_30
  try simp only [i_le, i_lt, i_eq, Int32.reduceToInt] at *
  try simp only [Int32.reduceToInt] at *
  omega
theorem x_tryFaults_o15 (S : XS) (x1 : Nat) (x2 : Int32) (y3_22 : Int32) (S_22 : XS) (y4_30 : Int32) (S_30 : XS) (y5_40 : Int32) (S_40 : XS) (hI : XInv S) (hr : x1 < 8) (h3 : ¬ S.2.2.2 3 x1 = 0) (hN17 : (x_tryFault (xu (xu S 14 0 (-9)) 15 0 0) x1 x2 0 0 0).2.2.2 = S.2.2.2) (hI17 : XInv (x_tryFault (xu (xu S 14 0 (-9)) 15 0 0) x1 x2 0 0 0)) (hi3 : 0 ≤ y3_22) (hJ1 : XInv S_22) (hM1 : S_22.2.2.2 = S.2.2.2) (c1 : ¬ 5 ≤ y3_22) (hi4 : 0 ≤ y4_30) (hJ2 : XInv S_30) (hM2 : S_30.2.2.2 = S.2.2.2) (c2 : ¬ 48 ≤ y4_30) (hi5 : 0 ≤ y5_40) (hJ3 : XInv S_40) (hM3 : S_40.2.2.2 = S.2.2.2) (hj53 : (x_tryFaults_j53_s0 y3_22) ≤ 48) (c6 : ¬ (x_tryFaults_j53_s0 y3_22) ≤ y5_40) (hN_j78_S : (x_tryFaults_j78_S x1 x2 y3_22 y4_30 y5_40 S_40).2.2.2 = S_40.2.2.2) (hI_j78_S : XInv (x_tryFaults_j78_S x1 x2 y3_22 y4_30 y5_40 S_40)) : y5_40 < 48 := by 
  have bl_x2 := Int32.toInt_lt x2
  have bl_y3_22 := Int32.toInt_lt y3_22
  have bl_y4_30 := Int32.toInt_lt y4_30
  have bl_y5_40 := Int32.toInt_lt y5_40
  try simp only [i_le, i_lt, i_eq, Int32.reduceToInt] at *
  try simp only [Int32.reduceToInt] at *
  omega
def x_tryFaults (S : XS) (x1 : Nat) (x2 : Int32) : XS := (x_tryFaults_R22 S x1 x2).2
theorem x_tryFaults_N (S : XS) (x1 : Nat) (x2 : Int32) (hI : XInv S) (hr : x1 < 8) (h3 : ¬ S.2.2.2 3 x1 = 0) : (x_tryFaults S x1 x2).2.2.2 = S.2.2.2 := by
  unfold x_tryFaults
  have hM1p : (x_tryFaults_R22 S x1 x2).2.2.2.2 = S.2.2.2 := (x_tryFaults_R22_P S x1 x2 hI hr h3).2
  exact hM1p
theorem x_tryFaults_inv (S : XS) (x1 : Nat) (x2 : Int32) (hI : XInv S) (hr : x1 < 8) (h3 : ¬ S.2.2.2 3 x1 = 0) : XInv (x_tryFaults S x1 x2) := by
  unfold x_tryFaults
  have hJ1p : XInv (x_tryFaults_R22 S x1 x2).2 := (x_tryFaults_R22_P S x1 x2 hI hr h3).1
  exact hJ1p
set_option maxHeartbeats 4000000 in
theorem xt_tryFaults (l : Launch) (D : va_G) (d : Nat → ClassId) (A : Nat → Prop) (ad : XK → Nat) (S : XS) (x1 : Nat) (x2 : Int32) (hI : XInv S) (hr : x1 < 8) (h3 : ¬ S.2.2.2 3 x1 = 0) : XV l yX0_tryFaults cX0_tryFaults 6 (rm_ 4) D d A ad S [.ref (ad (0, 0)), .ref (ad (30, x1)), .int x2] (x_tryFaults S x1 x2) := by
  refine x_startV RX0 rfl (by decide) (Nat.le_of_ble_eq_true rfl) ?_
  intro p e s m av below meth c ls Q X hrt hlk hl hR hQ
  have hx := X.1.1.1
  have hb := X.1.1.2.1
  have hown := X.1.1.2.2.2.1
  have hts := X.1.1.2.2.2.2
  have hS : va_S A s.heap s.heap [] := va_S.rf
  have hl : lv_has ls 6 [(0, .ref (ad (0, 0))), (1, .ref (ad (30, x1))), (2, .int x2)] := hl
  refine lv_aload_n hx hb dX0_tryFaults_0 rfl (lv_at hl 0 rfl) ?_
  refine lv_bipush (v := (-9)) hx hb dX0_tryFaults_1 (by decide) ?_
  refine xp_i X.1 hR hS 14 (by decide) rfl rfl rfl q111 dX0_tryFaults_3 (fun H locs hR hS => ?_)
  refine lv_aload_n hx hb dX0_tryFaults_6 rfl (lv_at hl 0 rfl) ?_
  refine lv_iconst (v := 0) hx hb dX0_tryFaults_7 (by decide) ?_
  refine xp_i X.1 hR hS 15 (by decide) rfl rfl rfl q112 dX0_tryFaults_8 (fun H locs hR hS => ?_)
  refine lv_aload_n hx hb dX0_tryFaults_11 rfl (lv_at hl 0 rfl) ?_
  refine lv_aload_n hx hb dX0_tryFaults_12 rfl (lv_at hl 1 rfl) ?_
  refine lv_iload_n hx hb dX0_tryFaults_13 rfl (lv_at hl 2 rfl) ?_
  refine lv_iconst (v := 0) hx hb dX0_tryFaults_14 (by decide) ?_
  refine lv_iconst (v := 0) hx hb dX0_tryFaults_15 (by decide) ?_
  refine lv_iconst (v := 0) hx hb dX0_tryFaults_16 (by decide) ?_
  refine x_bv hS (xr_V X hR x_lv0 (ci := 0) (fs := x_fs ad (xu (xu S 14 0 (-9)) 15 0 0)) rfl rfl (xt_tryFault l D d A ad (xu (xu S 14 0 (-9)) 15 0 0) x1 x2 0 0 0 ((XInv_xu (XInv_xu hI _ _ _ (by decide)) _ _ _ (by decide))) (hr) (h3)) 5 (lw_V q1029 q1031 qs19 q58 q1032) ⟨rfl, rfl⟩ (by decide +kernel) ⟨by decide, by decide⟩ ⟨by decide, by decide⟩ rfl hl.1 rfl (Nat.le_of_ble_eq_true rfl) dX0_tryFaults_17) (fun H locs hR hS => ?_)
  have hN17 : (x_tryFault (xu (xu S 14 0 (-9)) 15 0 0) x1 x2 0 0 0).2.2.2 = S.2.2.2 := x_tryFault_N (xu (xu S 14 0 (-9)) 15 0 0) x1 x2 0 0 0
  have hI17 : XInv (x_tryFault (xu (xu S 14 0 (-9)) 15 0 0) x1 x2 0 0 0) := x_tryFault_inv (xu (xu S 14 0 (-9)) 15 0 0) x1 x2 0 0 0 ((XInv_xu (XInv_xu hI _ _ _ (by decide)) _ _ _ (by decide))) (hr) (h3)
  refine lv_iconst (v := 1) hx hb dX0_tryFaults_20 (by decide) ?_
  refine lv_istore_n (lv' := [(3, .int 1), (0, .ref (ad (0, 0))), (1, .ref (ad (30, x1))), (2, .int x2)]) hx hb dX0_tryFaults_21 rfl hl (by decide) rfl (fun ls hl => ?_)
  have K22 : ∀ (H : Heap) (locs : List Loc) (ls : Array Slot), (XInv (x_tryFaults_R22 S x1 x2).2) → ((x_tryFaults_R22 S x1 x2).2.2.2.2 = S.2.2.2) → XR D d A ad (x_tryFaults_R22 S x1 x2).2 H → va_S A s.heap H locs → lv_has ls 6 [(3, .int (x_tryFaults_R22 S x1 x2).1), (0, .ref (ad (0, 0))), (1, .ref (ad (30, x1))), (2, .int x2)] → W p l e (rm_ 4) s m av below meth c H locs 0 0 Q (F0 m 96 ls []) := by
    intro H locs ls hJ1p hM1p hR hS hl
    exact x_rv hx hb hrt hlk hR hS hQ rfl dX0_tryFaults_96
  have L22 : ∀ (f22 : Nat) (y3_22 : Int32) (S_22 : XS) (H : Heap) (locs : List Loc) (ls : Array Slot), (5 - y3_22 : Int32).toNatClampNeg < f22 → 0 ≤ y3_22 → XInv S_22 → S_22.2.2.2 = S.2.2.2 → x_tryFaults_L22 x1 x2 (f22) y3_22 S_22 = (x_tryFaults_R22 S x1 x2) → XR D d A ad S_22 H → va_S A s.heap H locs → lv_has ls 6 [(3, .int y3_22), (0, .ref (ad (0, 0))), (1, .ref (ad (30, x1))), (2, .int x2)] → W p l e (rm_ 4) s m av below meth c H locs 0 0 Q (F0 m 22 ls []) := by
    intro f22
    induction f22 with
    | zero => intro y3_22 S_22 H locs ls hf; exact absurd hf (Nat.not_lt_zero _)
    | succ f22 ih =>
      intro y3_22 S_22 H locs ls hf hi3 hJ1 hM1 hE hR hS hl
      refine lv_iload_n hx hb dX0_tryFaults_22 rfl (lv_at hl 0 rfl) ?_
      refine lv_iconst (v := 5) hx hb dX0_tryFaults_23 (by decide) ?_
      refine lv_icmp_ge (tgt := 96) hx hb dX0_tryFaults_24 (by decide) (fun c1 => ?_) (fun c1 => ?_)
      · have e0 : (x_tryFaults_R22 S x1 x2) = (y3_22, S_22) := Eq.trans (Eq.symm hE) (Eq.trans (x_tryFaults_L22_s _ _ _ _ _) (if_pos c1))
        exact K22 _ _ _ ((by rw [e0]; exact hJ1)) ((by rw [e0]; exact hM1)) (by rw [e0]; exact hR) hS (by rw [e0]; exact lv_sub hl [0, 1, 2, 3] rfl)
      · refine lv_iconst (v := 0) hx hb dX0_tryFaults_27 (by decide) ?_
        refine lv_istore (lv' := [(4, .int 0), (3, .int y3_22), (0, .ref (ad (0, 0))), (1, .ref (ad (30, x1))), (2, .int x2)]) hx hb dX0_tryFaults_28 hl (by decide) rfl (fun ls hl => ?_)
        have K30 : ∀ (H : Heap) (locs : List Loc) (ls : Array Slot), (XInv (x_tryFaults_R30 x1 x2 y3_22 S_22).2) → ((x_tryFaults_R30 x1 x2 y3_22 S_22).2.2.2.2 = S.2.2.2) → XR D d A ad (x_tryFaults_R30 x1 x2 y3_22 S_22).2 H → va_S A s.heap H locs → lv_has ls 6 [(4, .int (x_tryFaults_R30 x1 x2 y3_22 S_22).1), (3, .int y3_22), (0, .ref (ad (0, 0))), (1, .ref (ad (30, x1))), (2, .int x2)] → W p l e (rm_ 4) s m av below meth c H locs 0 0 Q (F0 m 90 ls []) := by
          intro H locs ls hJ2p hM2p hR hS hl
          refine lv_iinc (v := (y3_22 + 1)) (lv' := [(3, .int (y3_22 + 1)), (4, .int (x_tryFaults_R30 x1 x2 y3_22 S_22).1), (0, .ref (ad (0, 0))), (1, .ref (ad (30, x1))), (2, .int x2)]) hx hb dX0_tryFaults_90 hl (k := 1) rfl rfl (by decide) rfl (fun ls hl => ?_)
          refine lv_goto (tgt := 22) hx hb dX0_tryFaults_93 (by decide) ?_
          exact ih (y3_22 + 1) (x_tryFaults_R30 x1 x2 y3_22 S_22).2 _ _  _ (Nat.lt_of_lt_of_le (up_ hi3 (x_tryFaults_o13 S x1 x2 y3_22 S_22 hI hr h3 hN17 hI17 hi3 hJ1 hM1 c1 hJ2p hM2p)) (Nat.le_of_lt_succ hf)) (x_tryFaults_o12 S x1 x2 y3_22 S_22 hI hr h3 hN17 hI17 hi3 hJ1 hM1 c1 hJ2p hM2p) (hJ2p) (hM2p) (Eq.trans (Eq.symm (Eq.trans (x_tryFaults_L22_s _ _ _ _ _) (if_neg c1))) hE) hR hS (lv_sub hl [0, 2, 3, 4] rfl)
        have L30 : ∀ (f30 : Nat) (y4_30 : Int32) (S_30 : XS) (H : Heap) (locs : List Loc) (ls : Array Slot), (48 - y4_30 : Int32).toNatClampNeg < f30 → 0 ≤ y4_30 → XInv S_30 → S_30.2.2.2 = S.2.2.2 → x_tryFaults_L30 x1 x2 y3_22 (f30) y4_30 S_30 = (x_tryFaults_R30 x1 x2 y3_22 S_22) → XR D d A ad S_30 H → va_S A s.heap H locs → lv_has ls 6 [(4, .int y4_30), (3, .int y3_22), (0, .ref (ad (0, 0))), (1, .ref (ad (30, x1))), (2, .int x2)] → W p l e (rm_ 4) s m av below meth c H locs 0 0 Q (F0 m 30 ls []) := by
          intro f30
          induction f30 with
          | zero => intro y4_30 S_30 H locs ls hf; exact absurd hf (Nat.not_lt_zero _)
          | succ f30 ih =>
            intro y4_30 S_30 H locs ls hf hi4 hJ2 hM2 hE hR hS hl
            refine lv_iload hx hb dX0_tryFaults_30 (lv_at hl 0 rfl) ?_
            refine lv_bipush (v := 48) hx hb dX0_tryFaults_32 (by decide) ?_
            refine lv_icmp_ge (tgt := 90) hx hb dX0_tryFaults_34 (by decide) (fun c2 => ?_) (fun c2 => ?_)
            · have e0 : (x_tryFaults_R30 x1 x2 y3_22 S_22) = (y4_30, S_30) := Eq.trans (Eq.symm hE) (Eq.trans (x_tryFaults_L30_s _ _ _ _ _ _) (if_pos c2))
              exact K30 _ _ _ ((by rw [e0]; exact hJ2)) ((by rw [e0]; exact hM2)) (by rw [e0]; exact hR) hS (by rw [e0]; exact lv_sub hl [0, 1, 2, 3, 4] rfl)
            · refine lv_iconst (v := 0) hx hb dX0_tryFaults_37 (by decide) ?_
              refine lv_istore (lv' := [(5, .int 0), (4, .int y4_30), (3, .int y3_22), (0, .ref (ad (0, 0))), (1, .ref (ad (30, x1))), (2, .int x2)]) hx hb dX0_tryFaults_38 hl (by decide) rfl (fun ls hl => ?_)
              have K40 : ∀ (H : Heap) (locs : List Loc) (ls : Array Slot), (XInv (x_tryFaults_R40 x1 x2 y3_22 y4_30 S_30).2) → ((x_tryFaults_R40 x1 x2 y3_22 y4_30 S_30).2.2.2.2 = S.2.2.2) → XR D d A ad (x_tryFaults_R40 x1 x2 y3_22 y4_30 S_30).2 H → va_S A s.heap H locs → lv_has ls 6 [(5, .int (x_tryFaults_R40 x1 x2 y3_22 y4_30 S_30).1), (4, .int y4_30), (3, .int y3_22), (0, .ref (ad (0, 0))), (1, .ref (ad (30, x1))), (2, .int x2)] → W p l e (rm_ 4) s m av below meth c H locs 0 0 Q (F0 m 84 ls []) := by
                intro H locs ls hJ3p hM3p hR hS hl
                refine lv_iinc (v := (y4_30 + 1)) (lv' := [(4, .int (y4_30 + 1)), (5, .int (x_tryFaults_R40 x1 x2 y3_22 y4_30 S_30).1), (3, .int y3_22), (0, .ref (ad (0, 0))), (1, .ref (ad (30, x1))), (2, .int x2)]) hx hb dX0_tryFaults_84 hl (k := 1) rfl rfl (by decide) rfl (fun ls hl => ?_)
                refine lv_goto (tgt := 30) hx hb dX0_tryFaults_87 (by decide) ?_
                exact ih (y4_30 + 1) (x_tryFaults_R40 x1 x2 y3_22 y4_30 S_30).2 _ _  _ (Nat.lt_of_lt_of_le (up_ hi4 (x_tryFaults_o14 S x1 x2 y3_22 S_22 y4_30 S_30 hI hr h3 hN17 hI17 hi3 hJ1 hM1 c1 hi4 hJ2 hM2 c2 hJ3p hM3p)) (Nat.le_of_lt_succ hf)) (x_tryFaults_o11 S x1 x2 y3_22 S_22 y4_30 S_30 hI hr h3 hN17 hI17 hi3 hJ1 hM1 c1 hi4 hJ2 hM2 c2 hJ3p hM3p) (hJ3p) (hM3p) (Eq.trans (Eq.symm (Eq.trans (x_tryFaults_L30_s _ _ _ _ _ _) (if_neg c2))) hE) hR hS (lv_sub hl [0, 2, 3, 4, 5] rfl)
              have L40 : ∀ (f40 : Nat) (y5_40 : Int32) (S_40 : XS) (H : Heap) (locs : List Loc) (ls : Array Slot), (48 - y5_40 : Int32).toNatClampNeg < f40 → 0 ≤ y5_40 → XInv S_40 → S_40.2.2.2 = S.2.2.2 → x_tryFaults_L40 x1 x2 y3_22 y4_30 (f40) y5_40 S_40 = (x_tryFaults_R40 x1 x2 y3_22 y4_30 S_30) → XR D d A ad S_40 H → va_S A s.heap H locs → lv_has ls 6 [(5, .int y5_40), (4, .int y4_30), (3, .int y3_22), (0, .ref (ad (0, 0))), (1, .ref (ad (30, x1))), (2, .int x2)] → W p l e (rm_ 4) s m av below meth c H locs 0 0 Q (F0 m 40 ls []) := by
                intro f40
                induction f40 with
                | zero => intro y5_40 S_40 H locs ls hf; exact absurd hf (Nat.not_lt_zero _)
                | succ f40 ih =>
                  intro y5_40 S_40 H locs ls hf hi5 hJ3 hM3 hE hR hS hl
                  refine lv_iload hx hb dX0_tryFaults_40 (lv_at hl 0 rfl) ?_
                  refine lv_iload_n hx hb dX0_tryFaults_42 rfl (lv_at hl 2 rfl) ?_
                  refine lv_iconst (v := 3) hx hb dX0_tryFaults_43 (by decide) ?_
                  have J5 : ∀ (w4 : Int32) (H : Heap) (locs : List Loc) (ls : Array Slot), w4 = (x_tryFaults_j53_s0 y3_22) → XR D d A ad S_40 H → va_S A s.heap H locs → lv_has ls 6 [(5, .int y5_40), (4, .int y4_30), (3, .int y3_22), (0, .ref (ad (0, 0))), (1, .ref (ad (30, x1))), (2, .int x2)] → W p l e (rm_ 4) s m av below meth c H locs 0 0 Q (F0 m 53 ls [.int w4, .int y5_40]) := by
                    intro w4 H locs ls ew4 hR hS hl
                    subst ew4
                    have hj53 : (x_tryFaults_j53_s0 y3_22) ≤ 48 := by unfold x_tryFaults_j53_s0; exact x_tryFaults_j53_le _
                    refine lv_icmp_ge (tgt := 84) hx hb dX0_tryFaults_53 (by decide) (fun c6 => ?_) (fun c6 => ?_)
                    · have e0 : (x_tryFaults_R40 x1 x2 y3_22 y4_30 S_30) = (y5_40, S_40) := Eq.trans (Eq.symm hE) (Eq.trans (x_tryFaults_L40_s _ _ _ _ _ _ _) (if_pos c6))
                      exact K40 _ _ _ ((by rw [e0]; exact hJ3)) ((by rw [e0]; exact hM3)) (by rw [e0]; exact hR) hS (by rw [e0]; exact lv_sub hl [0, 1, 2, 3, 4, 5] rfl)
                    · refine lv_iload_n hx hb dX0_tryFaults_56 rfl (lv_at hl 2 rfl) ?_
                      refine lv_iload hx hb dX0_tryFaults_57 (lv_at hl 1 rfl) ?_
                      refine lv_iload hx hb dX0_tryFaults_59 (lv_at hl 0 rfl) ?_
                      refine s_ci X.1.1 (st_x_isFault l y3_22 y4_30 y5_40) 3 (lw_S q1003 q1004 q58 q1005) ⟨rfl, rfl⟩ (by decide +kernel) ⟨by decide, by decide⟩ ⟨by decide, by decide⟩ rfl hl.1 rfl (Nat.le_of_ble_eq_true rfl) dX0_tryFaults_61 ?_
                      have J9 : ∀ (w8 : XS) (H : Heap) (locs : List Loc) (ls : Array Slot), w8 = (x_tryFaults_j78_S x1 x2 y3_22 y4_30 y5_40 S_40) → XR D d A ad w8 H → va_S A s.heap H locs → lv_has ls 6 [(5, .int y5_40), (4, .int y4_30), (3, .int y3_22), (0, .ref (ad (0, 0))), (1, .ref (ad (30, x1))), (2, .int x2)] → W p l e (rm_ 4) s m av below meth c H locs 0 0 Q (F0 m 78 ls []) := by
                        intro w8 H locs ls ew8 hR hS hl
                        subst ew8
                        have hN_j78_S : (x_tryFaults_j78_S x1 x2 y3_22 y4_30 y5_40 S_40).2.2.2 = S_40.2.2.2 := x_tryFaults_j78_S_N x1 x2 y3_22 y4_30 y5_40 S_40
                        have hI_j78_S : XInv (x_tryFaults_j78_S x1 x2 y3_22 y4_30 y5_40 S_40) := x_tryFaults_j78_S_I S x1 x2 y3_22 S_22 y4_30 S_30 y5_40 S_40 hI hr h3 hi3 hJ1 hM1 c1 hi4 hJ2 hM2 c2 hi5 hJ3 hM3 c6
                        refine lv_iinc (v := (y5_40 + 1)) (lv' := [(5, .int (y5_40 + 1)), (4, .int y4_30), (3, .int y3_22), (0, .ref (ad (0, 0))), (1, .ref (ad (30, x1))), (2, .int x2)]) hx hb dX0_tryFaults_78 hl (k := 0) rfl rfl (by decide) rfl (fun ls hl => ?_)
                        refine lv_goto (tgt := 40) hx hb dX0_tryFaults_81 (by decide) ?_
                        exact ih (y5_40 + 1) (x_tryFaults_j78_S x1 x2 y3_22 y4_30 y5_40 S_40) _ _  _ (Nat.lt_of_lt_of_le (up_ hi5 (x_tryFaults_o15 S x1 x2 y3_22 S_22 y4_30 S_30 y5_40 S_40 hI hr h3 hN17 hI17 hi3 hJ1 hM1 c1 hi4 hJ2 hM2 c2 hi5 hJ3 hM3 hj53 c6 hN_j78_S hI_j78_S)) (Nat.le_of_lt_succ hf)) (x_tryFaults_o10 S x1 x2 y3_22 S_22 y4_30 S_30 y5_40 S_40 hI hr h3 hN17 hI17 hi3 hJ1 hM1 c1 hi4 hJ2 hM2 c2 hi5 hJ3 hM3 hj53 c6 hN_j78_S hI_j78_S) (hI_j78_S) ((hN_j78_S.trans hM3)) (Eq.trans (Eq.symm (Eq.trans (x_tryFaults_L40_s _ _ _ _ _ _ _) (if_neg c6))) hE) hR hS (lv_sub hl [0, 1, 2, 3, 4, 5] rfl)
                      refine lv_if_eq (tgt := 78) hx hb dX0_tryFaults_64 (by decide) (fun c7 => ?_) (fun c7 => ?_)
                      · exact J9 _ _ _  _ (Eq.symm (if_pos c7)) hR hS  (lv_sub hl [0, 1, 2, 3, 4, 5] rfl)
                      · refine lv_aload_n hx hb dX0_tryFaults_67 rfl (lv_at hl 3 rfl) ?_
                        refine lv_aload_n hx hb dX0_tryFaults_68 rfl (lv_at hl 4 rfl) ?_
                        refine lv_iload_n hx hb dX0_tryFaults_69 rfl (lv_at hl 5 rfl) ?_
                        refine lv_iload_n hx hb dX0_tryFaults_70 rfl (lv_at hl 2 rfl) ?_
                        refine lv_iload hx hb dX0_tryFaults_71 (lv_at hl 1 rfl) ?_
                        refine lv_iload hx hb dX0_tryFaults_73 (lv_at hl 0 rfl) ?_
                        refine x_bv hS (xr_V X hR x_lv0 (ci := 0) (fs := x_fs ad S_40) rfl rfl (xt_tryFault l D d A ad S_40 x1 x2 y3_22 y4_30 y5_40 (hJ3) (hr) (by show ¬ S_40.2.2.2 3 x1 = 0; rw [hM3]; exact h3)) 5 (lw_V q1029 q1031 qs19 q58 q1032) ⟨rfl, rfl⟩ (by decide +kernel) ⟨by decide, by decide⟩ ⟨by decide, by decide⟩ rfl hl.1 rfl (Nat.le_of_ble_eq_true rfl) dX0_tryFaults_75) (fun H locs hR hS => ?_)
                        have hN75 : (x_tryFault S_40 x1 x2 y3_22 y4_30 y5_40).2.2.2 = S_40.2.2.2 := x_tryFault_N S_40 x1 x2 y3_22 y4_30 y5_40
                        have hI75 : XInv (x_tryFault S_40 x1 x2 y3_22 y4_30 y5_40) := x_tryFault_inv S_40 x1 x2 y3_22 y4_30 y5_40 (hJ3) (hr) (by show ¬ S_40.2.2.2 3 x1 = 0; rw [hM3]; exact h3)
                        exact J9 _ _ _  _ (Eq.symm (if_neg c7)) hR hS  (lv_sub hl [0, 1, 2, 3, 4, 5] rfl)
                  refine lv_icmp_ne (tgt := 51) hx hb dX0_tryFaults_44 (by decide) (fun c3 => ?_) (fun c3 => ?_)
                  · refine lv_bipush (v := 48) hx hb dX0_tryFaults_51 (by decide) ?_
                    exact J5 _ _ _  _ (Eq.symm (if_neg c3)) hR hS  (lv_sub hl [0, 1, 2, 3, 4, 5] rfl)
                  · refine lv_iconst (v := 1) hx hb dX0_tryFaults_47 (by decide) ?_
                    refine lv_goto (tgt := 53) hx hb dX0_tryFaults_48 (by decide) ?_
                    exact J5 _ _ _  _ (Eq.symm (if_pos c3)) hR hS  (lv_sub hl [0, 1, 2, 3, 4, 5] rfl)
              exact L40 _ 0 S_30 _ _  _ (fz_lt _) (by decide) (hJ2) (hM2) rfl hR hS (lv_sub hl [0, 1, 2, 3, 4, 5] rfl)
        exact L30 _ 0 S_22 _ _  _ (fz_lt _) (by decide) (hJ1) (hM1) rfl hR hS (lv_sub hl [0, 1, 2, 3, 4] rfl)
  exact L22 _ 1 (x_tryFault (xu (xu S 14 0 (-9)) 15 0 0) x1 x2 0 0 0) _ _  _ (fz_lt _) (by decide) (hI17) (hN17) rfl hR hS (lv_sub hl [0, 1, 2, 3] rfl)
