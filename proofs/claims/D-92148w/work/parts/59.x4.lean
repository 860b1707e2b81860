/-! PRINTED by gen/run_x4.py -/
set_option maxRecDepth 100000
def x_w_silence_j68_s0 (S : XS) (t : Nat) : Int32 := (if (S.1 67 t) ≤ (S.1 66 t) then (if (S.1 66 t) ≤ (S.1 67 t) then 0 else (if (S.1 66 t) ≤ ((S.1 60 t) / 60) then 1 else (if (S.1 67 t) ≤ ((S.1 60 t) / 60) then 0 else 1))) else (x_in ((S.1 60 t) / 60) (S.1 66 t) ((S.1 67 t) - 1)))
def x_w_silence (S : XS) (t : Nat) : Int32 := (if (x_w_silence_j68_s0 S t) = 0 then 0 else (if (S.1 68 t) = 0 then 1 else 2))
set_option maxHeartbeats 4000000 in
theorem xt_w_silence (l : Launch) (D : va_G) (d : Nat → ClassId) (A : Nat → Prop) (ad : XK → Nat) (S : XS) (t : Nat) (hI : XInv S) (ht : t < 4) (h5 : ¬ S.2.2.2 5 t = 0) : XI l yX6_silence cX6_silence 3 .int (rm_ 1) D d A ad S [.ref (ad (70, t))] ((x_w_silence S t), S) := by
  refine x_startI RX6 rfl (by decide) (Nat.le_of_ble_eq_true rfl) ?_
  intro p e s m av below meth c ls Q X hrt hlk hl hR hQ
  have hx := X.1.1.1
  have hb := X.1.1.2.1
  have hown := X.1.1.2.2.2.1
  have hts := X.1.1.2.2.2.2
  have hS : va_S A s.heap s.heap [] := va_S.rf
  have hl : lv_has ls 3 [(0, .ref (ad (70, t)))] := hl
  refine lv_aload_n hx hb dX6_silence_0 rfl (lv_at hl 0 rfl) ?_
  refine xgw X hR (x_lvw (ht) (h5)) 0 (Or.inl (by decide)) (Or.inl q695) rfl dX6_silence_1 ?_
  refine lv_bipush (v := 60) hx hb dX6_silence_4 (by decide) ?_
  refine lv_idiv hx hb dX6_silence_6 (by decide) ?_
  refine lv_istore_n (lv' := [(1, .int ((S.1 60 t) / 60)), (0, .ref (ad (70, t)))]) hx hb dX6_silence_7 rfl hl (by decide) rfl (fun ls hl => ?_)
  refine lv_aload_n hx hb dX6_silence_8 rfl (lv_at hl 1 rfl) ?_
  refine xgw X hR (x_lvw (ht) (h5)) 6 (Or.inr (by decide)) (Or.inl q707) rfl dX6_silence_9 ?_
  refine lv_aload_n hx hb dX6_silence_12 rfl (lv_at hl 1 rfl) ?_
  refine xgw X hR (x_lvw (ht) (h5)) 7 (Or.inr (by decide)) (Or.inl q709) rfl dX6_silence_13 ?_
  have J6 : ∀ (w5 : Int32) (H : Heap) (locs : List Loc) (ls : Array Slot), w5 = (x_w_silence_j68_s0 S t) → XR D d A ad S H → va_S A s.heap H locs → lv_has ls 3 [(1, .int ((S.1 60 t) / 60)), (0, .ref (ad (70, t)))] → W p l e (rm_ 1) s m av below meth c H locs 0 0 Q (F0 m 68 ls [.int w5]) := by
    intro w5 H locs ls ew5 hR hS hl
    subst ew5
    refine lv_istore_n (lv' := [(2, .int (x_w_silence_j68_s0 S t)), (1, .int ((S.1 60 t) / 60)), (0, .ref (ad (70, t)))]) hx hb dX6_silence_68 rfl hl (by decide) rfl (fun ls hl => ?_)
    refine lv_iload_n hx hb dX6_silence_69 rfl (lv_at hl 0 rfl) ?_
    refine lv_if_ne (tgt := 77) hx hb dX6_silence_70 (by decide) (fun c7 => ?_) (fun c7 => ?_)
    · refine lv_aload_n hx hb dX6_silence_77 rfl (lv_at hl 2 rfl) ?_
      refine xgw X hR (x_lvw (ht) (h5)) 8 (Or.inr (by decide)) (Or.inl q711) rfl dX6_silence_78 ?_
      refine lv_if_ne (tgt := 88) hx hb dX6_silence_81 (by decide) (fun c8 => ?_) (fun c8 => ?_)
      · refine lv_iconst (v := 2) hx hb dX6_silence_88 (by decide) ?_
        exact x_ri hx hb hrt (rfl) hlk hR hS hQ (hF1 (Eq.trans (if_neg c7) (if_neg c8))) dX6_silence_89
      · refine lv_iconst (v := 1) hx hb dX6_silence_84 (by decide) ?_
        refine lv_goto (tgt := 89) hx hb dX6_silence_85 (by decide) ?_
        exact x_ri hx hb hrt (rfl) hlk hR hS hQ (hF1 (Eq.trans (if_neg c7) (if_pos c8))) dX6_silence_89
    · refine lv_iconst (v := 0) hx hb dX6_silence_73 (by decide) ?_
      refine lv_goto (tgt := 89) hx hb dX6_silence_74 (by decide) ?_
      exact x_ri hx hb hrt (rfl) hlk hR hS hQ (hF1 (if_pos c7)) dX6_silence_89
  refine lv_icmp_ge (tgt := 36) hx hb dX6_silence_16 (by decide) (fun c1 => ?_) (fun c1 => ?_)
  · refine lv_aload_n hx hb dX6_silence_36 rfl (lv_at hl 1 rfl) ?_
    refine xgw X hR (x_lvw (ht) (h5)) 6 (Or.inr (by decide)) (Or.inl q707) rfl dX6_silence_37 ?_
    refine lv_aload_n hx hb dX6_silence_40 rfl (lv_at hl 1 rfl) ?_
    refine xgw X hR (x_lvw (ht) (h5)) 7 (Or.inr (by decide)) (Or.inl q709) rfl dX6_silence_41 ?_
    refine lv_icmp_le (tgt := 67) hx hb dX6_silence_44 (by decide) (fun c2 => ?_) (fun c2 => ?_)
    · refine lv_iconst (v := 0) hx hb dX6_silence_67 (by decide) ?_
      exact J6 _ _ _  _ (Eq.symm (Eq.trans (if_pos c1) (if_pos c2))) hR hS  (lv_sub hl [0, 1] rfl)
    · refine lv_iload_n hx hb dX6_silence_47 rfl (lv_at hl 0 rfl) ?_
      refine lv_aload_n hx hb dX6_silence_48 rfl (lv_at hl 1 rfl) ?_
      refine xgw X hR (x_lvw (ht) (h5)) 6 (Or.inr (by decide)) (Or.inl q707) rfl dX6_silence_49 ?_
      refine lv_icmp_ge (tgt := 63) hx hb dX6_silence_52 (by decide) (fun c3 => ?_) (fun c3 => ?_)
      · refine lv_iconst (v := 1) hx hb dX6_silence_63 (by decide) ?_
        refine lv_goto (tgt := 68) hx hb dX6_silence_64 (by decide) ?_
        exact J6 _ _ _  _ (Eq.symm (Eq.trans (if_pos c1) (Eq.trans (if_neg c2) (if_pos c3)))) hR hS  (lv_sub hl [0, 1] rfl)
      · refine lv_iload_n hx hb dX6_silence_55 rfl (lv_at hl 0 rfl) ?_
        refine lv_aload_n hx hb dX6_silence_56 rfl (lv_at hl 1 rfl) ?_
        refine xgw X hR (x_lvw (ht) (h5)) 7 (Or.inr (by decide)) (Or.inl q709) rfl dX6_silence_57 ?_
        refine lv_icmp_ge (tgt := 67) hx hb dX6_silence_60 (by decide) (fun c4 => ?_) (fun c4 => ?_)
        · refine lv_iconst (v := 0) hx hb dX6_silence_67 (by decide) ?_
          exact J6 _ _ _  _ (Eq.symm (Eq.trans (if_pos c1) (Eq.trans (if_neg c2) (Eq.trans (if_neg c3) (if_pos c4))))) hR hS  (lv_sub hl [0, 1] rfl)
        · refine lv_iconst (v := 1) hx hb dX6_silence_63 (by decide) ?_
          refine lv_goto (tgt := 68) hx hb dX6_silence_64 (by decide) ?_
          exact J6 _ _ _  _ (Eq.symm (Eq.trans (if_pos c1) (Eq.trans (if_neg c2) (Eq.trans (if_neg c3) (if_neg c4))))) hR hS  (lv_sub hl [0, 1] rfl)
  · refine lv_iload_n hx hb dX6_silence_19 rfl (lv_at hl 0 rfl) ?_
    refine lv_aload_n hx hb dX6_silence_20 rfl (lv_at hl 1 rfl) ?_
    refine xgw X hR (x_lvw (ht) (h5)) 6 (Or.inr (by decide)) (Or.inl q707) rfl dX6_silence_21 ?_
    refine lv_aload_n hx hb dX6_silence_24 rfl (lv_at hl 1 rfl) ?_
    refine xgw X hR (x_lvw (ht) (h5)) 7 (Or.inr (by decide)) (Or.inl q709) rfl dX6_silence_25 ?_
    refine lv_iconst (v := 1) hx hb dX6_silence_28 (by decide) ?_
    refine lv_isub hx hb dX6_silence_29 ?_
    refine x_siN X hS (st_x_in l ((S.1 60 t) / 60) (S.1 66 t) ((S.1 67 t) - 1)) 3 q786 q281 q58 q282 ⟨rfl, rfl⟩ (by decide +kernel) ⟨by decide, by decide⟩ ⟨by decide, by decide⟩ rfl hl.1 rfl (Nat.le_of_ble_eq_true rfl) dX6_silence_30 ?_
    refine lv_goto (tgt := 68) hx hb dX6_silence_33 (by decide) ?_
    exact J6 _ _ _  _ (Eq.symm (if_neg c1)) hR hS  (lv_sub hl [0, 1] rfl)
def x_w_warn (S : XS) (t : Nat) (x1 : Int32) : XS := (if S.2.2.2 4 (2 * t + (Int32.toNatClampNeg x1)) = 0 then S else (xu S 48 (S.2.2.2 4 (2 * t + (Int32.toNatClampNeg x1)) - 1) 1))
theorem x_w_warn_N (S : XS) (t : Nat) (x1 : Int32) : (x_w_warn S t x1).2.2.2 = S.2.2.2 := by
  unfold x_w_warn
  refine ifI (P := fun (z : XS) => z.2.2.2 = S.2.2.2) (fun c1 => ?_) (fun c1 => ?_)
  · exact rfl
  · exact rfl
theorem x_w_warn_inv (S : XS) (t : Nat) (x1 : Int32) (hI : XInv S) (ht : t < 4) (h5 : ¬ S.2.2.2 5 t = 0) (hk : 0 ≤ x1 ∧ x1 < 2) : XInv (x_w_warn S t x1) := by
  have hq : 2 * t + (Int32.toNatClampNeg x1) < 8 := tp8 ht hk
  unfold x_w_warn
  refine ifI (P := fun (z : XS) => XInv z) (fun c1 => ?_) (fun c1 => ?_)
  · exact hI
  · exact (XInv_xu hI _ _ _ (by decide))
set_option maxHeartbeats 4000000 in
theorem xt_w_warn (l : Launch) (D : va_G) (d : Nat → ClassId) (A : Nat → Prop) (ad : XK → Nat) (S : XS) (t : Nat) (x1 : Int32) (hI : XInv S) (ht : t < 4) (h5 : ¬ S.2.2.2 5 t = 0) (hk : 0 ≤ x1 ∧ x1 < 2) : XV l yX6_warn cX6_warn 2 (rm_ 0) D d A ad S [.ref (ad (70, t)), .int x1] (x_w_warn S t x1) := by
  refine x_startV RX6 rfl (by decide) (Nat.le_of_ble_eq_true rfl) ?_
  intro p e s m av below meth c ls Q X hrt hlk hl hR hQ
  have hx := X.1.1.1
  have hb := X.1.1.2.1
  have hown := X.1.1.2.2.2.1
  have hts := X.1.1.2.2.2.2
  have hS : va_S A s.heap s.heap [] := va_S.rf
  have hl : lv_has ls 2 [(0, .ref (ad (70, t))), (1, .int x1)] := hl
  have hq : 2 * t + (Int32.toNatClampNeg x1) < 8 := tp8 ht hk
  refine lv_aload_n hx hb dX6_warn_0 rfl (lv_at hl 0 rfl) ?_
  refine xgwo X hR (x_lvw (ht) (h5)) (Or.inl q705) dX6_warn_1 ?_
  refine lv_iload_n hx hb dX6_warn_4 rfl (lv_at hl 1 rfl) ?_
  refine x_ldoBE X hR (x_lvo (ht) (h5)) (ixl 2 2 (by decide) rfl (hk)) (n := S.2.2.2 4 (2 * t + (Int32.toNatClampNeg x1))) rfl dX6_warn_5 (fun c1 => ?_) (fun c1 => ?_)
  · refine lv_ifnullN (tgt := 19) hx hb dX6_warn_6 (by decide) ?_
    exact x_rv hx hb hrt hlk hR hS hQ (if_pos c1) dX6_warn_19
  · refine lv_ifnull hx hb dX6_warn_6 ?_
    refine lv_aload_n hx hb dX6_warn_9 rfl (lv_at hl 0 rfl) ?_
    refine xgwo X hR (x_lvw (ht) (h5)) (Or.inl q705) dX6_warn_10 ?_
    refine lv_iload_n hx hb dX6_warn_13 rfl (lv_at hl 1 rfl) ?_
    refine x_ldoE X hR (x_lvo (ht) (h5)) (ixl 2 2 (by decide) rfl (hk)) (n := S.2.2.2 4 (2 * t + (Int32.toNatClampNeg x1))) rfl (c1) dX6_warn_14 ?_
    refine lv_iconst (v := 1) hx hb dX6_warn_15 (by decide) ?_
    refine xptz X hR hS (x_lvt ((xi_own (X := S) hI (hq) c1))) (xi_kd (X := S) hI ((xi_own (X := S) hI (hq) c1))) 8 (by decide) rfl q379 (Or.inl rfl) rfl (Or.inr rfl) dX6_warn_16 (fun H locs hR hS => ?_)
    exact x_rv hx hb hrt hlk hR hS hQ (if_neg c1) dX6_warn_19
def x_w_stepOf_j21_s0 (S : XS) (t : Nat) (x1 : Int32) : Int32 := (if x1 = 0 then (x_hourOf (S.1 60 t)) else (x_quarterOf (S.1 60 t)))
def x_w_stepOf (S : XS) (t : Nat) (x1 : Int32) : Int32 := ((x_w_stepOf_j21_s0 S t x1) - 1)
set_option maxHeartbeats 4000000 in
theorem xt_w_stepOf (l : Launch) (D : va_G) (d : Nat → ClassId) (A : Nat → Prop) (ad : XK → Nat) (S : XS) (t : Nat) (x1 : Int32) (hI : XInv S) (ht : t < 4) (h5 : ¬ S.2.2.2 5 t = 0) : XI l yX6_stepOf cX6_stepOf 2 .int (rm_ 1) D d A ad S [.ref (ad (70, t)), .int x1] ((x_w_stepOf S t x1), S) := by
  refine x_startI RX6 rfl (by decide) (Nat.le_of_ble_eq_true rfl) ?_
  intro p e s m av below meth c ls Q X hrt hlk hl hR hQ
  have hx := X.1.1.1
  have hb := X.1.1.2.1
  have hown := X.1.1.2.2.2.1
  have hts := X.1.1.2.2.2.2
  have hS : va_S A s.heap s.heap [] := va_S.rf
  have hl : lv_has ls 2 [(0, .ref (ad (70, t))), (1, .int x1)] := hl
  refine lv_iload_n hx hb dX6_stepOf_0 rfl (lv_at hl 1 rfl) ?_
  have J3 : ∀ (w2 : Int32) (H : Heap) (locs : List Loc) (ls : Array Slot), w2 = (x_w_stepOf_j21_s0 S t x1) → XR D d A ad S H → va_S A s.heap H locs → lv_has ls 2 [(0, .ref (ad (70, t))), (1, .int x1)] → W p l e (rm_ 1) s m av below meth c H locs 0 0 Q (F0 m 21 ls [.int w2]) := by
    intro w2 H locs ls ew2 hR hS hl
    subst ew2
    refine lv_iconst (v := 1) hx hb dX6_stepOf_21 (by decide) ?_
    refine lv_isub hx hb dX6_stepOf_22 ?_
    exact x_ri hx hb hrt (rfl) hlk hR hS hQ (hF1 rfl) dX6_stepOf_23
  refine lv_if_ne (tgt := 14) hx hb dX6_stepOf_1 (by decide) (fun c1 => ?_) (fun c1 => ?_)
  · refine lv_aload_n hx hb dX6_stepOf_14 rfl (lv_at hl 0 rfl) ?_
    refine xgw X hR (x_lvw (ht) (h5)) 0 (Or.inl (by decide)) (Or.inl q695) rfl dX6_stepOf_15 ?_
    refine x_siN X hS (st_x_quarterOf l (S.1 60 t)) 1 q798 q799 q58 q800 ⟨rfl, rfl⟩ (by decide +kernel) ⟨by decide, by decide⟩ ⟨by decide, by decide⟩ rfl hl.1 rfl (Nat.le_of_ble_eq_true rfl) dX6_stepOf_18 ?_
    exact J3 _ _ _  _ (Eq.symm (if_neg c1)) hR hS  (lv_sub hl [0, 1] rfl)
  · refine lv_aload_n hx hb dX6_stepOf_4 rfl (lv_at hl 0 rfl) ?_
    refine xgw X hR (x_lvw (ht) (h5)) 0 (Or.inl (by decide)) (Or.inl q695) rfl dX6_stepOf_5 ?_
    refine x_siN X hS (st_x_hourOf l (S.1 60 t)) 1 q795 q796 q58 q797 ⟨rfl, rfl⟩ (by decide +kernel) ⟨by decide, by decide⟩ ⟨by decide, by decide⟩ rfl hl.1 rfl (Nat.le_of_ble_eq_true rfl) dX6_stepOf_8 ?_
    refine lv_goto (tgt := 21) hx hb dX6_stepOf_11 (by decide) ?_
    exact J3 _ _ _  _ (Eq.symm (if_pos c1)) hR hS  (lv_sub hl [0, 1] rfl)
theorem x_hourOf_ok {x1 : Int32} (h : 0 ≤ x1 ∧ x1 < 1440) : 1 ≤ x_hourOf x1 ∧ x_hourOf x1 ≤ 12 := by
  unfold x_hourOf
  have e1 := d32 (x := x1) (y := 60) (by simp only [i_le, i_lt, Int32.reduceToInt] at *; omega)
  split
  · decide
  · rename_i h0
    simp only [x_hourOf_v7, i_le, i_lt, i_eq, Int32.reduceToInt] at *
    have e2 := d32 (x := x1 / 60) (y := 12) (by simp only [Int32.reduceToInt]; omega)
    have e3 := m32 (x := x1 / 60 / 12) (y := 12) (by simp only [Int32.reduceToInt] at *; omega)
    have e4 := s32 (x := x1 / 60) (y := x1 / 60 / 12 * 12) (by simp only [Int32.reduceToInt] at *; omega)
    simp only [Int32.reduceToInt] at *
    omega
theorem x_quarterOf_ok {x1 : Int32} (h : 0 ≤ x1 ∧ x1 < 1440) : 1 ≤ x_quarterOf x1 ∧ x_quarterOf x1 ≤ 4 := by
  have hq := quart_b x1 h
  unfold x_quarterOf
  split
  · decide
  · rename_i h0
    simp only [i_le, i_lt, i_eq, Int32.reduceToInt] at *
    omega
theorem x_w_stepOf_b (S : XS) (t : Nat) (x1 : Int32) (hI : XInv S) (ht : t < 4) (h5 : ¬ S.2.2.2 5 t = 0) : 0 ≤ x_w_stepOf S t x1 ∧ x_w_stepOf S t x1 ≤ 100000000 := by
  have hh := (xi_t hI ht h5).1
  have a := x_hourOf_ok hh
  have b := x_quarterOf_ok hh
  unfold x_w_stepOf x_w_stepOf_j21_s0
  split
  · have e := s32 (x := x_hourOf (S.1 60 t)) (y := 1) (by simp only [i_le, i_lt, Int32.reduceToInt] at *; omega)
    simp only [i_le, i_lt, Int32.reduceToInt] at *
    omega
  · have e := s32 (x := x_quarterOf (S.1 60 t)) (y := 1) (by simp only [i_le, i_lt, Int32.reduceToInt] at *; omega)
    simp only [i_le, i_lt, Int32.reduceToInt] at *
    omega
def x_w_letOff (S : XS) (t : Nat) (x1 : Int32) : XS := (if x1 = 1 then (if (x_quarterOf (S.1 60 t)) = 4 then (xv_letOff S (S.2.2.2 4 (2 * t + (Int32.toNatClampNeg x1)) - 1) (x_w_stepOf S t x1) 1) else (xv_letOff S (S.2.2.2 4 (2 * t + (Int32.toNatClampNeg x1)) - 1) (x_w_stepOf S t x1) 0)) else (xv_letOff S (S.2.2.2 4 (2 * t + (Int32.toNatClampNeg x1)) - 1) (x_w_stepOf S t x1) 0))
theorem x_w_letOff_N (S : XS) (t : Nat) (x1 : Int32) : (x_w_letOff S t x1).2.2.2 = S.2.2.2 := by
  unfold x_w_letOff
  refine ifI (P := fun (z : XS) => z.2.2.2 = S.2.2.2) (fun c1 => ?_) (fun c1 => ?_)
  · refine ifI (P := fun (z : XS) => z.2.2.2 = S.2.2.2) (fun c2 => ?_) (fun c2 => ?_)
    · have hN32_1 : (xv_letOff S (S.2.2.2 4 (2 * t + (Int32.toNatClampNeg x1)) - 1) (x_w_stepOf S t x1) 1).2.2.2 = S.2.2.2 := xv_letOff_N S (S.2.2.2 4 (2 * t + (Int32.toNatClampNeg x1)) - 1) (x_w_stepOf S t x1) 1
      exact hN32_1
    · have hN32 : (xv_letOff S (S.2.2.2 4 (2 * t + (Int32.toNatClampNeg x1)) - 1) (x_w_stepOf S t x1) 0).2.2.2 = S.2.2.2 := xv_letOff_N S (S.2.2.2 4 (2 * t + (Int32.toNatClampNeg x1)) - 1) (x_w_stepOf S t x1) 0
      exact hN32
  · have hN32 : (xv_letOff S (S.2.2.2 4 (2 * t + (Int32.toNatClampNeg x1)) - 1) (x_w_stepOf S t x1) 0).2.2.2 = S.2.2.2 := xv_letOff_N S (S.2.2.2 4 (2 * t + (Int32.toNatClampNeg x1)) - 1) (x_w_stepOf S t x1) 0
    exact hN32
theorem x_w_letOff_inv (S : XS) (t : Nat) (x1 : Int32) (hI : XInv S) (ht : t < 4) (h5 : ¬ S.2.2.2 5 t = 0) (hk : 0 ≤ x1 ∧ x1 < 2) (ho : ¬ S.2.2.2 4 (2 * t + (Int32.toNatClampNeg x1)) = 0) : XInv (x_w_letOff S t x1) := by
  have hq : 2 * t + (Int32.toNatClampNeg x1) < 8 := tp8 ht hk
  unfold x_w_letOff
  refine ifI (P := fun (z : XS) => XInv z) (fun c1 => ?_) (fun c1 => ?_)
  · refine ifI (P := fun (z : XS) => XInv z) (fun c2 => ?_) (fun c2 => ?_)
    · have hI32_1 : XInv (xv_letOff S (S.2.2.2 4 (2 * t + (Int32.toNatClampNeg x1)) - 1) (x_w_stepOf S t x1) 1) := xv_letOff_inv S (S.2.2.2 4 (2 * t + (Int32.toNatClampNeg x1)) - 1) (x_w_stepOf S t x1) 1 (hI) ((xi_own (X := S) hI (hq) ho)) (by decide) (x_w_stepOf_b S t x1 hI ht h5)
      exact hI32_1
    · have hI32 : XInv (xv_letOff S (S.2.2.2 4 (2 * t + (Int32.toNatClampNeg x1)) - 1) (x_w_stepOf S t x1) 0) := xv_letOff_inv S (S.2.2.2 4 (2 * t + (Int32.toNatClampNeg x1)) - 1) (x_w_stepOf S t x1) 0 (hI) ((xi_own (X := S) hI (hq) ho)) (by decide) (x_w_stepOf_b S t x1 hI ht h5)
      exact hI32
  · have hI32 : XInv (xv_letOff S (S.2.2.2 4 (2 * t + (Int32.toNatClampNeg x1)) - 1) (x_w_stepOf S t x1) 0) := xv_letOff_inv S (S.2.2.2 4 (2 * t + (Int32.toNatClampNeg x1)) - 1) (x_w_stepOf S t x1) 0 (hI) ((xi_own (X := S) hI (hq) ho)) (by decide) (x_w_stepOf_b S t x1 hI ht h5)
    exact hI32
set_option maxHeartbeats 4000000 in
theorem xt_w_letOff (l : Launch) (D : va_G) (d : Nat → ClassId) (A : Nat → Prop) (ad : XK → Nat) (S : XS) (t : Nat) (x1 : Int32) (hI : XInv S) (ht : t < 4) (h5 : ¬ S.2.2.2 5 t = 0) (hk : 0 ≤ x1 ∧ x1 < 2) (ho : ¬ S.2.2.2 4 (2 * t + (Int32.toNatClampNeg x1)) = 0) : XV l yX6_letOff cX6_letOff 2 (rm_ 2) D d A ad S [.ref (ad (70, t)), .int x1] (x_w_letOff S t x1) := by
  refine x_startV RX6 rfl (by decide) (Nat.le_of_ble_eq_true rfl) ?_
  intro p e s m av below meth c ls Q X hrt hlk hl hR hQ
  have hx := X.1.1.1
  have hb := X.1.1.2.1
  have hown := X.1.1.2.2.2.1
  have hts := X.1.1.2.2.2.2
  have hS : va_S A s.heap s.heap [] := va_S.rf
  have hl : lv_has ls 2 [(0, .ref (ad (70, t))), (1, .int x1)] := hl
  have hq : 2 * t + (Int32.toNatClampNeg x1) < 8 := tp8 ht hk
  refine lv_aload_n hx hb dX6_letOff_0 rfl (lv_at hl 0 rfl) ?_
  refine xgwo X hR (x_lvw (ht) (h5)) (Or.inl q705) dX6_letOff_1 ?_
  refine lv_iload_n hx hb dX6_letOff_4 rfl (lv_at hl 1 rfl) ?_
  refine x_ldoE X hR (x_lvo (ht) (h5)) (ixl 2 2 (by decide) rfl (hk)) (n := S.2.2.2 4 (2 * t + (Int32.toNatClampNeg x1))) rfl (ho) dX6_letOff_5 ?_
  refine lv_aload_n hx hb dX6_letOff_6 rfl (lv_at hl 0 rfl) ?_
  refine lv_iload_n hx hb dX6_letOff_7 rfl (lv_at hl 1 rfl) ?_
  refine x_bi hS (xr_V X hR (x_lvw (ht) (h5)) (ci := 6) (fs := x_tw ad S t) rfl rfl (xt_w_stepOf l D d A ad S t x1 (hI) (ht) (h5)) 1 (lw_V q791 q793 qs9 q77 q794) ⟨rfl, rfl⟩ (by decide +kernel) ⟨by decide, by decide⟩ ⟨by decide, by decide⟩ rfl hl.1 rfl (Nat.le_of_ble_eq_true rfl) dX6_letOff_8) (fun H locs hR hS => ?_)
  refine lv_iload_n hx hb dX6_letOff_11 rfl (lv_at hl 1 rfl) ?_
  refine lv_iconst (v := 1) hx hb dX6_letOff_12 (by decide) ?_
  refine lv_icmp_ne (tgt := 31) hx hb dX6_letOff_13 (by decide) (fun c1 => ?_) (fun c1 => ?_)
  · refine lv_iconst (v := 0) hx hb dX6_letOff_31 (by decide) ?_
    refine vr_letOff X hR hS (hI) ((xi_own (X := S) hI (hq) ho)) (by decide) (x_w_stepOf_b S t x1 hI ht h5) q801 hl.1 ⟨by decide, by decide⟩ ⟨by decide, by decide⟩ (Nat.le_of_ble_eq_true rfl) dX6_letOff_32 (fun H locs hR hS => ?_)
    have hN32 : (xv_letOff S (S.2.2.2 4 (2 * t + (Int32.toNatClampNeg x1)) - 1) (x_w_stepOf S t x1) 0).2.2.2 = S.2.2.2 := xv_letOff_N S (S.2.2.2 4 (2 * t + (Int32.toNatClampNeg x1)) - 1) (x_w_stepOf S t x1) 0
    have hI32 : XInv (xv_letOff S (S.2.2.2 4 (2 * t + (Int32.toNatClampNeg x1)) - 1) (x_w_stepOf S t x1) 0) := xv_letOff_inv S (S.2.2.2 4 (2 * t + (Int32.toNatClampNeg x1)) - 1) (x_w_stepOf S t x1) 0 (hI) ((xi_own (X := S) hI (hq) ho)) (by decide) (x_w_stepOf_b S t x1 hI ht h5)
    exact x_rv hx hb hrt hlk hR hS hQ (if_neg c1) dX6_letOff_35
  · refine lv_aload_n hx hb dX6_letOff_16 rfl (lv_at hl 0 rfl) ?_
    refine xgw X hR (x_lvw (ht) (h5)) 0 (Or.inl (by decide)) (Or.inl q695) rfl dX6_letOff_17 ?_
    refine x_siN X hS (st_x_quarterOf l (S.1 60 t)) 1 q798 q799 q58 q800 ⟨rfl, rfl⟩ (by decide +kernel) ⟨by decide, by decide⟩ ⟨by decide, by decide⟩ rfl hl.1 rfl (Nat.le_of_ble_eq_true rfl) dX6_letOff_20 ?_
    refine lv_iconst (v := 4) hx hb dX6_letOff_23 (by decide) ?_
    refine lv_icmp_ne (tgt := 31) hx hb dX6_letOff_24 (by decide) (fun c2 => ?_) (fun c2 => ?_)
    · refine lv_iconst (v := 0) hx hb dX6_letOff_31 (by decide) ?_
      refine vr_letOff X hR hS (hI) ((xi_own (X := S) hI (hq) ho)) (by decide) (x_w_stepOf_b S t x1 hI ht h5) q801 hl.1 ⟨by decide, by decide⟩ ⟨by decide, by decide⟩ (Nat.le_of_ble_eq_true rfl) dX6_letOff_32 (fun H locs hR hS => ?_)
      have hN32 : (xv_letOff S (S.2.2.2 4 (2 * t + (Int32.toNatClampNeg x1)) - 1) (x_w_stepOf S t x1) 0).2.2.2 = S.2.2.2 := xv_letOff_N S (S.2.2.2 4 (2 * t + (Int32.toNatClampNeg x1)) - 1) (x_w_stepOf S t x1) 0
      have hI32 : XInv (xv_letOff S (S.2.2.2 4 (2 * t + (Int32.toNatClampNeg x1)) - 1) (x_w_stepOf S t x1) 0) := xv_letOff_inv S (S.2.2.2 4 (2 * t + (Int32.toNatClampNeg x1)) - 1) (x_w_stepOf S t x1) 0 (hI) ((xi_own (X := S) hI (hq) ho)) (by decide) (x_w_stepOf_b S t x1 hI ht h5)
      exact x_rv hx hb hrt hlk hR hS hQ (Eq.trans (if_pos c1) (if_neg c2)) dX6_letOff_35
    · refine lv_iconst (v := 1) hx hb dX6_letOff_27 (by decide) ?_
      refine lv_goto (tgt := 32) hx hb dX6_letOff_28 (by decide) ?_
      refine vr_letOff X hR hS (hI) ((xi_own (X := S) hI (hq) ho)) (by decide) (x_w_stepOf_b S t x1 hI ht h5) q801 hl.1 ⟨by decide, by decide⟩ ⟨by decide, by decide⟩ (Nat.le_of_ble_eq_true rfl) dX6_letOff_32 (fun H locs hR hS => ?_)
      have hN32_1 : (xv_letOff S (S.2.2.2 4 (2 * t + (Int32.toNatClampNeg x1)) - 1) (x_w_stepOf S t x1) 1).2.2.2 = S.2.2.2 := xv_letOff_N S (S.2.2.2 4 (2 * t + (Int32.toNatClampNeg x1)) - 1) (x_w_stepOf S t x1) 1
      have hI32_1 : XInv (xv_letOff S (S.2.2.2 4 (2 * t + (Int32.toNatClampNeg x1)) - 1) (x_w_stepOf S t x1) 1) := xv_letOff_inv S (S.2.2.2 4 (2 * t + (Int32.toNatClampNeg x1)) - 1) (x_w_stepOf S t x1) 1 (hI) ((xi_own (X := S) hI (hq) ho)) (by decide) (x_w_stepOf_b S t x1 hI ht h5)
      exact x_rv hx hb hrt hlk hR hS hQ (Eq.trans (if_pos c1) (if_pos c2)) dX6_letOff_35
def x_w_letOffWarned (S : XS) (t : Nat) (x1 : Int32) : XS := (if S.2.2.2 4 (2 * t + (Int32.toNatClampNeg x1)) = 0 then S else (if (S.1 48 (S.2.2.2 4 (2 * t + (Int32.toNatClampNeg x1)) - 1)) = 0 then S else (if (x_w_silence S t) = 2 then S else (x_w_letOff (xu S 48 (S.2.2.2 4 (2 * t + (Int32.toNatClampNeg x1)) - 1) 0) t x1))))
theorem x_w_letOffWarned_N (S : XS) (t : Nat) (x1 : Int32) : (x_w_letOffWarned S t x1).2.2.2 = S.2.2.2 := by
  unfold x_w_letOffWarned
  refine ifI (P := fun (z : XS) => z.2.2.2 = S.2.2.2) (fun c1 => ?_) (fun c1 => ?_)
  · exact rfl
  · refine ifI (P := fun (z : XS) => z.2.2.2 = S.2.2.2) (fun c2 => ?_) (fun c2 => ?_)
    · exact rfl
    · refine ifI (P := fun (z : XS) => z.2.2.2 = S.2.2.2) (fun c3 => ?_) (fun c3 => ?_)
      · exact rfl
      · have hN41 : (x_w_letOff (xu S 48 (S.2.2.2 4 (2 * t + (Int32.toNatClampNeg x1)) - 1) 0) t x1).2.2.2 = S.2.2.2 := x_w_letOff_N (xu S 48 (S.2.2.2 4 (2 * t + (Int32.toNatClampNeg x1)) - 1) 0) t x1
        exact hN41
theorem x_w_letOffWarned_inv (S : XS) (t : Nat) (x1 : Int32) (hI : XInv S) (ht : t < 4) (h5 : ¬ S.2.2.2 5 t = 0) (hk : 0 ≤ x1 ∧ x1 < 2) : XInv (x_w_letOffWarned S t x1) := by
  have hq : 2 * t + (Int32.toNatClampNeg x1) < 8 := tp8 ht hk
  unfold x_w_letOffWarned
  refine ifI (P := fun (z : XS) => XInv z) (fun c1 => ?_) (fun c1 => ?_)
  · exact hI
  · refine ifI (P := fun (z : XS) => XInv z) (fun c2 => ?_) (fun c2 => ?_)
    · exact hI
    · refine ifI (P := fun (z : XS) => XInv z) (fun c3 => ?_) (fun c3 => ?_)
      · exact hI
      · have hI41 : XInv (x_w_letOff (xu S 48 (S.2.2.2 4 (2 * t + (Int32.toNatClampNeg x1)) - 1) 0) t x1) := x_w_letOff_inv (xu S 48 (S.2.2.2 4 (2 * t + (Int32.toNatClampNeg x1)) - 1) 0) t x1 ((XInv_xu hI _ _ _ (by decide))) (ht) (h5) (hk) (c1)
        exact hI41
set_option maxHeartbeats 4000000 in
theorem xt_w_letOffWarned (l : Launch) (D : va_G) (d : Nat → ClassId) (A : Nat → Prop) (ad : XK → Nat) (S : XS) (t : Nat) (x1 : Int32) (hI : XInv S) (ht : t < 4) (h5 : ¬ S.2.2.2 5 t = 0) (hk : 0 ≤ x1 ∧ x1 < 2) : XV l yX6_letOffWarned cX6_letOffWarned 2 (rm_ 3) D d A ad S [.ref (ad (70, t)), .int x1] (x_w_letOffWarned S t x1) := by
  refine x_startV RX6 rfl (by decide) (Nat.le_of_ble_eq_true rfl) ?_
  intro p e s m av below meth c ls Q X hrt hlk hl hR hQ
  have hx := X.1.1.1
  have hb := X.1.1.2.1
  have hown := X.1.1.2.2.2.1
  have hts := X.1.1.2.2.2.2
  have hS : va_S A s.heap s.heap [] := va_S.rf
  have hl : lv_has ls 2 [(0, .ref (ad (70, t))), (1, .int x1)] := hl
  have hq : 2 * t + (Int32.toNatClampNeg x1) < 8 := tp8 ht hk
  refine lv_aload_n hx hb dX6_letOffWarned_0 rfl (lv_at hl 0 rfl) ?_
  refine xgwo X hR (x_lvw (ht) (h5)) (Or.inl q705) dX6_letOffWarned_1 ?_
  refine lv_iload_n hx hb dX6_letOffWarned_4 rfl (lv_at hl 1 rfl) ?_
  refine x_ldoBE X hR (x_lvo (ht) (h5)) (ixl 2 2 (by decide) rfl (hk)) (n := S.2.2.2 4 (2 * t + (Int32.toNatClampNeg x1))) rfl dX6_letOffWarned_5 (fun c1 => ?_) (fun c1 => ?_)
  · refine lv_ifnullN (tgt := 44) hx hb dX6_letOffWarned_6 (by decide) ?_
    exact x_rv hx hb hrt hlk hR hS hQ (if_pos c1) dX6_letOffWarned_44
  · refine lv_ifnull hx hb dX6_letOffWarned_6 ?_
    refine lv_aload_n hx hb dX6_letOffWarned_9 rfl (lv_at hl 0 rfl) ?_
    refine xgwo X hR (x_lvw (ht) (h5)) (Or.inl q705) dX6_letOffWarned_10 ?_
    refine lv_iload_n hx hb dX6_letOffWarned_13 rfl (lv_at hl 1 rfl) ?_
    refine x_ldoE X hR (x_lvo (ht) (h5)) (ixl 2 2 (by decide) rfl (hk)) (n := S.2.2.2 4 (2 * t + (Int32.toNatClampNeg x1))) rfl (c1) dX6_letOffWarned_14 ?_
    refine xgt X hR (x_lvt ((xi_own (X := S) hI (hq) c1))) (xi_kd (X := S) hI ((xi_own (X := S) hI (hq) c1))) 8 (by decide) q379 (Or.inl rfl) rfl dX6_letOffWarned_15 ?_
    refine lv_if_eq (tgt := 44) hx hb dX6_letOffWarned_18 (by decide) (fun c2 => ?_) (fun c2 => ?_)
    · exact x_rv hx hb hrt hlk hR hS hQ (Eq.trans (if_neg c1) (if_pos c2)) dX6_letOffWarned_44
    · refine lv_aload_n hx hb dX6_letOffWarned_21 rfl (lv_at hl 0 rfl) ?_
      refine x_bi hS (xr_V X hR (x_lvw (ht) (h5)) (ci := 6) (fs := x_tw ad S t) rfl rfl (xt_w_silence l D d A ad S t (hI) (ht) (h5)) 0 (lw_V q782 q783 q784 q77 q785) ⟨rfl, rfl⟩ (by decide +kernel) ⟨by decide, by decide⟩ ⟨by decide, by decide⟩ rfl hl.1 rfl (Nat.le_of_ble_eq_true rfl) dX6_letOffWarned_22) (fun H locs hR hS => ?_)
      refine lv_iconst (v := 2) hx hb dX6_letOffWarned_25 (by decide) ?_
      refine lv_icmp_eq (tgt := 44) hx hb dX6_letOffWarned_26 (by decide) (fun c3 => ?_) (fun c3 => ?_)
      · exact x_rv hx hb hrt hlk hR hS hQ (Eq.trans (if_neg c1) (Eq.trans (if_neg c2) (if_pos c3))) dX6_letOffWarned_44
      · refine lv_aload_n hx hb dX6_letOffWarned_29 rfl (lv_at hl 0 rfl) ?_
        refine xgwo X hR (x_lvw (ht) (h5)) (Or.inl q705) dX6_letOffWarned_30 ?_
        refine lv_iload_n hx hb dX6_letOffWarned_33 rfl (lv_at hl 1 rfl) ?_
        refine x_ldoE X hR (x_lvo (ht) (h5)) (ixl 2 2 (by decide) rfl (hk)) (n := S.2.2.2 4 (2 * t + (Int32.toNatClampNeg x1))) rfl (c1) dX6_letOffWarned_34 ?_
        refine lv_iconst (v := 0) hx hb dX6_letOffWarned_35 (by decide) ?_
        refine xptz X hR hS (x_lvt ((xi_own (X := S) hI (hq) c1))) (xi_kd (X := S) hI ((xi_own (X := S) hI (hq) c1))) 8 (by decide) rfl q379 (Or.inl rfl) rfl (Or.inl rfl) dX6_letOffWarned_36 (fun H locs hR hS => ?_)
        refine lv_aload_n hx hb dX6_letOffWarned_39 rfl (lv_at hl 0 rfl) ?_
        refine lv_iload_n hx hb dX6_letOffWarned_40 rfl (lv_at hl 1 rfl) ?_
        refine x_bv hS (xr_V X hR (x_lvw (ht) (h5)) (ci := 6) (fs := x_tw ad (xu S 48 (S.2.2.2 4 (2 * t + (Int32.toNatClampNeg x1)) - 1) 0) t) rfl rfl (xt_w_letOff l D d A ad (xu S 48 (S.2.2.2 4 (2 * t + (Int32.toNatClampNeg x1)) - 1) 0) t x1 ((XInv_xu hI _ _ _ (by decide))) (ht) (h5) (hk) (c1)) 1 (lw_V q787 q788 q789 q77 q790) ⟨rfl, rfl⟩ (by decide +kernel) ⟨by decide, by decide⟩ ⟨by decide, by decide⟩ rfl hl.1 rfl (Nat.le_of_ble_eq_true rfl) dX6_letOffWarned_41) (fun H locs hR hS => ?_)
        have hN41 : (x_w_letOff (xu S 48 (S.2.2.2 4 (2 * t + (Int32.toNatClampNeg x1)) - 1) 0) t x1).2.2.2 = S.2.2.2 := x_w_letOff_N (xu S 48 (S.2.2.2 4 (2 * t + (Int32.toNatClampNeg x1)) - 1) 0) t x1
        have hI41 : XInv (x_w_letOff (xu S 48 (S.2.2.2 4 (2 * t + (Int32.toNatClampNeg x1)) - 1) 0) t x1) := x_w_letOff_inv (xu S 48 (S.2.2.2 4 (2 * t + (Int32.toNatClampNeg x1)) - 1) 0) t x1 ((XInv_xu hI _ _ _ (by decide))) (ht) (h5) (hk) (c1)
        exact x_rv hx hb hrt hlk hR hS hQ (Eq.trans (if_neg c1) (Eq.trans (if_neg c2) (if_neg c3))) dX6_letOffWarned_44
def x_w_forward_v21 (S : XS) (t : Nat) : Int32 := ((((S.1 60 t) + 1) - ((S.1 60 t) + 1) / 1440 * 1440) - (((S.1 60 t) + 1) - ((S.1 60 t) + 1) / 1440 * 1440) / 60 * 60)
def x_w_forward_j36_s0 (S : XS) (t : Nat) : Int32 := (if S.2.2.2 4 (2 * t + (Int32.toNatClampNeg 1)) = 0 then 0 else 1)
def x_w_forward_j62_S (S : XS) (t : Nat) : XS := (if (x_w_forward_v21 S t) = 55 then (x_w_warn (xu S 60 t (((S.1 60 t) + 1) - ((S.1 60 t) + 1) / 1440 * 1440)) t (x_w_forward_j36_s0 S t)) else (if (x_w_forward_j36_s0 S t) = 1 then (if ((x_w_forward_v21 S t) - (x_w_forward_v21 S t) / 15 * 15) = 10 then (x_w_warn (xu S 60 t (((S.1 60 t) + 1) - ((S.1 60 t) + 1) / 1440 * 1440)) t (x_w_forward_j36_s0 S t)) else (xu S 60 t (((S.1 60 t) + 1) - ((S.1 60 t) + 1) / 1440 * 1440))) else (xu S 60 t (((S.1 60 t) + 1) - ((S.1 60 t) + 1) / 1440 * 1440))))
theorem x_w_forward_j62_S_N (S : XS) (t : Nat) : (x_w_forward_j62_S S t).2.2.2 = S.2.2.2 := by
  unfold x_w_forward_j62_S
  refine ifI (P := fun (z : XS) => z.2.2.2 = S.2.2.2) (fun c4 => ?_) (fun c4 => ?_)
  · have hN59 : (x_w_warn (xu S 60 t (((S.1 60 t) + 1) - ((S.1 60 t) + 1) / 1440 * 1440)) t (x_w_forward_j36_s0 S t)).2.2.2 = S.2.2.2 := x_w_warn_N (xu S 60 t (((S.1 60 t) + 1) - ((S.1 60 t) + 1) / 1440 * 1440)) t (x_w_forward_j36_s0 S t)
    exact hN59
  · refine ifI (P := fun (z : XS) => z.2.2.2 = S.2.2.2) (fun c5 => ?_) (fun c5 => ?_)
    · refine ifI (P := fun (z : XS) => z.2.2.2 = S.2.2.2) (fun c6 => ?_) (fun c6 => ?_)
      · have hN59 : (x_w_warn (xu S 60 t (((S.1 60 t) + 1) - ((S.1 60 t) + 1) / 1440 * 1440)) t (x_w_forward_j36_s0 S t)).2.2.2 = S.2.2.2 := x_w_warn_N (xu S 60 t (((S.1 60 t) + 1) - ((S.1 60 t) + 1) / 1440 * 1440)) t (x_w_forward_j36_s0 S t)
        exact hN59
      · exact rfl
    · exact rfl
theorem x_w_forward_j62_S_I (S : XS) (t : Nat) (hI : XInv S) (ht : t < 4) (h5 : ¬ S.2.2.2 5 t = 0) (hh : 0 ≤ S.1 60 t ∧ S.1 60 t < 1440) (hv : 0 ≤ (((S.1 60 t) + 1) - ((S.1 60 t) + 1) / 1440 * 1440) ∧ (((S.1 60 t) + 1) - ((S.1 60 t) + 1) / 1440 * 1440) < 1440) : XInv (x_w_forward_j62_S S t) := by
  unfold x_w_forward_j62_S
  refine ifI (P := XInv) (fun c4 => ?_) (fun c4 => ?_)
  · have hlw : 0 ≤ (x_w_forward_j36_s0 S t) ∧ (x_w_forward_j36_s0 S t) < 2 := by unfold x_w_forward_j36_s0; (repeat' split) <;> decide
    have hI59 : XInv (x_w_warn (xu S 60 t (((S.1 60 t) + 1) - ((S.1 60 t) + 1) / 1440 * 1440)) t (x_w_forward_j36_s0 S t)) := x_w_warn_inv (xu S 60 t (((S.1 60 t) + 1) - ((S.1 60 t) + 1) / 1440 * 1440)) t (x_w_forward_j36_s0 S t) ((XInv_60 hI _ _ (hv))) (ht) (h5) (hlw)
    exact hI59
  · refine ifI (P := XInv) (fun c5 => ?_) (fun c5 => ?_)
    · refine ifI (P := XInv) (fun c6 => ?_) (fun c6 => ?_)
      · have hlw : 0 ≤ (x_w_forward_j36_s0 S t) ∧ (x_w_forward_j36_s0 S t) < 2 := by unfold x_w_forward_j36_s0; (repeat' split) <;> decide
        have hI59 : XInv (x_w_warn (xu S 60 t (((S.1 60 t) + 1) - ((S.1 60 t) + 1) / 1440 * 1440)) t (x_w_forward_j36_s0 S t)) := x_w_warn_inv (xu S 60 t (((S.1 60 t) + 1) - ((S.1 60 t) + 1) / 1440 * 1440)) t (x_w_forward_j36_s0 S t) ((XInv_60 hI _ _ (hv))) (ht) (h5) (hlw)
        exact hI59
      · exact (XInv_60 hI _ _ (hv))
    · exact (XInv_60 hI _ _ (hv))
def x_w_forward (S : XS) (t : Nat) : XS := (if (x_w_forward_v21 S t) = 0 then (x_w_letOffWarned (x_w_forward_j62_S S t) t (x_w_forward_j36_s0 S t)) else (if (x_w_forward_j36_s0 S t) = 1 then (if ((x_w_forward_v21 S t) - (x_w_forward_v21 S t) / 15 * 15) = 0 then (x_w_letOffWarned (x_w_forward_j62_S S t) t (x_w_forward_j36_s0 S t)) else (x_w_forward_j62_S S t)) else (x_w_forward_j62_S S t)))
theorem x_w_forward_N (S : XS) (t : Nat) : (x_w_forward S t).2.2.2 = S.2.2.2 := by
  unfold x_w_forward
  refine ifI (P := fun (z : XS) => z.2.2.2 = S.2.2.2) (fun c9 => ?_) (fun c9 => ?_)
  · have hN_j62_S : (x_w_forward_j62_S S t).2.2.2 = S.2.2.2 := x_w_forward_j62_S_N S t
    have hN80 : (x_w_letOffWarned (x_w_forward_j62_S S t) t (x_w_forward_j36_s0 S t)).2.2.2 = (x_w_forward_j62_S S t).2.2.2 := x_w_letOffWarned_N (x_w_forward_j62_S S t) t (x_w_forward_j36_s0 S t)
    exact (hN80.trans hN_j62_S)
  · refine ifI (P := fun (z : XS) => z.2.2.2 = S.2.2.2) (fun c10 => ?_) (fun c10 => ?_)
    · refine ifI (P := fun (z : XS) => z.2.2.2 = S.2.2.2) (fun c11 => ?_) (fun c11 => ?_)
      · have hN_j62_S : (x_w_forward_j62_S S t).2.2.2 = S.2.2.2 := x_w_forward_j62_S_N S t
        have hN80 : (x_w_letOffWarned (x_w_forward_j62_S S t) t (x_w_forward_j36_s0 S t)).2.2.2 = (x_w_forward_j62_S S t).2.2.2 := x_w_letOffWarned_N (x_w_forward_j62_S S t) t (x_w_forward_j36_s0 S t)
        exact (hN80.trans hN_j62_S)
      · have hN_j62_S : (x_w_forward_j62_S S t).2.2.2 = S.2.2.2 := x_w_forward_j62_S_N S t
        exact hN_j62_S
    · have hN_j62_S : (x_w_forward_j62_S S t).2.2.2 = S.2.2.2 := x_w_forward_j62_S_N S t
      exact hN_j62_S
theorem x_w_forward_inv (S : XS) (t : Nat) (hI : XInv S) (ht : t < 4) (h5 : ¬ S.2.2.2 5 t = 0) : XInv (x_w_forward S t) := by
  have hh : 0 ≤ S.1 60 t ∧ S.1 60 t < 1440 := (xi_t hI ht h5).1
  have hv : 0 ≤ (((S.1 60 t) + 1) - ((S.1 60 t) + 1) / 1440 * 1440) ∧ (((S.1 60 t) + 1) - ((S.1 60 t) + 1) / 1440 * 1440) < 1440 := hand_b _ hh
  unfold x_w_forward
  refine ifI (P := fun (z : XS) => XInv z) (fun c9 => ?_) (fun c9 => ?_)
  · have hlw : 0 ≤ (x_w_forward_j36_s0 S t) ∧ (x_w_forward_j36_s0 S t) < 2 := by unfold x_w_forward_j36_s0; (repeat' split) <;> decide
    have hN_j62_S : (x_w_forward_j62_S S t).2.2.2 = S.2.2.2 := x_w_forward_j62_S_N S t
    have hI_j62_S : XInv (x_w_forward_j62_S S t) := x_w_forward_j62_S_I S t hI ht h5 hh hv
    have hI80 : XInv (x_w_letOffWarned (x_w_forward_j62_S S t) t (x_w_forward_j36_s0 S t)) := x_w_letOffWarned_inv (x_w_forward_j62_S S t) t (x_w_forward_j36_s0 S t) (hI_j62_S) (ht) (by show ¬ (x_w_forward_j62_S S t).2.2.2 5 t = 0; rw [hN_j62_S]; exact h5) (hlw)
    exact hI80
  · refine ifI (P := fun (z : XS) => XInv z) (fun c10 => ?_) (fun c10 => ?_)
    · refine ifI (P := fun (z : XS) => XInv z) (fun c11 => ?_) (fun c11 => ?_)
      · have hlw : 0 ≤ (x_w_forward_j36_s0 S t) ∧ (x_w_forward_j36_s0 S t) < 2 := by unfold x_w_forward_j36_s0; (repeat' split) <;> decide
        have hN_j62_S : (x_w_forward_j62_S S t).2.2.2 = S.2.2.2 := x_w_forward_j62_S_N S t
        have hI_j62_S : XInv (x_w_forward_j62_S S t) := x_w_forward_j62_S_I S t hI ht h5 hh hv
        have hI80 : XInv (x_w_letOffWarned (x_w_forward_j62_S S t) t (x_w_forward_j36_s0 S t)) := x_w_letOffWarned_inv (x_w_forward_j62_S S t) t (x_w_forward_j36_s0 S t) (hI_j62_S) (ht) (by show ¬ (x_w_forward_j62_S S t).2.2.2 5 t = 0; rw [hN_j62_S]; exact h5) (hlw)
        exact hI80
      · have hI_j62_S : XInv (x_w_forward_j62_S S t) := x_w_forward_j62_S_I S t hI ht h5 hh hv
        exact hI_j62_S
    · have hI_j62_S : XInv (x_w_forward_j62_S S t) := x_w_forward_j62_S_I S t hI ht h5 hh hv
      exact hI_j62_S
set_option maxHeartbeats 4000000 in
theorem xt_w_forward (l : Launch) (D : va_G) (d : Nat → ClassId) (A : Nat → Prop) (ad : XK → Nat) (S : XS) (t : Nat) (hI : XInv S) (ht : t < 4) (h5 : ¬ S.2.2.2 5 t = 0) : XV l yX6_forward cX6_forward 3 (rm_ 4) D d A ad S [.ref (ad (70, t))] (x_w_forward S t) := by
  refine x_startV RX6 rfl (by decide) (Nat.le_of_ble_eq_true rfl) ?_
  intro p e s m av below meth c ls Q X hrt hlk hl hR hQ
  have hx := X.1.1.1
  have hb := X.1.1.2.1
  have hown := X.1.1.2.2.2.1
  have hts := X.1.1.2.2.2.2
  have hS : va_S A s.heap s.heap [] := va_S.rf
  have hl : lv_has ls 3 [(0, .ref (ad (70, t)))] := hl
  have hh : 0 ≤ S.1 60 t ∧ S.1 60 t < 1440 := (xi_t hI ht h5).1
  have hv : 0 ≤ (((S.1 60 t) + 1) - ((S.1 60 t) + 1) / 1440 * 1440) ∧ (((S.1 60 t) + 1) - ((S.1 60 t) + 1) / 1440 * 1440) < 1440 := hand_b _ hh
  refine lv_aload_n hx hb dX6_forward_0 rfl (lv_at hl 0 rfl) ?_
  refine lv_aload_n hx hb dX6_forward_1 rfl (lv_at hl 0 rfl) ?_
  refine xgw X hR (x_lvw (ht) (h5)) 0 (Or.inl (by decide)) (Or.inl q695) rfl dX6_forward_2 ?_
  refine lv_iconst (v := 1) hx hb dX6_forward_5 (by decide) ?_
  refine lv_iadd hx hb dX6_forward_6 ?_
  refine lv_sipush (v := 1440) hx hb dX6_forward_7 (by decide) ?_
  refine lv_irem hx hb dX6_forward_10 (by decide) ?_
  refine xpw X hR hS (x_lvw (ht) (h5)) 0 (Or.inl (by decide)) rfl (Or.inl q695) rfl dX6_forward_11 (fun H locs hR hS => ?_)
  refine lv_aload_n hx hb dX6_forward_14 rfl (lv_at hl 0 rfl) ?_
  refine xgw X hR (x_lvw (ht) (h5)) 0 (Or.inl (by decide)) (Or.inl q695) (xu_self _ _ _ _) dX6_forward_15 ?_
  refine lv_bipush (v := 60) hx hb dX6_forward_18 (by decide) ?_
  refine lv_irem hx hb dX6_forward_20 (by decide) ?_
  refine lv_istore_n (lv' := [(1, .int (x_w_forward_v21 S t)), (0, .ref (ad (70, t)))]) hx hb dX6_forward_21 rfl hl (by decide) rfl (fun ls hl => ?_)
  refine lv_aload_n hx hb dX6_forward_22 rfl (lv_at hl 1 rfl) ?_
  refine xgwo X hR (x_lvw (ht) (h5)) (Or.inl q705) dX6_forward_23 ?_
  refine lv_iconst (v := 1) hx hb dX6_forward_26 (by decide) ?_
  have J3 : ∀ (w2 : Int32) (H : Heap) (locs : List Loc) (ls : Array Slot), w2 = (x_w_forward_j36_s0 S t) → XR D d A ad (xu S 60 t (((S.1 60 t) + 1) - ((S.1 60 t) + 1) / 1440 * 1440)) H → va_S A s.heap H locs → lv_has ls 3 [(1, .int (x_w_forward_v21 S t)), (0, .ref (ad (70, t)))] → W p l e (rm_ 4) s m av below meth c H locs 0 0 Q (F0 m 36 ls [.int w2]) := by
    intro w2 H locs ls ew2 hR hS hl
    subst ew2
    refine lv_istore_n (lv' := [(2, .int (x_w_forward_j36_s0 S t)), (1, .int (x_w_forward_v21 S t)), (0, .ref (ad (70, t)))]) hx hb dX6_forward_36 rfl hl (by decide) rfl (fun ls hl => ?_)
    have hlw : 0 ≤ (x_w_forward_j36_s0 S t) ∧ (x_w_forward_j36_s0 S t) < 2 := by unfold x_w_forward_j36_s0; (repeat' split) <;> decide
    refine lv_iload_n hx hb dX6_forward_37 rfl (lv_at hl 1 rfl) ?_
    refine lv_bipush (v := 55) hx hb dX6_forward_38 (by decide) ?_
    have J8 : ∀ (w7 : XS) (H : Heap) (locs : List Loc) (ls : Array Slot), w7 = (x_w_forward_j62_S S t) → XR D d A ad w7 H → va_S A s.heap H locs → lv_has ls 3 [(2, .int (x_w_forward_j36_s0 S t)), (1, .int (x_w_forward_v21 S t)), (0, .ref (ad (70, t)))] → W p l e (rm_ 4) s m av below meth c H locs 0 0 Q (F0 m 62 ls []) := by
      intro w7 H locs ls ew7 hR hS hl
      subst ew7
      have hN_j62_S : (x_w_forward_j62_S S t).2.2.2 = S.2.2.2 := x_w_forward_j62_S_N S t
      have hI_j62_S : XInv (x_w_forward_j62_S S t) := x_w_forward_j62_S_I S t hI ht h5 hh hv
      refine lv_iload_n hx hb dX6_forward_62 rfl (lv_at hl 1 rfl) ?_
      refine lv_if_eq (tgt := 78) hx hb dX6_forward_63 (by decide) (fun c9 => ?_) (fun c9 => ?_)
      · refine lv_aload_n hx hb dX6_forward_78 rfl (lv_at hl 2 rfl) ?_
        refine lv_iload_n hx hb dX6_forward_79 rfl (lv_at hl 0 rfl) ?_
        refine x_bv hS (xr_V X hR (x_lvw (ht) (by show ¬ (x_w_forward_j62_S S t).2.2.2 5 t = 0; rw [hN_j62_S]; exact h5)) (ci := 6) (fs := x_tw ad (x_w_forward_j62_S S t) t) rfl rfl (xt_w_letOffWarned l D d A ad (x_w_forward_j62_S S t) t (x_w_forward_j36_s0 S t) (hI_j62_S) (ht) (by show ¬ (x_w_forward_j62_S S t).2.2.2 5 t = 0; rw [hN_j62_S]; exact h5) (hlw)) 1 (lw_V q778 q780 qs8 q77 q781) ⟨rfl, rfl⟩ (by decide +kernel) ⟨by decide, by decide⟩ ⟨by decide, by decide⟩ rfl hl.1 rfl (Nat.le_of_ble_eq_true rfl) dX6_forward_80) (fun H locs hR hS => ?_)
        have hN80 : (x_w_letOffWarned (x_w_forward_j62_S S t) t (x_w_forward_j36_s0 S t)).2.2.2 = (x_w_forward_j62_S S t).2.2.2 := x_w_letOffWarned_N (x_w_forward_j62_S S t) t (x_w_forward_j36_s0 S t)
        have hI80 : XInv (x_w_letOffWarned (x_w_forward_j62_S S t) t (x_w_forward_j36_s0 S t)) := x_w_letOffWarned_inv (x_w_forward_j62_S S t) t (x_w_forward_j36_s0 S t) (hI_j62_S) (ht) (by show ¬ (x_w_forward_j62_S S t).2.2.2 5 t = 0; rw [hN_j62_S]; exact h5) (hlw)
        exact x_rv hx hb hrt hlk hR hS hQ (if_pos c9) dX6_forward_83
      · refine lv_iload_n hx hb dX6_forward_66 rfl (lv_at hl 0 rfl) ?_
        refine lv_iconst (v := 1) hx hb dX6_forward_67 (by decide) ?_
        refine lv_icmp_ne (tgt := 83) hx hb dX6_forward_68 (by decide) (fun c10 => ?_) (fun c10 => ?_)
        · exact x_rv hx hb hrt hlk hR hS hQ (Eq.trans (if_neg c9) (if_neg c10)) dX6_forward_83
        · refine lv_iload_n hx hb dX6_forward_71 rfl (lv_at hl 1 rfl) ?_
          refine lv_bipush (v := 15) hx hb dX6_forward_72 (by decide) ?_
          refine lv_irem hx hb dX6_forward_74 (by decide) ?_
          refine lv_if_ne (tgt := 83) hx hb dX6_forward_75 (by decide) (fun c11 => ?_) (fun c11 => ?_)
          · exact x_rv hx hb hrt hlk hR hS hQ (Eq.trans (if_neg c9) (Eq.trans (if_pos c10) (if_neg c11))) dX6_forward_83
          · refine lv_aload_n hx hb dX6_forward_78 rfl (lv_at hl 2 rfl) ?_
            refine lv_iload_n hx hb dX6_forward_79 rfl (lv_at hl 0 rfl) ?_
            refine x_bv hS (xr_V X hR (x_lvw (ht) (by show ¬ (x_w_forward_j62_S S t).2.2.2 5 t = 0; rw [hN_j62_S]; exact h5)) (ci := 6) (fs := x_tw ad (x_w_forward_j62_S S t) t) rfl rfl (xt_w_letOffWarned l D d A ad (x_w_forward_j62_S S t) t (x_w_forward_j36_s0 S t) (hI_j62_S) (ht) (by show ¬ (x_w_forward_j62_S S t).2.2.2 5 t = 0; rw [hN_j62_S]; exact h5) (hlw)) 1 (lw_V q778 q780 qs8 q77 q781) ⟨rfl, rfl⟩ (by decide +kernel) ⟨by decide, by decide⟩ ⟨by decide, by decide⟩ rfl hl.1 rfl (Nat.le_of_ble_eq_true rfl) dX6_forward_80) (fun H locs hR hS => ?_)
            have hN80 : (x_w_letOffWarned (x_w_forward_j62_S S t) t (x_w_forward_j36_s0 S t)).2.2.2 = (x_w_forward_j62_S S t).2.2.2 := x_w_letOffWarned_N (x_w_forward_j62_S S t) t (x_w_forward_j36_s0 S t)
            have hI80 : XInv (x_w_letOffWarned (x_w_forward_j62_S S t) t (x_w_forward_j36_s0 S t)) := x_w_letOffWarned_inv (x_w_forward_j62_S S t) t (x_w_forward_j36_s0 S t) (hI_j62_S) (ht) (by show ¬ (x_w_forward_j62_S S t).2.2.2 5 t = 0; rw [hN_j62_S]; exact h5) (hlw)
            exact x_rv hx hb hrt hlk hR hS hQ (Eq.trans (if_neg c9) (Eq.trans (if_pos c10) (if_pos c11))) dX6_forward_83
    refine lv_icmp_eq (tgt := 57) hx hb dX6_forward_40 (by decide) (fun c4 => ?_) (fun c4 => ?_)
    · refine lv_aload_n hx hb dX6_forward_57 rfl (lv_at hl 2 rfl) ?_
      refine lv_iload_n hx hb dX6_forward_58 rfl (lv_at hl 0 rfl) ?_
      refine x_bv hS (xr_V X hR (x_lvw (ht) (h5)) (ci := 6) (fs := x_tw ad (xu S 60 t (((S.1 60 t) + 1) - ((S.1 60 t) + 1) / 1440 * 1440)) t) rfl rfl (xt_w_warn l D d A ad (xu S 60 t (((S.1 60 t) + 1) - ((S.1 60 t) + 1) / 1440 * 1440)) t (x_w_forward_j36_s0 S t) ((XInv_60 hI _ _ (hv))) (ht) (h5) (hlw)) 1 (lw_V q774 q776 qs7 q77 q777) ⟨rfl, rfl⟩ (by decide +kernel) ⟨by decide, by decide⟩ ⟨by decide, by decide⟩ rfl hl.1 rfl (Nat.le_of_ble_eq_true rfl) dX6_forward_59) (fun H locs hR hS => ?_)
      have hN59 : (x_w_warn (xu S 60 t (((S.1 60 t) + 1) - ((S.1 60 t) + 1) / 1440 * 1440)) t (x_w_forward_j36_s0 S t)).2.2.2 = S.2.2.2 := x_w_warn_N (xu S 60 t (((S.1 60 t) + 1) - ((S.1 60 t) + 1) / 1440 * 1440)) t (x_w_forward_j36_s0 S t)
      have hI59 : XInv (x_w_warn (xu S 60 t (((S.1 60 t) + 1) - ((S.1 60 t) + 1) / 1440 * 1440)) t (x_w_forward_j36_s0 S t)) := x_w_warn_inv (xu S 60 t (((S.1 60 t) + 1) - ((S.1 60 t) + 1) / 1440 * 1440)) t (x_w_forward_j36_s0 S t) ((XInv_60 hI _ _ (hv))) (ht) (h5) (hlw)
      exact J8 _ _ _  _ (Eq.symm (if_pos c4)) hR hS  (lv_sub hl [0, 1, 2] rfl)
    · refine lv_iload_n hx hb dX6_forward_43 rfl (lv_at hl 0 rfl) ?_
      refine lv_iconst (v := 1) hx hb dX6_forward_44 (by decide) ?_
      refine lv_icmp_ne (tgt := 62) hx hb dX6_forward_45 (by decide) (fun c5 => ?_) (fun c5 => ?_)
      · exact J8 _ _ _  _ (Eq.symm (Eq.trans (if_neg c4) (if_neg c5))) hR hS  (lv_sub hl [0, 1, 2] rfl)
      · refine lv_iload_n hx hb dX6_forward_48 rfl (lv_at hl 1 rfl) ?_
        refine lv_bipush (v := 15) hx hb dX6_forward_49 (by decide) ?_
        refine lv_irem hx hb dX6_forward_51 (by decide) ?_
        refine lv_bipush (v := 10) hx hb dX6_forward_52 (by decide) ?_
        refine lv_icmp_ne (tgt := 62) hx hb dX6_forward_54 (by decide) (fun c6 => ?_) (fun c6 => ?_)
        · exact J8 _ _ _  _ (Eq.symm (Eq.trans (if_neg c4) (Eq.trans (if_pos c5) (if_neg c6)))) hR hS  (lv_sub hl [0, 1, 2] rfl)
        · refine lv_aload_n hx hb dX6_forward_57 rfl (lv_at hl 2 rfl) ?_
          refine lv_iload_n hx hb dX6_forward_58 rfl (lv_at hl 0 rfl) ?_
          refine x_bv hS (xr_V X hR (x_lvw (ht) (h5)) (ci := 6) (fs := x_tw ad (xu S 60 t (((S.1 60 t) + 1) - ((S.1 60 t) + 1) / 1440 * 1440)) t) rfl rfl (xt_w_warn l D d A ad (xu S 60 t (((S.1 60 t) + 1) - ((S.1 60 t) + 1) / 1440 * 1440)) t (x_w_forward_j36_s0 S t) ((XInv_60 hI _ _ (hv))) (ht) (h5) (hlw)) 1 (lw_V q774 q776 qs7 q77 q777) ⟨rfl, rfl⟩ (by decide +kernel) ⟨by decide, by decide⟩ ⟨by decide, by decide⟩ rfl hl.1 rfl (Nat.le_of_ble_eq_true rfl) dX6_forward_59) (fun H locs hR hS => ?_)
          have hN59 : (x_w_warn (xu S 60 t (((S.1 60 t) + 1) - ((S.1 60 t) + 1) / 1440 * 1440)) t (x_w_forward_j36_s0 S t)).2.2.2 = S.2.2.2 := x_w_warn_N (xu S 60 t (((S.1 60 t) + 1) - ((S.1 60 t) + 1) / 1440 * 1440)) t (x_w_forward_j36_s0 S t)
          have hI59 : XInv (x_w_warn (xu S 60 t (((S.1 60 t) + 1) - ((S.1 60 t) + 1) / 1440 * 1440)) t (x_w_forward_j36_s0 S t)) := x_w_warn_inv (xu S 60 t (((S.1 60 t) + 1) - ((S.1 60 t) + 1) / 1440 * 1440)) t (x_w_forward_j36_s0 S t) ((XInv_60 hI _ _ (hv))) (ht) (h5) (hlw)
          exact J8 _ _ _  _ (Eq.symm (Eq.trans (if_neg c4) (Eq.trans (if_pos c5) (if_pos c6)))) hR hS  (lv_sub hl [0, 1, 2] rfl)
  refine x_ldoBE X hR (x_lvo (ht) (h5)) (ixl 2 2 (by decide) rfl (by decide)) (n := S.2.2.2 4 (2 * t + (Int32.toNatClampNeg 1))) rfl dX6_forward_27 (fun c1 => ?_) (fun c1 => ?_)
  · refine lv_ifnullN (tgt := 35) hx hb dX6_forward_28 (by decide) ?_
    refine lv_iconst (v := 0) hx hb dX6_forward_35 (by decide) ?_
    exact J3 _ _ _  _ (Eq.symm (if_pos c1)) hR hS  (lv_sub hl [0, 1] rfl)
  · refine lv_ifnull hx hb dX6_forward_28 ?_
    refine lv_iconst (v := 1) hx hb dX6_forward_31 (by decide) ?_
    refine lv_goto (tgt := 36) hx hb dX6_forward_32 (by decide) ?_
    exact J3 _ _ _  _ (Eq.symm (if_neg c1)) hR hS  (lv_sub hl [0, 1] rfl)
def x_w_back (S : XS) (t : Nat) : XS := (xu S 60 t ((((S.1 60 t) + 1440) - 1) - (((S.1 60 t) + 1440) - 1) / 1440 * 1440))
theorem x_w_back_N (S : XS) (t : Nat) : (x_w_back S t).2.2.2 = S.2.2.2 := by
  unfold x_w_back
  exact rfl
theorem x_w_back_o1 (S : XS) (t : Nat) (hI : XInv S) (ht : t < 4) (h5 : ¬ S.2.2.2 5 t = 0) (hh : 0 ≤ S.1 60 t ∧ S.1 60 t < 1440) : 0 ≤ ((((S.1 60 t) + 1440) - 1) - (((S.1 60 t) + 1440) - 1) / 1440 * 1440) ∧ ((((S.1 60 t) + 1440) - 1) - (((S.1 60 t) + 1440) - 1) / 1440 * 1440) < 1440 := by 
  try simp only [i_le, i_lt, i_eq, Int32.reduceToInt] at *
  first | (have e_0 := a32 (x := (S.1 60 t)) (y := 1440) (by (try simp only [Int32.reduceToInt]); omega); (try simp only [Int32.reduceToInt] at e_0)) | skip
  first | (have e_1 := s32 (x := ((S.1 60 t) + 1440)) (y := 1) (by (try simp only [Int32.reduceToInt]); omega); (try simp only [Int32.reduceToInt] at e_1)) | skip
  first | (have e_2 := d32 (x := (((S.1 60 t) + 1440) - 1)) (y := 1440) (by (try simp only [Int32.reduceToInt]); omega); (try simp only [Int32.reduceToInt] at e_2)) | skip
  first | (have e_3 := m32 (x := ((((S.1 60 t) + 1440) - 1) / 1440)) (y := 1440) (by (try simp only [Int32.reduceToInt]); omega); (try simp only [Int32.reduceToInt] at e_3)) | skip
  first | (have e_4 := s32 (x := (((S.1 60 t) + 1440) - 1)) (y := ((((S.1 60 t) + 1440) - 1) / 1440 * 1440)) (by (try simp only [Int32.reduceToInt]); omega); (try simp only [Int32.reduceToInt] at e_4)) | skip
  try simp only [Int32.reduceToInt] at *
  omega
theorem x_w_back_inv (S : XS) (t : Nat) (hI : XInv S) (ht : t < 4) (h5 : ¬ S.2.2.2 5 t = 0) : XInv (x_w_back S t) := by
  have hh : 0 ≤ S.1 60 t ∧ S.1 60 t < 1440 := (xi_t hI ht h5).1
  unfold x_w_back
  exact (XInv_60 hI _ _ (x_w_back_o1 S t hI ht h5 hh))
set_option maxHeartbeats 4000000 in
theorem xt_w_back (l : Launch) (D : va_G) (d : Nat → ClassId) (A : Nat → Prop) (ad : XK → Nat) (S : XS) (t : Nat) (hI : XInv S) (ht : t < 4) (h5 : ¬ S.2.2.2 5 t = 0) : XV l yX6_back cX6_back 1 (rm_ 0) D d A ad S [.ref (ad (70, t))] (x_w_back S t) := by
  refine x_startV RX6 rfl (by decide) (Nat.le_of_ble_eq_true rfl) ?_
  intro p e s m av below meth c ls Q X hrt hlk hl hR hQ
  have hx := X.1.1.1
  have hb := X.1.1.2.1
  have hown := X.1.1.2.2.2.1
  have hts := X.1.1.2.2.2.2
  have hS : va_S A s.heap s.heap [] := va_S.rf
  have hl : lv_has ls 1 [(0, .ref (ad (70, t)))] := hl
  have hh : 0 ≤ S.1 60 t ∧ S.1 60 t < 1440 := (xi_t hI ht h5).1
  refine lv_aload_n hx hb dX6_back_0 rfl (lv_at hl 0 rfl) ?_
  refine lv_aload_n hx hb dX6_back_1 rfl (lv_at hl 0 rfl) ?_
  refine xgw X hR (x_lvw (ht) (h5)) 0 (Or.inl (by decide)) (Or.inl q695) rfl dX6_back_2 ?_
  refine lv_sipush (v := 1440) hx hb dX6_back_5 (by decide) ?_
  refine lv_iadd hx hb dX6_back_8 ?_
  refine lv_iconst (v := 1) hx hb dX6_back_9 (by decide) ?_
  refine lv_isub hx hb dX6_back_10 ?_
  refine lv_sipush (v := 1440) hx hb dX6_back_11 (by decide) ?_
  refine lv_irem hx hb dX6_back_14 (by decide) ?_
  refine xpw X hR hS (x_lvw (ht) (h5)) 0 (Or.inl (by decide)) rfl (Or.inl q695) rfl dX6_back_15 (fun H locs hR hS => ?_)
  exact x_rv hx hb hrt hlk hR hS hQ rfl dX6_back_18
def x_w_enter_j35_S (S : XS) (t : Nat) : XS := (if (S.1 69 t) = 60 then (xu (xcp S t) 69 t ((S.1 69 t) - 1)) else S)
theorem x_w_enter_j35_S_N (S : XS) (t : Nat) : (x_w_enter_j35_S S t).2.2.2 = S.2.2.2 := by
  unfold x_w_enter_j35_S
  refine ifI (P := fun (z : XS) => z.2.2.2 = S.2.2.2) (fun c1 => ?_) (fun c1 => ?_)
  · exact rfl
  · exact rfl
theorem x_w_enter_o4 (S : XS) (t : Nat) (hI : XInv S) (ht : t < 4) (h5 : ¬ S.2.2.2 5 t = 0) (hL : 0 ≤ S.1 69 t ∧ S.1 69 t ≤ 60) (c1 : (S.1 69 t) = 60) : 0 ≤ ((S.1 69 t) - 1) ∧ ((S.1 69 t) - 1) ≤ 60 := by 
  try simp only [i_le, i_lt, i_eq, Int32.reduceToInt] at *
  first | (have e_0 := s32 (x := (S.1 69 t)) (y := 1) (by (try simp only [Int32.reduceToInt]); omega); (try simp only [Int32.reduceToInt] at e_0)) | skip
  try simp only [Int32.reduceToInt] at *
  omega
theorem x_w_enter_j35_S_I (S : XS) (t : Nat) (hI : XInv S) (ht : t < 4) (h5 : ¬ S.2.2.2 5 t = 0) (hL : 0 ≤ S.1 69 t ∧ S.1 69 t ≤ 60) : XInv (x_w_enter_j35_S S t) := by
  unfold x_w_enter_j35_S
  refine ifI (P := XInv) (fun c1 => ?_) (fun c1 => ?_)
  · exact (XInv_69 (XInv_xcp hI _) _ _ (x_w_enter_o4 S t hI ht h5 hL c1))
  · exact hI
theorem x_w_enter_o5 (S : XS) (t : Nat) (hI : XInv S) (ht : t < 4) (h5 : ¬ S.2.2.2 5 t = 0) (hL : 0 ≤ S.1 69 t ∧ S.1 69 t ≤ 60) (hN_j35_S : (x_w_enter_j35_S S t).2.2.2 = S.2.2.2) (hI_j35_S : XInv (x_w_enter_j35_S S t)) (hL2 : 0 ≤ (x_w_enter_j35_S S t).1 69 t ∧ (x_w_enter_j35_S S t).1 69 t ≤ 59) : 0 ≤ (4 * ((x_w_enter_j35_S S t).1 69 t)) ∧ (4 * ((x_w_enter_j35_S S t).1 69 t)) < 240 := by 
  try simp only [i_le, i_lt, i_eq, Int32.reduceToInt] at *
  first | (have e_0 := m32 (x := 4) (y := ((x_w_enter_j35_S S t).1 69 t)) (by (try simp only [Int32.reduceToInt]); omega); (try simp only [Int32.reduceToInt] at e_0)) | skip
  try simp only [Int32.reduceToInt] at *
  omega
theorem x_w_enter_o6 (S : XS) (t : Nat) (hI : XInv S) (ht : t < 4) (h5 : ¬ S.2.2.2 5 t = 0) (hL : 0 ≤ S.1 69 t ∧ S.1 69 t ≤ 60) (hN_j35_S : (x_w_enter_j35_S S t).2.2.2 = S.2.2.2) (hI_j35_S : XInv (x_w_enter_j35_S S t)) (hL2 : 0 ≤ (x_w_enter_j35_S S t).1 69 t ∧ (x_w_enter_j35_S S t).1 69 t ≤ 59) : 0 ≤ ((4 * ((x_w_enter_j35_S S t).1 69 t)) + 1) ∧ ((4 * ((x_w_enter_j35_S S t).1 69 t)) + 1) < 240 := by 
  try simp only [i_le, i_lt, i_eq, Int32.reduceToInt] at *
  first | (have e_0 := m32 (x := 4) (y := ((x_w_enter_j35_S S t).1 69 t)) (by (try simp only [Int32.reduceToInt]); omega); (try simp only [Int32.reduceToInt] at e_0)) | skip
  first | (have e_1 := a32 (x := (4 * ((x_w_enter_j35_S S t).1 69 t))) (y := 1) (by (try simp only [Int32.reduceToInt]); omega); (try simp only [Int32.reduceToInt] at e_1)) | skip
  try simp only [Int32.reduceToInt] at *
  omega
theorem x_w_enter_o7 (S : XS) (t : Nat) (hI : XInv S) (ht : t < 4) (h5 : ¬ S.2.2.2 5 t = 0) (hL : 0 ≤ S.1 69 t ∧ S.1 69 t ≤ 60) (hN_j35_S : (x_w_enter_j35_S S t).2.2.2 = S.2.2.2) (hI_j35_S : XInv (x_w_enter_j35_S S t)) (hL2 : 0 ≤ (x_w_enter_j35_S S t).1 69 t ∧ (x_w_enter_j35_S S t).1 69 t ≤ 59) : 0 ≤ ((4 * ((x_w_enter_j35_S S t).1 69 t)) + 2) ∧ ((4 * ((x_w_enter_j35_S S t).1 69 t)) + 2) < 240 := by 
  try simp only [i_le, i_lt, i_eq, Int32.reduceToInt] at *
  first | (have e_0 := m32 (x := 4) (y := ((x_w_enter_j35_S S t).1 69 t)) (by (try simp only [Int32.reduceToInt]); omega); (try simp only [Int32.reduceToInt] at e_0)) | skip
  first | (have e_1 := a32 (x := (4 * ((x_w_enter_j35_S S t).1 69 t))) (y := 2) (by (try simp only [Int32.reduceToInt]); omega); (try simp only [Int32.reduceToInt] at e_1)) | skip
  try simp only [Int32.reduceToInt] at *
  omega
theorem x_w_enter_o8 (S : XS) (t : Nat) (hI : XInv S) (ht : t < 4) (h5 : ¬ S.2.2.2 5 t = 0) (hL : 0 ≤ S.1 69 t ∧ S.1 69 t ≤ 60) (hN_j35_S : (x_w_enter_j35_S S t).2.2.2 = S.2.2.2) (hI_j35_S : XInv (x_w_enter_j35_S S t)) (hL2 : 0 ≤ (x_w_enter_j35_S S t).1 69 t ∧ (x_w_enter_j35_S S t).1 69 t ≤ 59) : 0 ≤ ((4 * ((x_w_enter_j35_S S t).1 69 t)) + 3) ∧ ((4 * ((x_w_enter_j35_S S t).1 69 t)) + 3) < 240 := by 
  try simp only [i_le, i_lt, i_eq, Int32.reduceToInt] at *
  first | (have e_0 := m32 (x := 4) (y := ((x_w_enter_j35_S S t).1 69 t)) (by (try simp only [Int32.reduceToInt]); omega); (try simp only [Int32.reduceToInt] at e_0)) | skip
  first | (have e_1 := a32 (x := (4 * ((x_w_enter_j35_S S t).1 69 t))) (y := 3) (by (try simp only [Int32.reduceToInt]); omega); (try simp only [Int32.reduceToInt] at e_1)) | skip
  try simp only [Int32.reduceToInt] at *
  omega
def x_w_enter (S : XS) (t : Nat) (x1 : Int32) (x2 : Int32) (x3 : Int32) : XS := (xu (xb (xb (xb (xb (x_w_enter_j35_S S t) 2 t (Int32.toNatClampNeg (4 * ((x_w_enter_j35_S S t).1 69 t))) ((x_w_enter_j35_S S t).1 6 0)) 2 t (Int32.toNatClampNeg ((4 * ((x_w_enter_j35_S S t).1 69 t)) + 1)) x1) 2 t (Int32.toNatClampNeg ((4 * ((x_w_enter_j35_S S t).1 69 t)) + 2)) x2) 2 t (Int32.toNatClampNeg ((4 * ((x_w_enter_j35_S S t).1 69 t)) + 3)) x3) 69 t (((x_w_enter_j35_S S t).1 69 t) + 1))
theorem x_w_enter_N (S : XS) (t : Nat) (x1 : Int32) (x2 : Int32) (x3 : Int32) : (x_w_enter S t x1 x2 x3).2.2.2 = S.2.2.2 := by
  unfold x_w_enter
  have hN_j35_S : (x_w_enter_j35_S S t).2.2.2 = S.2.2.2 := x_w_enter_j35_S_N S t
  exact hN_j35_S
theorem x_w_enter_o9 (S : XS) (t : Nat) (hI : XInv S) (ht : t < 4) (h5 : ¬ S.2.2.2 5 t = 0) (hL : 0 ≤ S.1 69 t ∧ S.1 69 t ≤ 60) (hN_j35_S : (x_w_enter_j35_S S t).2.2.2 = S.2.2.2) (hI_j35_S : XInv (x_w_enter_j35_S S t)) (hL2 : 0 ≤ (x_w_enter_j35_S S t).1 69 t ∧ (x_w_enter_j35_S S t).1 69 t ≤ 59) : 0 ≤ (((x_w_enter_j35_S S t).1 69 t) + 1) ∧ (((x_w_enter_j35_S S t).1 69 t) + 1) ≤ 60 := by 
  try simp only [i_le, i_lt, i_eq, Int32.reduceToInt] at *
  first | (have e_0 := a32 (x := ((x_w_enter_j35_S S t).1 69 t)) (y := 1) (by (try simp only [Int32.reduceToInt]); omega); (try simp only [Int32.reduceToInt] at e_0)) | skip
  try simp only [Int32.reduceToInt] at *
  omega
theorem x_w_enter_inv (S : XS) (t : Nat) (x1 : Int32) (x2 : Int32) (x3 : Int32) (hI : XInv S) (ht : t < 4) (h5 : ¬ S.2.2.2 5 t = 0) : XInv (x_w_enter S t x1 x2 x3) := by
  have hL : 0 ≤ S.1 69 t ∧ S.1 69 t ≤ 60 := (xi_t hI ht h5).2.1
  unfold x_w_enter
  have hN_j35_S : (x_w_enter_j35_S S t).2.2.2 = S.2.2.2 := x_w_enter_j35_S_N S t
  have hI_j35_S : XInv (x_w_enter_j35_S S t) := x_w_enter_j35_S_I S t hI ht h5 hL
  have hL2 : 0 ≤ (x_w_enter_j35_S S t).1 69 t ∧ (x_w_enter_j35_S S t).1 69 t ≤ 59 := by unfold x_w_enter_j35_S; split; (rename_i c; rw [xu_self, c]; decide); (rename_i c; clear hI; simp only [i_le, i_eq, Int32.reduceToInt] at *; omega)
  exact (XInv_69 (XInv_xb (XInv_xb (XInv_xb (XInv_xb hI_j35_S _ _ _ _ (by decide)) _ _ _ _ (by decide)) _ _ _ _ (by decide)) _ _ _ _ (by decide)) _ _ (x_w_enter_o9 S t hI ht h5 hL hN_j35_S hI_j35_S hL2))
set_option maxHeartbeats 4000000 in
theorem xt_w_enter (l : Launch) (D : va_G) (d : Nat → ClassId) (A : Nat → Prop) (ad : XK → Nat) (S : XS) (t : Nat) (x1 : Int32) (x2 : Int32) (x3 : Int32) (hI : XInv S) (ht : t < 4) (h5 : ¬ S.2.2.2 5 t = 0) : XV l yX6_enter cX6_enter 4 (rm_ 1) D d A ad S [.ref (ad (70, t)), .int x1, .int x2, .int x3] (x_w_enter S t x1 x2 x3) := by
  refine x_startV RX6 rfl (by decide) (Nat.le_of_ble_eq_true rfl) ?_
  intro p e s m av below meth c ls Q X hrt hlk hl hR hQ
  have hx := X.1.1.1
  have hb := X.1.1.2.1
  have hown := X.1.1.2.2.2.1
  have hts := X.1.1.2.2.2.2
  have hS : va_S A s.heap s.heap [] := va_S.rf
  have hl : lv_has ls 4 [(0, .ref (ad (70, t))), (1, .int x1), (2, .int x2), (3, .int x3)] := hl
  have hL : 0 ≤ S.1 69 t ∧ S.1 69 t ≤ 60 := (xi_t hI ht h5).2.1
  refine lv_aload_n hx hb dX6_enter_0 rfl (lv_at hl 0 rfl) ?_
  refine xgw X hR (x_lvw (ht) (h5)) 9 (Or.inr (by decide)) (Or.inl q713) rfl dX6_enter_1 ?_
  refine lv_bipush (v := 60) hx hb dX6_enter_4 (by decide) ?_
  have J3 : ∀ (w2 : XS) (H : Heap) (locs : List Loc) (ls : Array Slot), w2 = (x_w_enter_j35_S S t) → XR D d A ad w2 H → va_S A s.heap H locs → lv_has ls 4 [(0, .ref (ad (70, t))), (1, .int x1), (2, .int x2), (3, .int x3)] → W p l e (rm_ 1) s m av below meth c H locs 0 0 Q (F0 m 35 ls []) := by
    intro w2 H locs ls ew2 hR hS hl
    subst ew2
    have hN_j35_S : (x_w_enter_j35_S S t).2.2.2 = S.2.2.2 := x_w_enter_j35_S_N S t
    have hI_j35_S : XInv (x_w_enter_j35_S S t) := x_w_enter_j35_S_I S t hI ht h5 hL
    have hL2 : 0 ≤ (x_w_enter_j35_S S t).1 69 t ∧ (x_w_enter_j35_S S t).1 69 t ≤ 59 := by unfold x_w_enter_j35_S; split; (rename_i c; rw [xu_self, c]; decide); (rename_i c; clear hI; simp only [i_le, i_eq, Int32.reduceToInt] at *; omega)
    refine lv_aload_n hx hb dX6_enter_35 rfl (lv_at hl 0 rfl) ?_
    refine xgwl X hR (x_lvw (ht) (by show ¬ (x_w_enter_j35_S S t).2.2.2 5 t = 0; rw [hN_j35_S]; exact h5)) (Or.inl q715) dX6_enter_36 ?_
    refine lv_iconst (v := 4) hx hb dX6_enter_39 (by decide) ?_
    refine lv_aload_n hx hb dX6_enter_40 rfl (lv_at hl 0 rfl) ?_
    refine xgw X hR (x_lvw (ht) (by show ¬ (x_w_enter_j35_S S t).2.2.2 5 t = 0; rw [hN_j35_S]; exact h5)) 9 (Or.inr (by decide)) (Or.inl q713) rfl dX6_enter_41 ?_
    refine lv_imul hx hb dX6_enter_44 ?_
    refine lv_aload_n hx hb dX6_enter_45 rfl (lv_at hl 0 rfl) ?_
    refine xgwt X hR (x_lvw (ht) (by show ¬ (x_w_enter_j35_S S t).2.2.2 5 t = 0; rw [hN_j35_S]; exact h5)) (Or.inl q717) dX6_enter_46 ?_
    refine xg_now X hR q102 rfl dX6_enter_49 ?_
    refine x_stg X hR hS (x_lvl (ht) (by show ¬ (x_w_enter_j35_S S t).2.2.2 5 t = 0; rw [hN_j35_S]; exact h5)) (ixl 240 240 (by decide) rfl (x_w_enter_o5 S t hI ht h5 hL hN_j35_S hI_j35_S hL2)) dX6_enter_52 (fun H locs hR hS => ?_)
    refine lv_aload_n hx hb dX6_enter_53 rfl (lv_at hl 0 rfl) ?_
    refine xgwl X hR (x_lvw (ht) (by show ¬ (x_w_enter_j35_S S t).2.2.2 5 t = 0; rw [hN_j35_S]; exact h5)) (Or.inl q715) dX6_enter_54 ?_
    refine lv_iconst (v := 4) hx hb dX6_enter_57 (by decide) ?_
    refine lv_aload_n hx hb dX6_enter_58 rfl (lv_at hl 0 rfl) ?_
    refine xgw X hR (x_lvw (ht) (by show ¬ (x_w_enter_j35_S S t).2.2.2 5 t = 0; rw [hN_j35_S]; exact h5)) 9 (Or.inr (by decide)) (Or.inl q713) rfl dX6_enter_59 ?_
    refine lv_imul hx hb dX6_enter_62 ?_
    refine lv_iconst (v := 1) hx hb dX6_enter_63 (by decide) ?_
    refine lv_iadd hx hb dX6_enter_64 ?_
    refine lv_iload_n hx hb dX6_enter_65 rfl (lv_at hl 1 rfl) ?_
    refine x_stg X hR hS (x_lvl (ht) (by show ¬ (x_w_enter_j35_S S t).2.2.2 5 t = 0; rw [hN_j35_S]; exact h5)) (ixl 240 240 (by decide) rfl (x_w_enter_o6 S t hI ht h5 hL hN_j35_S hI_j35_S hL2)) dX6_enter_66 (fun H locs hR hS => ?_)
    refine lv_aload_n hx hb dX6_enter_67 rfl (lv_at hl 0 rfl) ?_
    refine xgwl X hR (x_lvw (ht) (by show ¬ (x_w_enter_j35_S S t).2.2.2 5 t = 0; rw [hN_j35_S]; exact h5)) (Or.inl q715) dX6_enter_68 ?_
    refine lv_iconst (v := 4) hx hb dX6_enter_71 (by decide) ?_
    refine lv_aload_n hx hb dX6_enter_72 rfl (lv_at hl 0 rfl) ?_
    refine xgw X hR (x_lvw (ht) (by show ¬ (x_w_enter_j35_S S t).2.2.2 5 t = 0; rw [hN_j35_S]; exact h5)) 9 (Or.inr (by decide)) (Or.inl q713) rfl dX6_enter_73 ?_
    refine lv_imul hx hb dX6_enter_76 ?_
    refine lv_iconst (v := 2) hx hb dX6_enter_77 (by decide) ?_
    refine lv_iadd hx hb dX6_enter_78 ?_
    refine lv_iload_n hx hb dX6_enter_79 rfl (lv_at hl 2 rfl) ?_
    refine x_stg X hR hS (x_lvl (ht) (by show ¬ (x_w_enter_j35_S S t).2.2.2 5 t = 0; rw [hN_j35_S]; exact h5)) (ixl 240 240 (by decide) rfl (x_w_enter_o7 S t hI ht h5 hL hN_j35_S hI_j35_S hL2)) dX6_enter_80 (fun H locs hR hS => ?_)
    refine lv_aload_n hx hb dX6_enter_81 rfl (lv_at hl 0 rfl) ?_
    refine xgwl X hR (x_lvw (ht) (by show ¬ (x_w_enter_j35_S S t).2.2.2 5 t = 0; rw [hN_j35_S]; exact h5)) (Or.inl q715) dX6_enter_82 ?_
    refine lv_iconst (v := 4) hx hb dX6_enter_85 (by decide) ?_
    refine lv_aload_n hx hb dX6_enter_86 rfl (lv_at hl 0 rfl) ?_
    refine xgw X hR (x_lvw (ht) (by show ¬ (x_w_enter_j35_S S t).2.2.2 5 t = 0; rw [hN_j35_S]; exact h5)) 9 (Or.inr (by decide)) (Or.inl q713) rfl dX6_enter_87 ?_
    refine lv_imul hx hb dX6_enter_90 ?_
    refine lv_iconst (v := 3) hx hb dX6_enter_91 (by decide) ?_
    refine lv_iadd hx hb dX6_enter_92 ?_
    refine lv_iload_n hx hb dX6_enter_93 rfl (lv_at hl 3 rfl) ?_
    refine x_stg X hR hS (x_lvl (ht) (by show ¬ (x_w_enter_j35_S S t).2.2.2 5 t = 0; rw [hN_j35_S]; exact h5)) (ixl 240 240 (by decide) rfl (x_w_enter_o8 S t hI ht h5 hL hN_j35_S hI_j35_S hL2)) dX6_enter_94 (fun H locs hR hS => ?_)
    refine lv_aload_n hx hb dX6_enter_95 rfl (lv_at hl 0 rfl) ?_
    refine lv_dup hx hb dX6_enter_96 rfl ?_
    refine xgw X hR (x_lvw (ht) (by show ¬ (x_w_enter_j35_S S t).2.2.2 5 t = 0; rw [hN_j35_S]; exact h5)) 9 (Or.inr (by decide)) (Or.inl q713) rfl dX6_enter_97 ?_
    refine lv_iconst (v := 1) hx hb dX6_enter_100 (by decide) ?_
    refine lv_iadd hx hb dX6_enter_101 ?_
    refine xpw X hR hS (x_lvw (ht) (by show ¬ (x_w_enter_j35_S S t).2.2.2 5 t = 0; rw [hN_j35_S]; exact h5)) 9 (Or.inr (by decide)) rfl (Or.inl q713) rfl dX6_enter_102 (fun H locs hR hS => ?_)
    exact x_rv hx hb hrt hlk hR hS hQ rfl dX6_enter_105
  refine lv_icmp_ne (tgt := 35) hx hb dX6_enter_6 (by decide) (fun c1 => ?_) (fun c1 => ?_)
  · exact J3 _ _ _  _ (Eq.symm (if_neg c1)) hR hS  (lv_sub hl [0, 1, 2, 3] rfl)
  · refine lv_aload_n hx hb dX6_enter_9 rfl (lv_at hl 0 rfl) ?_
    refine xgwl X hR (x_lvw (ht) (h5)) (Or.inl q715) dX6_enter_10 ?_
    refine lv_iconst (v := 4) hx hb dX6_enter_13 (by decide) ?_
    refine lv_aload_n hx hb dX6_enter_14 rfl (lv_at hl 0 rfl) ?_
    refine xgwl X hR (x_lvw (ht) (h5)) (Or.inl q715) dX6_enter_15 ?_
    refine lv_iconst (v := 0) hx hb dX6_enter_18 (by decide) ?_
    refine lv_sipush (v := 236) hx hb dX6_enter_19 (by decide) ?_
    refine x_cpg X hR hS (x_lvl (ht) (h5)) q888 ⟨by decide, by decide +kernel⟩ hl.1 dX6_enter_22 (fun H locs hR hS => ?_)
    refine lv_aload_n hx hb dX6_enter_25 rfl (lv_at hl 0 rfl) ?_
    refine lv_dup hx hb dX6_enter_26 rfl ?_
    refine xgw X hR (x_lvw (ht) (h5)) 9 (Or.inr (by decide)) (Or.inl q713) rfl dX6_enter_27 ?_
    refine lv_iconst (v := 1) hx hb dX6_enter_30 (by decide) ?_
    refine lv_isub hx hb dX6_enter_31 ?_
    refine xpw X hR hS (x_lvw (ht) (h5)) 9 (Or.inr (by decide)) rfl (Or.inl q713) rfl dX6_enter_32 (fun H locs hR hS => ?_)
    exact J3 _ _ _  _ (Eq.symm (if_pos c1)) hR hS  (lv_sub hl [0, 1, 2, 3] rfl)
theorem xv_struck_k (S : XS) (j : Nat) {k : Nat} (hk : k ≠ 51) (i : Nat) : (xv_struck S j).1 k i = S.1 k i := by
  unfold xv_struck x_t5_struck
  split
  · exact xu_k S hk _ _ _
  · rfl
def x_w_run_v53 (S : XS) (t : Nat) (x1 : Int32) (S_16 : XS) : Int32 := ((xv_hammers S_16 (S.2.2.2 4 (2 * t + (Int32.toNatClampNeg x1)) - 1)) &&& ((S_16.1 44 (S.2.2.2 4 (2 * t + (Int32.toNatClampNeg x1)) - 1)) ^^^ (-1)))
theorem x_w_run_o5 (S : XS) (t : Nat) (x1 : Int32) (x2 : Int32) (y4_16 : Int32) (S_16 : XS) (hI : XInv S) (ht : t < 4) (h5 : ¬ S.2.2.2 5 t = 0) (hk : 0 ≤ x1 ∧ x1 < 2) (ho : ¬ S.2.2.2 4 (2 * t + (Int32.toNatClampNeg x1)) = 0) (hq : 2 * t + (Int32.toNatClampNeg x1) < 8) (hj : (S.2.2.2 4 (2 * t + (Int32.toNatClampNeg x1)) - 1) < S.2.2.2 7 0) (hi4 : 0 ≤ y4_16) (hJ : XInv S_16) (hM : S_16.2.2.2 = S.2.2.2) (c1 : ¬ x2 ≤ y4_16) (c2 : ¬ (S_16.1 45 (S.2.2.2 4 (2 * t + (Int32.toNatClampNeg x1)) - 1)) ≤ 0) (c3 : ¬ (S_16.1 43 (S.2.2.2 4 (2 * t + (Int32.toNatClampNeg x1)) - 1)) ≤ 0) (hN57 : (xv_struck S_16 (S.2.2.2 4 (2 * t + (Int32.toNatClampNeg x1)) - 1)).2.2.2 = S_16.2.2.2) (hI57 : XInv (xv_struck S_16 (S.2.2.2 4 (2 * t + (Int32.toNatClampNeg x1)) - 1))) (hw : 0 < (xv_struck S_16 (S.2.2.2 4 (2 * t + (Int32.toNatClampNeg x1)) - 1)).1 43 (S.2.2.2 4 (2 * t + (Int32.toNatClampNeg x1)) - 1) ∧ (xv_struck S_16 (S.2.2.2 4 (2 * t + (Int32.toNatClampNeg x1)) - 1)).1 43 (S.2.2.2 4 (2 * t + (Int32.toNatClampNeg x1)) - 1) ≤ 100000) (c4 : ¬ (x_w_run_v53 S t x1 S_16) = 0) : 0 ≤ (((xv_struck S_16 (S.2.2.2 4 (2 * t + (Int32.toNatClampNeg x1)) - 1)).1 43 (S.2.2.2 4 (2 * t + (Int32.toNatClampNeg x1)) - 1)) - 1) ∧ (((xv_struck S_16 (S.2.2.2 4 (2 * t + (Int32.toNatClampNeg x1)) - 1)).1 43 (S.2.2.2 4 (2 * t + (Int32.toNatClampNeg x1)) - 1)) - 1) ≤ 100000 := by 
  have bl_x1 := Int32.toInt_lt x1
  have bl_x2 := Int32.toInt_lt x2
  have bl_y4_16 := Int32.toInt_lt y4_16
  try simp only [x_w_run_v53] at *
  try simp only [i_le, i_lt, i_eq, Int32.reduceToInt] at *
  first | (have e_0 := m32 (x := 2) (y := t) (by (try simp only [Int32.reduceToInt]); omega); (try simp only [Int32.reduceToInt] at e_0)) | skip
  first | (have e_1 := a32 (x := (2 * t)) (y := (Int32.toNatClampNeg x1)) (by (try simp only [Int32.reduceToInt]); omega); (try simp only [Int32.reduceToInt] at e_1)) | skip
  first | (have e_2 := s32 (x := (S.2.2.2 4 (2 * t + (Int32.toNatClampNeg x1)))) (y := 1) (by (try simp only [Int32.reduceToInt]); omega); (try simp only [Int32.reduceToInt] at e_2)) | skip
  first | (have e_3 := s32 (x := ((xv_struck S_16 (S.2.2.2 4 (2 * t + (Int32.toNatClampNeg x1)) - 1)).1 43 (S.2.2.2 4 (2 * t + (Int32.toNatClampNeg x1)) - 1))) (y := 1) (by (try simp only [Int32.reduceToInt]); omega); (try simp only [Int32.reduceToInt] at e_3)) | skip
  try simp only [Int32.reduceToInt] at *
  omega
def x_w_run_j115_s0 (S : XS) (t : Nat) (x1 : Int32) (S_16 : XS) : Int32 := (if (x_w_run_v53 S t x1 S_16) = 0 then 0 else (if (x_w_silence (xu (xu (xu (xv_struck S_16 (S.2.2.2 4 (2 * t + (Int32.toNatClampNeg x1)) - 1)) 43 (S.2.2.2 4 (2 * t + (Int32.toNatClampNeg x1)) - 1) (((xv_struck S_16 (S.2.2.2 4 (2 * t + (Int32.toNatClampNeg x1)) - 1)).1 43 (S.2.2.2 4 (2 * t + (Int32.toNatClampNeg x1)) - 1)) - 1)) 45 (S.2.2.2 4 (2 * t + (Int32.toNatClampNeg x1)) - 1) (((xv_struck S_16 (S.2.2.2 4 (2 * t + (Int32.toNatClampNeg x1)) - 1)).1 45 (S.2.2.2 4 (2 * t + (Int32.toNatClampNeg x1)) - 1)) - 1)) 46 (S.2.2.2 4 (2 * t + (Int32.toNatClampNeg x1)) - 1) (((xv_struck S_16 (S.2.2.2 4 (2 * t + (Int32.toNatClampNeg x1)) - 1)).1 46 (S.2.2.2 4 (2 * t + (Int32.toNatClampNeg x1)) - 1)) + 1)) t) = 1 then 0 else 1))
def x_w_run_v116 (S : XS) (t : Nat) (x1 : Int32) (y5_16 : Int32) (S_16 : XS) : Int32 := (y5_16 + (x_w_run_j115_s0 S t x1 S_16))
theorem x_w_run_o9 (S : XS) (t : Nat) (x1 : Int32) (x2 : Int32) (y4_16 : Int32) (S_16 : XS) (hI : XInv S) (ht : t < 4) (h5 : ¬ S.2.2.2 5 t = 0) (hk : 0 ≤ x1 ∧ x1 < 2) (ho : ¬ S.2.2.2 4 (2 * t + (Int32.toNatClampNeg x1)) = 0) (hq : 2 * t + (Int32.toNatClampNeg x1) < 8) (hj : (S.2.2.2 4 (2 * t + (Int32.toNatClampNeg x1)) - 1) < S.2.2.2 7 0) (hi4 : 0 ≤ y4_16) (hJ : XInv S_16) (hM : S_16.2.2.2 = S.2.2.2) (c1 : ¬ x2 ≤ y4_16) (c2 : ¬ (S_16.1 45 (S.2.2.2 4 (2 * t + (Int32.toNatClampNeg x1)) - 1)) ≤ 0) (c3 : ¬ (S_16.1 43 (S.2.2.2 4 (2 * t + (Int32.toNatClampNeg x1)) - 1)) ≤ 0) (hN57 : (xv_struck S_16 (S.2.2.2 4 (2 * t + (Int32.toNatClampNeg x1)) - 1)).2.2.2 = S_16.2.2.2) (hI57 : XInv (xv_struck S_16 (S.2.2.2 4 (2 * t + (Int32.toNatClampNeg x1)) - 1))) (hw : 0 < (xv_struck S_16 (S.2.2.2 4 (2 * t + (Int32.toNatClampNeg x1)) - 1)).1 43 (S.2.2.2 4 (2 * t + (Int32.toNatClampNeg x1)) - 1) ∧ (xv_struck S_16 (S.2.2.2 4 (2 * t + (Int32.toNatClampNeg x1)) - 1)).1 43 (S.2.2.2 4 (2 * t + (Int32.toNatClampNeg x1)) - 1) ≤ 100000) : 0 ≤ (((xv_struck S_16 (S.2.2.2 4 (2 * t + (Int32.toNatClampNeg x1)) - 1)).1 43 (S.2.2.2 4 (2 * t + (Int32.toNatClampNeg x1)) - 1)) - 1) ∧ (((xv_struck S_16 (S.2.2.2 4 (2 * t + (Int32.toNatClampNeg x1)) - 1)).1 43 (S.2.2.2 4 (2 * t + (Int32.toNatClampNeg x1)) - 1)) - 1) ≤ 100000 := by 
  have bl_x1 := Int32.toInt_lt x1
  have bl_x2 := Int32.toInt_lt x2
  have bl_y4_16 := Int32.toInt_lt y4_16
  try simp only [i_le, i_lt, i_eq, Int32.reduceToInt] at *
  first | (have e_0 := m32 (x := 2) (y := t) (by (try simp only [Int32.reduceToInt]); omega); (try simp only [Int32.reduceToInt] at e_0)) | skip
  first | (have e_1 := a32 (x := (2 * t)) (y := (Int32.toNatClampNeg x1)) (by (try simp only [Int32.reduceToInt]); omega); (try simp only [Int32.reduceToInt] at e_1)) | skip
  first | (have e_2 := s32 (x := (S.2.2.2 4 (2 * t + (Int32.toNatClampNeg x1)))) (y := 1) (by (try simp only [Int32.reduceToInt]); omega); (try simp only [Int32.reduceToInt] at e_2)) | skip
  first | (have e_3 := s32 (x := ((xv_struck S_16 (S.2.2.2 4 (2 * t + (Int32.toNatClampNeg x1)) - 1)).1 43 (S.2.2.2 4 (2 * t + (Int32.toNatClampNeg x1)) - 1))) (y := 1) (by (try simp only [Int32.reduceToInt]); omega); (try simp only [Int32.reduceToInt] at e_3)) | skip
  try simp only [Int32.reduceToInt] at *
  omega
def x_w_run_j134_s0 (S : XS) (t : Nat) (x1 : Int32) (S_16 : XS) : Int32 := (if (x_w_silence (xu (xu (xu (xv_struck S_16 (S.2.2.2 4 (2 * t + (Int32.toNatClampNeg x1)) - 1)) 43 (S.2.2.2 4 (2 * t + (Int32.toNatClampNeg x1)) - 1) (((xv_struck S_16 (S.2.2.2 4 (2 * t + (Int32.toNatClampNeg x1)) - 1)).1 43 (S.2.2.2 4 (2 * t + (Int32.toNatClampNeg x1)) - 1)) - 1)) 45 (S.2.2.2 4 (2 * t + (Int32.toNatClampNeg x1)) - 1) (((xv_struck S_16 (S.2.2.2 4 (2 * t + (Int32.toNatClampNeg x1)) - 1)).1 45 (S.2.2.2 4 (2 * t + (Int32.toNatClampNeg x1)) - 1)) - 1)) 46 (S.2.2.2 4 (2 * t + (Int32.toNatClampNeg x1)) - 1) (((xv_struck S_16 (S.2.2.2 4 (2 * t + (Int32.toNatClampNeg x1)) - 1)).1 46 (S.2.2.2 4 (2 * t + (Int32.toNatClampNeg x1)) - 1)) + 1)) t) = 1 then 0 else (x_w_run_v53 S t x1 S_16))
def x_w_run_v135 (S : XS) (t : Nat) (x1 : Int32) (y6_16 : Int32) (S_16 : XS) : Int32 := (y6_16 ||| (x_w_run_j134_s0 S t x1 S_16))
def x_w_run_L16 (S : XS) (t : Nat) (x1 : Int32) (x2 : Int32) : Nat → Int32 → Int32 → Int32 → XS → Int32 × Int32 × Int32 × XS
  | 0, y4_16, y5_16, y6_16, S_16 => (y4_16, y5_16, y6_16, S_16)
  | f16 + 1, y4_16, y5_16, y6_16, S_16 => (if x2 ≤ y4_16 then (y4_16, y5_16, y6_16, S_16) else (if (S_16.1 45 (S.2.2.2 4 (2 * t + (Int32.toNatClampNeg x1)) - 1)) ≤ 0 then (y4_16, y5_16, y6_16, S_16) else (if (S_16.1 43 (S.2.2.2 4 (2 * t + (Int32.toNatClampNeg x1)) - 1)) ≤ 0 then (y4_16, y5_16, y6_16, S_16) else (x_w_run_L16 S t x1 x2 f16 (y4_16 + 1) (x_w_run_v116 S t x1 y5_16 S_16) (x_w_run_v135 S t x1 y6_16 S_16) (xu (xu (xu (xv_struck S_16 (S.2.2.2 4 (2 * t + (Int32.toNatClampNeg x1)) - 1)) 43 (S.2.2.2 4 (2 * t + (Int32.toNatClampNeg x1)) - 1) (((xv_struck S_16 (S.2.2.2 4 (2 * t + (Int32.toNatClampNeg x1)) - 1)).1 43 (S.2.2.2 4 (2 * t + (Int32.toNatClampNeg x1)) - 1)) - 1)) 45 (S.2.2.2 4 (2 * t + (Int32.toNatClampNeg x1)) - 1) (((xv_struck S_16 (S.2.2.2 4 (2 * t + (Int32.toNatClampNeg x1)) - 1)).1 45 (S.2.2.2 4 (2 * t + (Int32.toNatClampNeg x1)) - 1)) - 1)) 46 (S.2.2.2 4 (2 * t + (Int32.toNatClampNeg x1)) - 1) (((xv_struck S_16 (S.2.2.2 4 (2 * t + (Int32.toNatClampNeg x1)) - 1)).1 46 (S.2.2.2 4 (2 * t + (Int32.toNatClampNeg x1)) - 1)) + 1))))))
theorem x_w_run_L16_s (S : XS) (t : Nat) (x1 : Int32) (x2 : Int32) (f16 : Nat) (y4_16 : Int32) (y5_16 : Int32) (y6_16 : Int32) (S_16 : XS) : x_w_run_L16 S t x1 x2 (f16 + 1) y4_16 y5_16 y6_16 S_16 = (if x2 ≤ y4_16 then (y4_16, y5_16, y6_16, S_16) else (if (S_16.1 45 (S.2.2.2 4 (2 * t + (Int32.toNatClampNeg x1)) - 1)) ≤ 0 then (y4_16, y5_16, y6_16, S_16) else (if (S_16.1 43 (S.2.2.2 4 (2 * t + (Int32.toNatClampNeg x1)) - 1)) ≤ 0 then (y4_16, y5_16, y6_16, S_16) else (x_w_run_L16 S t x1 x2 f16 (y4_16 + 1) (x_w_run_v116 S t x1 y5_16 S_16) (x_w_run_v135 S t x1 y6_16 S_16) (xu (xu (xu (xv_struck S_16 (S.2.2.2 4 (2 * t + (Int32.toNatClampNeg x1)) - 1)) 43 (S.2.2.2 4 (2 * t + (Int32.toNatClampNeg x1)) - 1) (((xv_struck S_16 (S.2.2.2 4 (2 * t + (Int32.toNatClampNeg x1)) - 1)).1 43 (S.2.2.2 4 (2 * t + (Int32.toNatClampNeg x1)) - 1)) - 1)) 45 (S.2.2.2 4 (2 * t + (Int32.toNatClampNeg x1)) - 1) (((xv_struck S_16 (S.2.2.2 4 (2 * t + (Int32.toNatClampNeg x1)) - 1)).1 45 (S.2.2.2 4 (2 * t + (Int32.toNatClampNeg x1)) - 1)) - 1)) 46 (S.2.2.2 4 (2 * t + (Int32.toNatClampNeg x1)) - 1) (((xv_struck S_16 (S.2.2.2 4 (2 * t + (Int32.toNatClampNeg x1)) - 1)).1 46 (S.2.2.2 4 (2 * t + (Int32.toNatClampNeg x1)) - 1)) + 1)))))) := rfl
def x_w_run_R16 (S : XS) (t : Nat) (x1 : Int32) (x2 : Int32) : Int32 × Int32 × Int32 × XS := x_w_run_L16 S t x1 x2 (fz ((x2 - 0 : Int32).toNatClampNeg + 1)) 0 0 0 S
theorem x_w_run_o13 (S : XS) (t : Nat) (x1 : Int32) (x2 : Int32) (y4_16 : Int32) (S_16 : XS) (hI : XInv S) (ht : t < 4) (h5 : ¬ S.2.2.2 5 t = 0) (hk : 0 ≤ x1 ∧ x1 < 2) (ho : ¬ S.2.2.2 4 (2 * t + (Int32.toNatClampNeg x1)) = 0) (hq : 2 * t + (Int32.toNatClampNeg x1) < 8) (hj : (S.2.2.2 4 (2 * t + (Int32.toNatClampNeg x1)) - 1) < S.2.2.2 7 0) (hi4 : 0 ≤ y4_16) (hJ : XInv S_16) (hM : S_16.2.2.2 = S.2.2.2) (c1 : ¬ x2 ≤ y4_16) (c2 : ¬ (S_16.1 45 (S.2.2.2 4 (2 * t + (Int32.toNatClampNeg x1)) - 1)) ≤ 0) (c3 : ¬ (S_16.1 43 (S.2.2.2 4 (2 * t + (Int32.toNatClampNeg x1)) - 1)) ≤ 0) (hN57 : (xv_struck S_16 (S.2.2.2 4 (2 * t + (Int32.toNatClampNeg x1)) - 1)).2.2.2 = S_16.2.2.2) (hI57 : XInv (xv_struck S_16 (S.2.2.2 4 (2 * t + (Int32.toNatClampNeg x1)) - 1))) (hw : 0 < (xv_struck S_16 (S.2.2.2 4 (2 * t + (Int32.toNatClampNeg x1)) - 1)).1 43 (S.2.2.2 4 (2 * t + (Int32.toNatClampNeg x1)) - 1) ∧ (xv_struck S_16 (S.2.2.2 4 (2 * t + (Int32.toNatClampNeg x1)) - 1)).1 43 (S.2.2.2 4 (2 * t + (Int32.toNatClampNeg x1)) - 1) ≤ 100000) : 0 ≤ (y4_16 + 1) := by 
  have bl_x1 := Int32.toInt_lt x1
  have bl_x2 := Int32.toInt_lt x2
  have bl_y4_16 := Int32.toInt_lt y4_16
  try simp only [i_le, i_lt, i_eq, Int32.reduceToInt] at *
  first | (have e_0 := m32 (x := 2) (y := t) (by (try simp only [Int32.reduceToInt]); omega); (try simp only [Int32.reduceToInt] at e_0)) | skip
  first | (have e_1 := a32 (x := (2 * t)) (y := (Int32.toNatClampNeg x1)) (by (try simp only [Int32.reduceToInt]); omega); (try simp only [Int32.reduceToInt] at e_1)) | skip
  first | (have e_2 := s32 (x := (S.2.2.2 4 (2 * t + (Int32.toNatClampNeg x1)))) (y := 1) (by (try simp only [Int32.reduceToInt]); omega); (try simp only [Int32.reduceToInt] at e_2)) | skip
  first | (have e_3 := a32 (x := y4_16) (y := 1) (by (try simp only [Int32.reduceToInt]); omega); (try simp only [Int32.reduceToInt] at e_3)) | skip
  try simp only [Int32.reduceToInt] at *
  omega
theorem x_w_run_L16_P (S : XS) (t : Nat) (x1 : Int32) (x2 : Int32) (hI : XInv S) (ht : t < 4) (h5 : ¬ S.2.2.2 5 t = 0) (hk : 0 ≤ x1 ∧ x1 < 2) (ho : ¬ S.2.2.2 4 (2 * t + (Int32.toNatClampNeg x1)) = 0) (hq : 2 * t + (Int32.toNatClampNeg x1) < 8) (hj : (S.2.2.2 4 (2 * t + (Int32.toNatClampNeg x1)) - 1) < S.2.2.2 7 0) : ∀ (f16 : Nat) (y4_16 : Int32) (y5_16 : Int32) (y6_16 : Int32) (S_16 : XS), (0 ≤ y4_16) → (XInv S_16) → (S_16.2.2.2 = S.2.2.2) → (XInv (x_w_run_L16 S t x1 x2 f16 y4_16 y5_16 y6_16 S_16).2.2.2) ∧ ((x_w_run_L16 S t x1 x2 f16 y4_16 y5_16 y6_16 S_16).2.2.2.2.2.2 = S.2.2.2) := by
  intro f16
  induction f16 with
  | zero =>
    intro y4_16 y5_16 y6_16 S_16 hi4 hJ hM
    exact ⟨hJ, hM⟩
  | succ f16 ih =>
    intro y4_16 y5_16 y6_16 S_16 hi4 hJ hM
    rw [x_w_run_L16_s]
    refine ifI (P := fun (z : Int32 × Int32 × Int32 × XS) => (XInv z.2.2.2) ∧ (z.2.2.2.2.2.2 = S.2.2.2)) (fun c1 => ?_) (fun c1 => ?_)
    · exact ⟨hJ, hM⟩
    · refine ifI (P := fun (z : Int32 × Int32 × Int32 × XS) => (XInv z.2.2.2) ∧ (z.2.2.2.2.2.2 = S.2.2.2)) (fun c2 => ?_) (fun c2 => ?_)
      · exact ⟨hJ, hM⟩
      · refine ifI (P := fun (z : Int32 × Int32 × Int32 × XS) => (XInv z.2.2.2) ∧ (z.2.2.2.2.2.2 = S.2.2.2)) (fun c3 => ?_) (fun c3 => ?_)
        · exact ⟨hJ, hM⟩
        · have hN57 : (xv_struck S_16 (S.2.2.2 4 (2 * t + (Int32.toNatClampNeg x1)) - 1)).2.2.2 = S_16.2.2.2 := xv_struck_N S_16 (S.2.2.2 4 (2 * t + (Int32.toNatClampNeg x1)) - 1)
          have hI57 : XInv (xv_struck S_16 (S.2.2.2 4 (2 * t + (Int32.toNatClampNeg x1)) - 1)) := xv_struck_inv S_16 (S.2.2.2 4 (2 * t + (Int32.toNatClampNeg x1)) - 1) (hJ) (by show (S.2.2.2 4 (2 * t + (Int32.toNatClampNeg x1)) - 1) < S_16.2.2.2 7 0; rw [hM]; exact hj)
          have hw : 0 < (xv_struck S_16 (S.2.2.2 4 (2 * t + (Int32.toNatClampNeg x1)) - 1)).1 43 (S.2.2.2 4 (2 * t + (Int32.toNatClampNeg x1)) - 1) ∧ (xv_struck S_16 (S.2.2.2 4 (2 * t + (Int32.toNatClampNeg x1)) - 1)).1 43 (S.2.2.2 4 (2 * t + (Int32.toNatClampNeg x1)) - 1) ≤ 100000 := by rw [xv_struck_k _ _ (by decide)]; exact ⟨Int32.not_le.mp (by assumption), (xi_we hJ (by rw [hM]; exact hj)).1.2⟩
          exact ih (y4_16 + 1) (x_w_run_v116 S t x1 y5_16 S_16) (x_w_run_v135 S t x1 y6_16 S_16) (xu (xu (xu (xv_struck S_16 (S.2.2.2 4 (2 * t + (Int32.toNatClampNeg x1)) - 1)) 43 (S.2.2.2 4 (2 * t + (Int32.toNatClampNeg x1)) - 1) (((xv_struck S_16 (S.2.2.2 4 (2 * t + (Int32.toNatClampNeg x1)) - 1)).1 43 (S.2.2.2 4 (2 * t + (Int32.toNatClampNeg x1)) - 1)) - 1)) 45 (S.2.2.2 4 (2 * t + (Int32.toNatClampNeg x1)) - 1) (((xv_struck S_16 (S.2.2.2 4 (2 * t + (Int32.toNatClampNeg x1)) - 1)).1 45 (S.2.2.2 4 (2 * t + (Int32.toNatClampNeg x1)) - 1)) - 1)) 46 (S.2.2.2 4 (2 * t + (Int32.toNatClampNeg x1)) - 1) (((xv_struck S_16 (S.2.2.2 4 (2 * t + (Int32.toNatClampNeg x1)) - 1)).1 46 (S.2.2.2 4 (2 * t + (Int32.toNatClampNeg x1)) - 1)) + 1)) (x_w_run_o13 S t x1 x2 y4_16 S_16 hI ht h5 hk ho hq hj hi4 hJ hM c1 c2 c3 hN57 hI57 hw) ((XInv_xu (XInv_xu (XInv_43 hI57 _ _ (x_w_run_o9 S t x1 x2 y4_16 S_16 hI ht h5 hk ho hq hj hi4 hJ hM c1 c2 c3 hN57 hI57 hw)) _ _ _ (by decide)) _ _ _ (by decide))) ((hN57.trans hM))
theorem x_w_run_R16_P (S : XS) (t : Nat) (x1 : Int32) (x2 : Int32) (hI : XInv S) (ht : t < 4) (h5 : ¬ S.2.2.2 5 t = 0) (hk : 0 ≤ x1 ∧ x1 < 2) (ho : ¬ S.2.2.2 4 (2 * t + (Int32.toNatClampNeg x1)) = 0) (hq : 2 * t + (Int32.toNatClampNeg x1) < 8) (hj : (S.2.2.2 4 (2 * t + (Int32.toNatClampNeg x1)) - 1) < S.2.2.2 7 0) : (XInv (x_w_run_R16 S t x1 x2).2.2.2) ∧ ((x_w_run_R16 S t x1 x2).2.2.2.2.2.2 = S.2.2.2) := by
  unfold x_w_run_R16
  exact x_w_run_L16_P S t x1 x2 hI ht h5 hk ho hq hj (fz ((x2 - 0 : Int32).toNatClampNeg + 1)) 0 0 0 S (by decide) (hI) (rfl)
def x_w_run_j157_S (S : XS) (t : Nat) (x1 : Int32) (x2 : Int32) : XS := (if (x_w_run_R16 S t x1 x2).2.1 ≤ 0 then (x_w_run_R16 S t x1 x2).2.2.2 else (x_w_enter (x_w_run_R16 S t x1 x2).2.2.2 t ((x_w_run_R16 S t x1 x2).2.2.2.1 40 (S.2.2.2 4 (2 * t + (Int32.toNatClampNeg x1)) - 1)) (x_w_run_R16 S t x1 x2).2.1 (x_w_run_R16 S t x1 x2).2.2.1))
theorem x_w_run_j157_S_N (S : XS) (t : Nat) (x1 : Int32) (x2 : Int32) : (x_w_run_j157_S S t x1 x2).2.2.2 = (x_w_run_R16 S t x1 x2).2.2.2.2.2.2 := by
  unfold x_w_run_j157_S
  refine ifI (P := fun (z : XS) => z.2.2.2 = (x_w_run_R16 S t x1 x2).2.2.2.2.2.2) (fun c14 => ?_) (fun c14 => ?_)
  · exact rfl
  · have hN154 : (x_w_enter (x_w_run_R16 S t x1 x2).2.2.2 t ((x_w_run_R16 S t x1 x2).2.2.2.1 40 (S.2.2.2 4 (2 * t + (Int32.toNatClampNeg x1)) - 1)) (x_w_run_R16 S t x1 x2).2.1 (x_w_run_R16 S t x1 x2).2.2.1).2.2.2 = (x_w_run_R16 S t x1 x2).2.2.2.2.2.2 := x_w_enter_N (x_w_run_R16 S t x1 x2).2.2.2 t ((x_w_run_R16 S t x1 x2).2.2.2.1 40 (S.2.2.2 4 (2 * t + (Int32.toNatClampNeg x1)) - 1)) (x_w_run_R16 S t x1 x2).2.1 (x_w_run_R16 S t x1 x2).2.2.1
    exact hN154
theorem x_w_run_j157_S_I (S : XS) (t : Nat) (x1 : Int32) (x2 : Int32) (hI : XInv S) (ht : t < 4) (h5 : ¬ S.2.2.2 5 t = 0) (hk : 0 ≤ x1 ∧ x1 < 2) (ho : ¬ S.2.2.2 4 (2 * t + (Int32.toNatClampNeg x1)) = 0) (hq : 2 * t + (Int32.toNatClampNeg x1) < 8) (hj : (S.2.2.2 4 (2 * t + (Int32.toNatClampNeg x1)) - 1) < S.2.2.2 7 0) : XInv (x_w_run_j157_S S t x1 x2) := by
  unfold x_w_run_j157_S
  refine ifI (P := XInv) (fun c14 => ?_) (fun c14 => ?_)
  · have hJp : XInv (x_w_run_R16 S t x1 x2).2.2.2 := (x_w_run_R16_P S t x1 x2 hI ht h5 hk ho hq hj).1
    exact hJp
  · have hJp : XInv (x_w_run_R16 S t x1 x2).2.2.2 := (x_w_run_R16_P S t x1 x2 hI ht h5 hk ho hq hj).1
    have hMp : (x_w_run_R16 S t x1 x2).2.2.2.2.2.2 = S.2.2.2 := (x_w_run_R16_P S t x1 x2 hI ht h5 hk ho hq hj).2
    have hI154 : XInv (x_w_enter (x_w_run_R16 S t x1 x2).2.2.2 t ((x_w_run_R16 S t x1 x2).2.2.2.1 40 (S.2.2.2 4 (2 * t + (Int32.toNatClampNeg x1)) - 1)) (x_w_run_R16 S t x1 x2).2.1 (x_w_run_R16 S t x1 x2).2.2.1) := x_w_enter_inv (x_w_run_R16 S t x1 x2).2.2.2 t ((x_w_run_R16 S t x1 x2).2.2.2.1 40 (S.2.2.2 4 (2 * t + (Int32.toNatClampNeg x1)) - 1)) (x_w_run_R16 S t x1 x2).2.1 (x_w_run_R16 S t x1 x2).2.2.1 (hJp) (ht) (by show ¬ (x_w_run_R16 S t x1 x2).2.2.2.2.2.2 5 t = 0; rw [hMp]; exact h5)
    exact hI154
theorem x_w_run_o23 (S : XS) (t : Nat) (x1 : Int32) (x2 : Int32) (y4_16 : Int32) (S_16 : XS) (hI : XInv S) (ht : t < 4) (h5 : ¬ S.2.2.2 5 t = 0) (hk : 0 ≤ x1 ∧ x1 < 2) (ho : ¬ S.2.2.2 4 (2 * t + (Int32.toNatClampNeg x1)) = 0) (hq : 2 * t + (Int32.toNatClampNeg x1) < 8) (hj : (S.2.2.2 4 (2 * t + (Int32.toNatClampNeg x1)) - 1) < S.2.2.2 7 0) (hi4 : 0 ≤ y4_16) (hJ : XInv S_16) (hM : S_16.2.2.2 = S.2.2.2) (c1 : ¬ x2 ≤ y4_16) (c2 : ¬ (S_16.1 45 (S.2.2.2 4 (2 * t + (Int32.toNatClampNeg x1)) - 1)) ≤ 0) (c3 : ¬ (S_16.1 43 (S.2.2.2 4 (2 * t + (Int32.toNatClampNeg x1)) - 1)) ≤ 0) (hN57 : (xv_struck S_16 (S.2.2.2 4 (2 * t + (Int32.toNatClampNeg x1)) - 1)).2.2.2 = S_16.2.2.2) (hI57 : XInv (xv_struck S_16 (S.2.2.2 4 (2 * t + (Int32.toNatClampNeg x1)) - 1))) (hw : 0 < (xv_struck S_16 (S.2.2.2 4 (2 * t + (Int32.toNatClampNeg x1)) - 1)).1 43 (S.2.2.2 4 (2 * t + (Int32.toNatClampNeg x1)) - 1) ∧ (xv_struck S_16 (S.2.2.2 4 (2 * t + (Int32.toNatClampNeg x1)) - 1)).1 43 (S.2.2.2 4 (2 * t + (Int32.toNatClampNeg x1)) - 1) ≤ 100000) : y4_16 < x2 := by 
  have bl_x1 := Int32.toInt_lt x1
  have bl_x2 := Int32.toInt_lt x2
  have bl_y4_16 := Int32.toInt_lt y4_16
  try simp only [i_le, i_lt, i_eq, Int32.reduceToInt] at *
  first | (have e_0 := m32 (x := 2) (y := t) (by (try simp only [Int32.reduceToInt]); omega); (try simp only [Int32.reduceToInt] at e_0)) | skip
  first | (have e_1 := a32 (x := (2 * t)) (y := (Int32.toNatClampNeg x1)) (by (try simp only [Int32.reduceToInt]); omega); (try simp only [Int32.reduceToInt] at e_1)) | skip
  first | (have e_2 := s32 (x := (S.2.2.2 4 (2 * t + (Int32.toNatClampNeg x1)))) (y := 1) (by (try simp only [Int32.reduceToInt]); omega); (try simp only [Int32.reduceToInt] at e_2)) | skip
  try simp only [Int32.reduceToInt] at *
  omega
def x_w_run (S : XS) (t : Nat) (x1 : Int32) (x2 : Int32) : Int32 × XS := (if (x_w_run_R16 S t x1 x2).1 ≤ 0 then ((x_w_run_R16 S t x1 x2).1, (x_w_run_j157_S S t x1 x2)) else (if ((x_w_run_j157_S S t x1 x2).1 45 (S.2.2.2 4 (2 * t + (Int32.toNatClampNeg x1)) - 1)) = 0 then (if x1 = 1 then (if ((x_w_run_j157_S S t x1 x2).1 49 (S.2.2.2 4 (2 * t + (Int32.toNatClampNeg x1)) - 1)) = 0 then ((x_w_run_R16 S t x1 x2).1, (x_w_run_j157_S S t x1 x2)) else (if S.2.2.2 4 (2 * t + (Int32.toNatClampNeg 0)) = 0 then ((x_w_run_R16 S t x1 x2).1, (x_w_run_j157_S S t x1 x2)) else (if (x_w_silence (x_w_run_j157_S S t x1 x2) t) = 2 then ((x_w_run_R16 S t x1 x2).1, (x_w_run_j157_S S t x1 x2)) else ((x_w_run_R16 S t x1 x2).1, (x_w_letOff (x_w_run_j157_S S t x1 x2) t 0))))) else ((x_w_run_R16 S t x1 x2).1, (x_w_run_j157_S S t x1 x2))) else ((x_w_run_R16 S t x1 x2).1, (x_w_run_j157_S S t x1 x2))))
theorem x_w_run_N (S : XS) (t : Nat) (x1 : Int32) (x2 : Int32) (hI : XInv S) (ht : t < 4) (h5 : ¬ S.2.2.2 5 t = 0) (hk : 0 ≤ x1 ∧ x1 < 2) (ho : ¬ S.2.2.2 4 (2 * t + (Int32.toNatClampNeg x1)) = 0) : (x_w_run S t x1 x2).2.2.2.2 = S.2.2.2 := by
  have hq : 2 * t + (Int32.toNatClampNeg x1) < 8 := tp8 ht hk
  have hj : (S.2.2.2 4 (2 * t + (Int32.toNatClampNeg x1)) - 1) < S.2.2.2 7 0 := xi_own hI hq ho
  unfold x_w_run
  refine ifI (P := fun (z : Int32 × XS) => z.2.2.2.2 = S.2.2.2) (fun c17 => ?_) (fun c17 => ?_)
  · have hMp : (x_w_run_R16 S t x1 x2).2.2.2.2.2.2 = S.2.2.2 := (x_w_run_R16_P S t x1 x2 hI ht h5 hk ho hq hj).2
    have hN_j157_S : (x_w_run_j157_S S t x1 x2).2.2.2 = (x_w_run_R16 S t x1 x2).2.2.2.2.2.2 := x_w_run_j157_S_N S t x1 x2
    exact (hN_j157_S.trans hMp)
  · refine ifI (P := fun (z : Int32 × XS) => z.2.2.2.2 = S.2.2.2) (fun c18 => ?_) (fun c18 => ?_)
    · refine ifI (P := fun (z : Int32 × XS) => z.2.2.2.2 = S.2.2.2) (fun c19 => ?_) (fun c19 => ?_)
      · refine ifI (P := fun (z : Int32 × XS) => z.2.2.2.2 = S.2.2.2) (fun c20 => ?_) (fun c20 => ?_)
        · have hMp : (x_w_run_R16 S t x1 x2).2.2.2.2.2.2 = S.2.2.2 := (x_w_run_R16_P S t x1 x2 hI ht h5 hk ho hq hj).2
          have hN_j157_S : (x_w_run_j157_S S t x1 x2).2.2.2 = (x_w_run_R16 S t x1 x2).2.2.2.2.2.2 := x_w_run_j157_S_N S t x1 x2
          exact (hN_j157_S.trans hMp)
        · refine ifI (P := fun (z : Int32 × XS) => z.2.2.2.2 = S.2.2.2) (fun c21 => ?_) (fun c21 => ?_)
          · have hMp : (x_w_run_R16 S t x1 x2).2.2.2.2.2.2 = S.2.2.2 := (x_w_run_R16_P S t x1 x2 hI ht h5 hk ho hq hj).2
            have hN_j157_S : (x_w_run_j157_S S t x1 x2).2.2.2 = (x_w_run_R16 S t x1 x2).2.2.2.2.2.2 := x_w_run_j157_S_N S t x1 x2
            exact (hN_j157_S.trans hMp)
          · refine ifI (P := fun (z : Int32 × XS) => z.2.2.2.2 = S.2.2.2) (fun c22 => ?_) (fun c22 => ?_)
            · have hMp : (x_w_run_R16 S t x1 x2).2.2.2.2.2.2 = S.2.2.2 := (x_w_run_R16_P S t x1 x2 hI ht h5 hk ho hq hj).2
              have hN_j157_S : (x_w_run_j157_S S t x1 x2).2.2.2 = (x_w_run_R16 S t x1 x2).2.2.2.2.2.2 := x_w_run_j157_S_N S t x1 x2
              exact (hN_j157_S.trans hMp)
            · have hMp : (x_w_run_R16 S t x1 x2).2.2.2.2.2.2 = S.2.2.2 := (x_w_run_R16_P S t x1 x2 hI ht h5 hk ho hq hj).2
              have hN_j157_S : (x_w_run_j157_S S t x1 x2).2.2.2 = (x_w_run_R16 S t x1 x2).2.2.2.2.2.2 := x_w_run_j157_S_N S t x1 x2
              have hN200 : (x_w_letOff (x_w_run_j157_S S t x1 x2) t 0).2.2.2 = (x_w_run_j157_S S t x1 x2).2.2.2 := x_w_letOff_N (x_w_run_j157_S S t x1 x2) t 0
              exact (hN200.trans (hN_j157_S.trans hMp))
      · have hMp : (x_w_run_R16 S t x1 x2).2.2.2.2.2.2 = S.2.2.2 := (x_w_run_R16_P S t x1 x2 hI ht h5 hk ho hq hj).2
        have hN_j157_S : (x_w_run_j157_S S t x1 x2).2.2.2 = (x_w_run_R16 S t x1 x2).2.2.2.2.2.2 := x_w_run_j157_S_N S t x1 x2
        exact (hN_j157_S.trans hMp)
    · have hMp : (x_w_run_R16 S t x1 x2).2.2.2.2.2.2 = S.2.2.2 := (x_w_run_R16_P S t x1 x2 hI ht h5 hk ho hq hj).2
      have hN_j157_S : (x_w_run_j157_S S t x1 x2).2.2.2 = (x_w_run_R16 S t x1 x2).2.2.2.2.2.2 := x_w_run_j157_S_N S t x1 x2
      exact (hN_j157_S.trans hMp)
theorem x_w_run_inv (S : XS) (t : Nat) (x1 : Int32) (x2 : Int32) (hI : XInv S) (ht : t < 4) (h5 : ¬ S.2.2.2 5 t = 0) (hk : 0 ≤ x1 ∧ x1 < 2) (ho : ¬ S.2.2.2 4 (2 * t + (Int32.toNatClampNeg x1)) = 0) : XInv (x_w_run S t x1 x2).2 := by
  have hq : 2 * t + (Int32.toNatClampNeg x1) < 8 := tp8 ht hk
  have hj : (S.2.2.2 4 (2 * t + (Int32.toNatClampNeg x1)) - 1) < S.2.2.2 7 0 := xi_own hI hq ho
  unfold x_w_run
  refine ifI (P := fun (z : Int32 × XS) => XInv z.2) (fun c17 => ?_) (fun c17 => ?_)
  · have hI_j157_S : XInv (x_w_run_j157_S S t x1 x2) := x_w_run_j157_S_I S t x1 x2 hI ht h5 hk ho hq hj
    exact hI_j157_S
  · refine ifI (P := fun (z : Int32 × XS) => XInv z.2) (fun c18 => ?_) (fun c18 => ?_)
    · refine ifI (P := fun (z : Int32 × XS) => XInv z.2) (fun c19 => ?_) (fun c19 => ?_)
      · refine ifI (P := fun (z : Int32 × XS) => XInv z.2) (fun c20 => ?_) (fun c20 => ?_)
        · have hI_j157_S : XInv (x_w_run_j157_S S t x1 x2) := x_w_run_j157_S_I S t x1 x2 hI ht h5 hk ho hq hj
          exact hI_j157_S
        · refine ifI (P := fun (z : Int32 × XS) => XInv z.2) (fun c21 => ?_) (fun c21 => ?_)
          · have hI_j157_S : XInv (x_w_run_j157_S S t x1 x2) := x_w_run_j157_S_I S t x1 x2 hI ht h5 hk ho hq hj
            exact hI_j157_S
          · refine ifI (P := fun (z : Int32 × XS) => XInv z.2) (fun c22 => ?_) (fun c22 => ?_)
            · have hI_j157_S : XInv (x_w_run_j157_S S t x1 x2) := x_w_run_j157_S_I S t x1 x2 hI ht h5 hk ho hq hj
              exact hI_j157_S
            · have hMp : (x_w_run_R16 S t x1 x2).2.2.2.2.2.2 = S.2.2.2 := (x_w_run_R16_P S t x1 x2 hI ht h5 hk ho hq hj).2
              have hN_j157_S : (x_w_run_j157_S S t x1 x2).2.2.2 = (x_w_run_R16 S t x1 x2).2.2.2.2.2.2 := x_w_run_j157_S_N S t x1 x2
              have hI_j157_S : XInv (x_w_run_j157_S S t x1 x2) := x_w_run_j157_S_I S t x1 x2 hI ht h5 hk ho hq hj
              have hI200 : XInv (x_w_letOff (x_w_run_j157_S S t x1 x2) t 0) := x_w_letOff_inv (x_w_run_j157_S S t x1 x2) t 0 (hI_j157_S) (ht) (by show ¬ (x_w_run_j157_S S t x1 x2).2.2.2 5 t = 0; rw [hN_j157_S, hMp]; exact h5) (by decide) (by show ¬ (x_w_run_j157_S S t x1 x2).2.2.2 4 (2 * t + (Int32.toNatClampNeg 0)) = 0; rw [hN_j157_S, hMp]; exact c21)
              exact hI200
      · have hI_j157_S : XInv (x_w_run_j157_S S t x1 x2) := x_w_run_j157_S_I S t x1 x2 hI ht h5 hk ho hq hj
        exact hI_j157_S
    · have hI_j157_S : XInv (x_w_run_j157_S S t x1 x2) := x_w_run_j157_S_I S t x1 x2 hI ht h5 hk ho hq hj
      exact hI_j157_S
set_option maxHeartbeats 4000000 in
theorem xt_w_run (l : Launch) (D : va_G) (d : Nat → ClassId) (A : Nat → Prop) (ad : XK → Nat) (S : XS) (t : Nat) (x1 : Int32) (x2 : Int32) (hI : XInv S) (ht : t < 4) (h5 : ¬ S.2.2.2 5 t = 0) (hk : 0 ≤ x1 ∧ x1 < 2) (ho : ¬ S.2.2.2 4 (2 * t + (Int32.toNatClampNeg x1)) = 0) : XI l yX6_run cX6_run 9 .int (rm_ 3) D d A ad S [.ref (ad (70, t)), .int x1, .int x2] (x_w_run S t x1 x2) := by
  refine x_startI RX6 rfl (by decide) (Nat.le_of_ble_eq_true rfl) ?_
  intro p e s m av below meth c ls Q X hrt hlk hl hR hQ
  have hx := X.1.1.1
  have hb := X.1.1.2.1
  have hown := X.1.1.2.2.2.1
  have hts := X.1.1.2.2.2.2
  have hS : va_S A s.heap s.heap [] := va_S.rf
  have hl : lv_has ls 9 [(0, .ref (ad (70, t))), (1, .int x1), (2, .int x2)] := hl
  have hq : 2 * t + (Int32.toNatClampNeg x1) < 8 := tp8 ht hk
  have hj : (S.2.2.2 4 (2 * t + (Int32.toNatClampNeg x1)) - 1) < S.2.2.2 7 0 := xi_own hI hq ho
  refine lv_aload_n hx hb dX6_run_0 rfl (lv_at hl 0 rfl) ?_
  refine xgwo X hR (x_lvw (ht) (h5)) (Or.inl q705) dX6_run_1 ?_
  refine lv_iload_n hx hb dX6_run_4 rfl (lv_at hl 1 rfl) ?_
  refine x_ldoE X hR (x_lvo (ht) (h5)) (ixl 2 2 (by decide) rfl (hk)) (n := S.2.2.2 4 (2 * t + (Int32.toNatClampNeg x1))) rfl (ho) dX6_run_5 ?_
  refine lv_astore_n (lv' := [(3, .ref (ad (40, (S.2.2.2 4 (2 * t + (Int32.toNatClampNeg x1)) - 1)))), (0, .ref (ad (70, t))), (1, .int x1), (2, .int x2)]) hx hb dX6_run_6 rfl hl (by decide) rfl (fun ls hl => ?_)
  refine lv_iconst (v := 0) hx hb dX6_run_7 (by decide) ?_
  refine lv_istore (lv' := [(4, .int 0), (3, .ref (ad (40, (S.2.2.2 4 (2 * t + (Int32.toNatClampNeg x1)) - 1)))), (0, .ref (ad (70, t))), (1, .int x1), (2, .int x2)]) hx hb dX6_run_8 hl (by decide) rfl (fun ls hl => ?_)
  refine lv_iconst (v := 0) hx hb dX6_run_10 (by decide) ?_
  refine lv_istore (lv' := [(5, .int 0), (4, .int 0), (3, .ref (ad (40, (S.2.2.2 4 (2 * t + (Int32.toNatClampNeg x1)) - 1)))), (0, .ref (ad (70, t))), (1, .int x1), (2, .int x2)]) hx hb dX6_run_11 hl (by decide) rfl (fun ls hl => ?_)
  refine lv_iconst (v := 0) hx hb dX6_run_13 (by decide) ?_
  refine lv_istore (lv' := [(6, .int 0), (5, .int 0), (4, .int 0), (3, .ref (ad (40, (S.2.2.2 4 (2 * t + (Int32.toNatClampNeg x1)) - 1)))), (0, .ref (ad (70, t))), (1, .int x1), (2, .int x2)]) hx hb dX6_run_14 hl (by decide) rfl (fun ls hl => ?_)
  have K16 : ∀ (H : Heap) (locs : List Loc) (ls : Array Slot), (XInv (x_w_run_R16 S t x1 x2).2.2.2) → ((x_w_run_R16 S t x1 x2).2.2.2.2.2.2 = S.2.2.2) → XR D d A ad (x_w_run_R16 S t x1 x2).2.2.2 H → va_S A s.heap H locs → lv_has ls 9 [(6, .int (x_w_run_R16 S t x1 x2).2.2.1), (5, .int (x_w_run_R16 S t x1 x2).2.1), (4, .int (x_w_run_R16 S t x1 x2).1), (3, .ref (ad (40, (S.2.2.2 4 (2 * t + (Int32.toNatClampNeg x1)) - 1)))), (0, .ref (ad (70, t))), (1, .int x1), (2, .int x2)] → W p l e (rm_ 3) s m av below meth c H locs 0 0 Q (F0 m 140 ls []) := by
    intro H locs ls hJp hMp hR hS hl
    refine lv_iload hx hb dX6_run_140 (lv_at hl 1 rfl) ?_
    have J16 : ∀ (w15 : XS) (H : Heap) (locs : List Loc) (ls : Array Slot), w15 = (x_w_run_j157_S S t x1 x2) → XR D d A ad w15 H → va_S A s.heap H locs → lv_has ls 9 [(6, .int (x_w_run_R16 S t x1 x2).2.2.1), (5, .int (x_w_run_R16 S t x1 x2).2.1), (4, .int (x_w_run_R16 S t x1 x2).1), (3, .ref (ad (40, (S.2.2.2 4 (2 * t + (Int32.toNatClampNeg x1)) - 1)))), (0, .ref (ad (70, t))), (1, .int x1), (2, .int x2)] → W p l e (rm_ 3) s m av below meth c H locs 0 0 Q (F0 m 157 ls []) := by
      intro w15 H locs ls ew15 hR hS hl
      subst ew15
      have hN_j157_S : (x_w_run_j157_S S t x1 x2).2.2.2 = (x_w_run_R16 S t x1 x2).2.2.2.2.2.2 := x_w_run_j157_S_N S t x1 x2
      have hI_j157_S : XInv (x_w_run_j157_S S t x1 x2) := x_w_run_j157_S_I S t x1 x2 hI ht h5 hk ho hq hj
      refine lv_iload hx hb dX6_run_157 (lv_at hl 2 rfl) ?_
      refine lv_if_le (tgt := 203) hx hb dX6_run_159 (by decide) (fun c17 => ?_) (fun c17 => ?_)
      · refine lv_iload hx hb dX6_run_203 (lv_at hl 2 rfl) ?_
        exact x_ri hx hb hrt (rfl) hlk hR hS hQ (if_pos c17) dX6_run_205
      · refine lv_aload_n hx hb dX6_run_162 rfl (lv_at hl 3 rfl) ?_
        refine xgt X hR (x_lvt (by show (S.2.2.2 4 (2 * t + (Int32.toNatClampNeg x1)) - 1) < (x_w_run_j157_S S t x1 x2).2.2.2 7 0; rw [hN_j157_S, hMp]; exact hj)) (xi_kd (X := (x_w_run_j157_S S t x1 x2)) hI_j157_S (by show (S.2.2.2 4 (2 * t + (Int32.toNatClampNeg x1)) - 1) < (x_w_run_j157_S S t x1 x2).2.2.2 7 0; rw [hN_j157_S, hMp]; exact hj)) 5 (by decide) q373 (Or.inl rfl) rfl dX6_run_163 ?_
        refine lv_if_ne (tgt := 203) hx hb dX6_run_166 (by decide) (fun c18 => ?_) (fun c18 => ?_)
        · refine lv_iload hx hb dX6_run_203 (lv_at hl 2 rfl) ?_
          exact x_ri hx hb hrt (rfl) hlk hR hS hQ (Eq.trans (if_neg c17) (if_neg c18)) dX6_run_205
        · refine lv_iload_n hx hb dX6_run_169 rfl (lv_at hl 5 rfl) ?_
          refine lv_iconst (v := 1) hx hb dX6_run_170 (by decide) ?_
          refine lv_icmp_ne (tgt := 203) hx hb dX6_run_171 (by decide) (fun c19 => ?_) (fun c19 => ?_)
          · refine lv_iload hx hb dX6_run_203 (lv_at hl 2 rfl) ?_
            exact x_ri hx hb hrt (rfl) hlk hR hS hQ (Eq.trans (if_neg c17) (Eq.trans (if_pos c18) (if_neg c19))) dX6_run_205
          · refine lv_aload_n hx hb dX6_run_174 rfl (lv_at hl 3 rfl) ?_
            refine xgt X hR (x_lvt (by show (S.2.2.2 4 (2 * t + (Int32.toNatClampNeg x1)) - 1) < (x_w_run_j157_S S t x1 x2).2.2.2 7 0; rw [hN_j157_S, hMp]; exact hj)) (xi_kd (X := (x_w_run_j157_S S t x1 x2)) hI_j157_S (by show (S.2.2.2 4 (2 * t + (Int32.toNatClampNeg x1)) - 1) < (x_w_run_j157_S S t x1 x2).2.2.2 7 0; rw [hN_j157_S, hMp]; exact hj)) 9 (by decide) q386 (Or.inl rfl) rfl dX6_run_175 ?_
            refine lv_if_eq (tgt := 203) hx hb dX6_run_178 (by decide) (fun c20 => ?_) (fun c20 => ?_)
            · refine lv_iload hx hb dX6_run_203 (lv_at hl 2 rfl) ?_
              exact x_ri hx hb hrt (rfl) hlk hR hS hQ (Eq.trans (if_neg c17) (Eq.trans (if_pos c18) (Eq.trans (if_pos c19) (if_pos c20)))) dX6_run_205
            · refine lv_aload_n hx hb dX6_run_181 rfl (lv_at hl 4 rfl) ?_
              refine xgwo X hR (x_lvw (ht) (by show ¬ (x_w_run_j157_S S t x1 x2).2.2.2 5 t = 0; rw [hN_j157_S, hMp]; exact h5)) (Or.inl q705) dX6_run_182 ?_
              refine lv_iconst (v := 0) hx hb dX6_run_185 (by decide) ?_
              refine x_ldoBE X hR (x_lvo (ht) (by show ¬ (x_w_run_j157_S S t x1 x2).2.2.2 5 t = 0; rw [hN_j157_S, hMp]; exact h5)) (ixl 2 2 (by decide) rfl (by decide)) (n := S.2.2.2 4 (2 * t + (Int32.toNatClampNeg 0))) (congrFun (congrFun (hN_j157_S.trans hMp) 4) _) dX6_run_186 (fun c21 => ?_) (fun c21 => ?_)
              · refine lv_ifnullN (tgt := 203) hx hb dX6_run_187 (by decide) ?_
                refine lv_iload hx hb dX6_run_203 (lv_at hl 2 rfl) ?_
                exact x_ri hx hb hrt (rfl) hlk hR hS hQ (Eq.trans (if_neg c17) (Eq.trans (if_pos c18) (Eq.trans (if_pos c19) (Eq.trans (if_neg c20) (if_pos c21))))) dX6_run_205
              · refine lv_ifnull hx hb dX6_run_187 ?_
                refine lv_aload_n hx hb dX6_run_190 rfl (lv_at hl 4 rfl) ?_
                refine x_bi hS (xr_V X hR (x_lvw (ht) (by show ¬ (x_w_run_j157_S S t x1 x2).2.2.2 5 t = 0; rw [hN_j157_S, hMp]; exact h5)) (ci := 6) (fs := x_tw ad (x_w_run_j157_S S t x1 x2) t) rfl rfl (xt_w_silence l D d A ad (x_w_run_j157_S S t x1 x2) t (hI_j157_S) (ht) (by show ¬ (x_w_run_j157_S S t x1 x2).2.2.2 5 t = 0; rw [hN_j157_S, hMp]; exact h5)) 0 (lw_V q782 q783 q784 q77 q785) ⟨rfl, rfl⟩ (by decide +kernel) ⟨by decide, by decide⟩ ⟨by decide, by decide⟩ rfl hl.1 rfl (Nat.le_of_ble_eq_true rfl) dX6_run_191) (fun H locs hR hS => ?_)
                refine lv_iconst (v := 2) hx hb dX6_run_194 (by decide) ?_
                refine lv_icmp_eq (tgt := 203) hx hb dX6_run_195 (by decide) (fun c22 => ?_) (fun c22 => ?_)
                · refine lv_iload hx hb dX6_run_203 (lv_at hl 2 rfl) ?_
                  exact x_ri hx hb hrt (rfl) hlk hR hS hQ (Eq.trans (if_neg c17) (Eq.trans (if_pos c18) (Eq.trans (if_pos c19) (Eq.trans (if_neg c20) (Eq.trans (if_neg c21) (if_pos c22)))))) dX6_run_205
                · refine lv_aload_n hx hb dX6_run_198 rfl (lv_at hl 4 rfl) ?_
                  refine lv_iconst (v := 0) hx hb dX6_run_199 (by decide) ?_
                  refine x_bv hS (xr_V X hR (x_lvw (ht) (by show ¬ (x_w_run_j157_S S t x1 x2).2.2.2 5 t = 0; rw [hN_j157_S, hMp]; exact h5)) (ci := 6) (fs := x_tw ad (x_w_run_j157_S S t x1 x2) t) rfl rfl (xt_w_letOff l D d A ad (x_w_run_j157_S S t x1 x2) t 0 (hI_j157_S) (ht) (by show ¬ (x_w_run_j157_S S t x1 x2).2.2.2 5 t = 0; rw [hN_j157_S, hMp]; exact h5) (by decide) (by show ¬ (x_w_run_j157_S S t x1 x2).2.2.2 4 (2 * t + (Int32.toNatClampNeg 0)) = 0; rw [hN_j157_S, hMp]; exact c21)) 1 (lw_V q787 q788 q789 q77 q790) ⟨rfl, rfl⟩ (by decide +kernel) ⟨by decide, by decide⟩ ⟨by decide, by decide⟩ rfl hl.1 rfl (Nat.le_of_ble_eq_true rfl) dX6_run_200) (fun H locs hR hS => ?_)
                  have hN200 : (x_w_letOff (x_w_run_j157_S S t x1 x2) t 0).2.2.2 = (x_w_run_j157_S S t x1 x2).2.2.2 := x_w_letOff_N (x_w_run_j157_S S t x1 x2) t 0
                  have hI200 : XInv (x_w_letOff (x_w_run_j157_S S t x1 x2) t 0) := x_w_letOff_inv (x_w_run_j157_S S t x1 x2) t 0 (hI_j157_S) (ht) (by show ¬ (x_w_run_j157_S S t x1 x2).2.2.2 5 t = 0; rw [hN_j157_S, hMp]; exact h5) (by decide) (by show ¬ (x_w_run_j157_S S t x1 x2).2.2.2 4 (2 * t + (Int32.toNatClampNeg 0)) = 0; rw [hN_j157_S, hMp]; exact c21)
                  refine lv_iload hx hb dX6_run_203 (lv_at hl 2 rfl) ?_
                  exact x_ri hx hb hrt (rfl) hlk hR hS hQ (Eq.trans (if_neg c17) (Eq.trans (if_pos c18) (Eq.trans (if_pos c19) (Eq.trans (if_neg c20) (Eq.trans (if_neg c21) (if_neg c22)))))) dX6_run_205
    refine lv_if_le (tgt := 157) hx hb dX6_run_142 (by decide) (fun c14 => ?_) (fun c14 => ?_)
    · exact J16 _ _ _  _ (Eq.symm (if_pos c14)) hR hS  (lv_sub hl [0, 1, 2, 3, 4, 5, 6] rfl)
    · refine lv_aload_n hx hb dX6_run_145 rfl (lv_at hl 4 rfl) ?_
      refine lv_aload_n hx hb dX6_run_146 rfl (lv_at hl 3 rfl) ?_
      refine xgt X hR (x_lvt (by show (S.2.2.2 4 (2 * t + (Int32.toNatClampNeg x1)) - 1) < (x_w_run_R16 S t x1 x2).2.2.2.2.2.2 7 0; rw [hMp]; exact hj)) (xi_kd (X := (x_w_run_R16 S t x1 x2).2.2.2) hJp (by show (S.2.2.2 4 (2 * t + (Int32.toNatClampNeg x1)) - 1) < (x_w_run_R16 S t x1 x2).2.2.2.2.2.2 7 0; rw [hMp]; exact hj)) 0 (by decide) q356 (Or.inl rfl) rfl dX6_run_147 ?_
      refine lv_iload hx hb dX6_run_150 (lv_at hl 1 rfl) ?_
      refine lv_iload hx hb dX6_run_152 (lv_at hl 0 rfl) ?_
      refine x_bv hS (xr_V X hR (x_lvw (ht) (by show ¬ (x_w_run_R16 S t x1 x2).2.2.2.2.2.2 5 t = 0; rw [hMp]; exact h5)) (ci := 6) (fs := x_tw ad (x_w_run_R16 S t x1 x2).2.2.2 t) rfl rfl (xt_w_enter l D d A ad (x_w_run_R16 S t x1 x2).2.2.2 t ((x_w_run_R16 S t x1 x2).2.2.2.1 40 (S.2.2.2 4 (2 * t + (Int32.toNatClampNeg x1)) - 1)) (x_w_run_R16 S t x1 x2).2.1 (x_w_run_R16 S t x1 x2).2.2.1 (hJp) (ht) (by show ¬ (x_w_run_R16 S t x1 x2).2.2.2.2.2.2 5 t = 0; rw [hMp]; exact h5)) 3 (lw_V q884 q886 qs10 q77 q887) ⟨rfl, rfl⟩ (by decide +kernel) ⟨by decide, by decide⟩ ⟨by decide, by decide⟩ rfl hl.1 rfl (Nat.le_of_ble_eq_true rfl) dX6_run_154) (fun H locs hR hS => ?_)
      have hN154 : (x_w_enter (x_w_run_R16 S t x1 x2).2.2.2 t ((x_w_run_R16 S t x1 x2).2.2.2.1 40 (S.2.2.2 4 (2 * t + (Int32.toNatClampNeg x1)) - 1)) (x_w_run_R16 S t x1 x2).2.1 (x_w_run_R16 S t x1 x2).2.2.1).2.2.2 = (x_w_run_R16 S t x1 x2).2.2.2.2.2.2 := x_w_enter_N (x_w_run_R16 S t x1 x2).2.2.2 t ((x_w_run_R16 S t x1 x2).2.2.2.1 40 (S.2.2.2 4 (2 * t + (Int32.toNatClampNeg x1)) - 1)) (x_w_run_R16 S t x1 x2).2.1 (x_w_run_R16 S t x1 x2).2.2.1
      have hI154 : XInv (x_w_enter (x_w_run_R16 S t x1 x2).2.2.2 t ((x_w_run_R16 S t x1 x2).2.2.2.1 40 (S.2.2.2 4 (2 * t + (Int32.toNatClampNeg x1)) - 1)) (x_w_run_R16 S t x1 x2).2.1 (x_w_run_R16 S t x1 x2).2.2.1) := x_w_enter_inv (x_w_run_R16 S t x1 x2).2.2.2 t ((x_w_run_R16 S t x1 x2).2.2.2.1 40 (S.2.2.2 4 (2 * t + (Int32.toNatClampNeg x1)) - 1)) (x_w_run_R16 S t x1 x2).2.1 (x_w_run_R16 S t x1 x2).2.2.1 (hJp) (ht) (by show ¬ (x_w_run_R16 S t x1 x2).2.2.2.2.2.2 5 t = 0; rw [hMp]; exact h5)
      exact J16 _ _ _  _ (Eq.symm (if_neg c14)) hR hS  (lv_sub hl [0, 1, 2, 3, 4, 5, 6] rfl)
  have L16 : ∀ (f16 : Nat) (y4_16 : Int32) (y5_16 : Int32) (y6_16 : Int32) (S_16 : XS) (H : Heap) (locs : List Loc) (ls : Array Slot), (x2 - y4_16 : Int32).toNatClampNeg < f16 → 0 ≤ y4_16 → XInv S_16 → S_16.2.2.2 = S.2.2.2 → x_w_run_L16 S t x1 x2 (f16) y4_16 y5_16 y6_16 S_16 = (x_w_run_R16 S t x1 x2) → XR D d A ad S_16 H → va_S A s.heap H locs → lv_has ls 9 [(6, .int y6_16), (5, .int y5_16), (4, .int y4_16), (3, .ref (ad (40, (S.2.2.2 4 (2 * t + (Int32.toNatClampNeg x1)) - 1)))), (0, .ref (ad (70, t))), (1, .int x1), (2, .int x2)] → W p l e (rm_ 3) s m av below meth c H locs 0 0 Q (F0 m 16 ls []) := by
    intro f16
    induction f16 with
    | zero => intro y4_16 y5_16 y6_16 S_16 H locs ls hf; exact absurd hf (Nat.not_lt_zero _)
    | succ f16 ih =>
      intro y4_16 y5_16 y6_16 S_16 H locs ls hf hi4 hJ hM hE hR hS hl
      refine lv_iload hx hb dX6_run_16 (lv_at hl 2 rfl) ?_
      refine lv_iload_n hx hb dX6_run_18 rfl (lv_at hl 6 rfl) ?_
      refine lv_icmp_ge (tgt := 140) hx hb dX6_run_19 (by decide) (fun c1 => ?_) (fun c1 => ?_)
      · have e0 : (x_w_run_R16 S t x1 x2) = (y4_16, y5_16, y6_16, S_16) := Eq.trans (Eq.symm hE) (Eq.trans (x_w_run_L16_s _ _ _ _ _ _ _ _ _) (if_pos c1))
        exact K16 _ _ _ ((by rw [e0]; exact hJ)) ((by rw [e0]; exact hM)) (by rw [e0]; exact hR) hS (by rw [e0]; exact lv_sub hl [0, 1, 2, 3, 4, 5, 6] rfl)
      · refine lv_aload_n hx hb dX6_run_22 rfl (lv_at hl 3 rfl) ?_
        refine xgt X hR (x_lvt (by show (S.2.2.2 4 (2 * t + (Int32.toNatClampNeg x1)) - 1) < S_16.2.2.2 7 0; rw [hM]; exact hj)) (xi_kd (X := S_16) hJ (by show (S.2.2.2 4 (2 * t + (Int32.toNatClampNeg x1)) - 1) < S_16.2.2.2 7 0; rw [hM]; exact hj)) 5 (by decide) q373 (Or.inl rfl) rfl dX6_run_23 ?_
        refine lv_if_le (tgt := 140) hx hb dX6_run_26 (by decide) (fun c2 => ?_) (fun c2 => ?_)
        · have e0 : (x_w_run_R16 S t x1 x2) = (y4_16, y5_16, y6_16, S_16) := Eq.trans (Eq.symm hE) (Eq.trans (x_w_run_L16_s _ _ _ _ _ _ _ _ _) (Eq.trans (if_neg c1) (if_pos c2)))
          exact K16 _ _ _ ((by rw [e0]; exact hJ)) ((by rw [e0]; exact hM)) (by rw [e0]; exact hR) hS (by rw [e0]; exact lv_sub hl [0, 1, 2, 3, 4, 5, 6] rfl)
        · refine lv_aload_n hx hb dX6_run_29 rfl (lv_at hl 3 rfl) ?_
          refine xgt X hR (x_lvt (by show (S.2.2.2 4 (2 * t + (Int32.toNatClampNeg x1)) - 1) < S_16.2.2.2 7 0; rw [hM]; exact hj)) (xi_kd (X := S_16) hJ (by show (S.2.2.2 4 (2 * t + (Int32.toNatClampNeg x1)) - 1) < S_16.2.2.2 7 0; rw [hM]; exact hj)) 3 (by decide) q364 (Or.inl rfl) rfl dX6_run_30 ?_
          refine lv_if_le (tgt := 140) hx hb dX6_run_33 (by decide) (fun c3 => ?_) (fun c3 => ?_)
          · have e0 : (x_w_run_R16 S t x1 x2) = (y4_16, y5_16, y6_16, S_16) := Eq.trans (Eq.symm hE) (Eq.trans (x_w_run_L16_s _ _ _ _ _ _ _ _ _) (Eq.trans (if_neg c1) (Eq.trans (if_neg c2) (if_pos c3))))
            exact K16 _ _ _ ((by rw [e0]; exact hJ)) ((by rw [e0]; exact hM)) (by rw [e0]; exact hR) hS (by rw [e0]; exact lv_sub hl [0, 1, 2, 3, 4, 5, 6] rfl)
          · refine lv_aload_n hx hb dX6_run_36 rfl (lv_at hl 3 rfl) ?_
            refine lv_astore (lv' := [(7, .ref (ad (40, (S.2.2.2 4 (2 * t + (Int32.toNatClampNeg x1)) - 1)))), (6, .int y6_16), (5, .int y5_16), (4, .int y4_16), (3, .ref (ad (40, (S.2.2.2 4 (2 * t + (Int32.toNatClampNeg x1)) - 1)))), (0, .ref (ad (70, t))), (1, .int x1), (2, .int x2)]) hx hb dX6_run_37 hl (by decide) rfl (fun ls hl => ?_)
            refine lv_aload hx hb dX6_run_39 (lv_at hl 0 rfl) ?_
            refine vi_hammers X hR hS (hJ) (by show (S.2.2.2 4 (2 * t + (Int32.toNatClampNeg x1)) - 1) < S_16.2.2.2 7 0; rw [hM]; exact hj) q851 hl.1 ⟨by decide, by decide⟩ ⟨by decide, by decide⟩ (Nat.le_of_ble_eq_true rfl) dX6_run_41 (fun H locs hR hS => ?_)
            refine lv_aload_n hx hb dX6_run_46 rfl (lv_at hl 4 rfl) ?_
            refine xgt X hR (x_lvt (by show (S.2.2.2 4 (2 * t + (Int32.toNatClampNeg x1)) - 1) < S_16.2.2.2 7 0; rw [hM]; exact hj)) (xi_kd (X := S_16) hJ (by show (S.2.2.2 4 (2 * t + (Int32.toNatClampNeg x1)) - 1) < S_16.2.2.2 7 0; rw [hM]; exact hj)) 4 (by decide) q366 (Or.inl rfl) rfl dX6_run_47 ?_
            refine lv_iconst (v := (-1)) hx hb dX6_run_50 (by decide) ?_
            refine lv_ixor hx hb dX6_run_51 ?_
            refine lv_iand hx hb dX6_run_52 ?_
            refine lv_istore (lv' := [(8, .int (x_w_run_v53 S t x1 S_16)), (7, .ref (ad (40, (S.2.2.2 4 (2 * t + (Int32.toNatClampNeg x1)) - 1)))), (6, .int y6_16), (5, .int y5_16), (4, .int y4_16), (3, .ref (ad (40, (S.2.2.2 4 (2 * t + (Int32.toNatClampNeg x1)) - 1)))), (0, .ref (ad (70, t))), (1, .int x1), (2, .int x2)]) hx hb dX6_run_53 hl (by decide) rfl (fun ls hl => ?_)
            refine lv_aload hx hb dX6_run_55 (lv_at hl 1 rfl) ?_
            refine vi_struck X hR hS (hJ) (by show (S.2.2.2 4 (2 * t + (Int32.toNatClampNeg x1)) - 1) < S_16.2.2.2 7 0; rw [hM]; exact hj) q870 hl.1 ⟨by decide, by decide⟩ ⟨by decide, by decide⟩ (Nat.le_of_ble_eq_true rfl) dX6_run_57 (fun H locs hR hS => ?_)
            have hN57 : (xv_struck S_16 (S.2.2.2 4 (2 * t + (Int32.toNatClampNeg x1)) - 1)).2.2.2 = S_16.2.2.2 := xv_struck_N S_16 (S.2.2.2 4 (2 * t + (Int32.toNatClampNeg x1)) - 1)
            have hI57 : XInv (xv_struck S_16 (S.2.2.2 4 (2 * t + (Int32.toNatClampNeg x1)) - 1)) := xv_struck_inv S_16 (S.2.2.2 4 (2 * t + (Int32.toNatClampNeg x1)) - 1) (hJ) (by show (S.2.2.2 4 (2 * t + (Int32.toNatClampNeg x1)) - 1) < S_16.2.2.2 7 0; rw [hM]; exact hj)
            have hw : 0 < (xv_struck S_16 (S.2.2.2 4 (2 * t + (Int32.toNatClampNeg x1)) - 1)).1 43 (S.2.2.2 4 (2 * t + (Int32.toNatClampNeg x1)) - 1) ∧ (xv_struck S_16 (S.2.2.2 4 (2 * t + (Int32.toNatClampNeg x1)) - 1)).1 43 (S.2.2.2 4 (2 * t + (Int32.toNatClampNeg x1)) - 1) ≤ 100000 := by rw [xv_struck_k _ _ (by decide)]; exact ⟨Int32.not_le.mp (by assumption), (xi_we hJ (by rw [hM]; exact hj)).1.2⟩
            refine lv_aload_n hx hb dX6_run_62 rfl (lv_at hl 5 rfl) ?_
            refine lv_dup hx hb dX6_run_63 rfl ?_
            refine xgt X hR (x_lvt (by show (S.2.2.2 4 (2 * t + (Int32.toNatClampNeg x1)) - 1) < (xv_struck S_16 (S.2.2.2 4 (2 * t + (Int32.toNatClampNeg x1)) - 1)).2.2.2 7 0; rw [hN57, hM]; exact hj)) (xi_kd (X := (xv_struck S_16 (S.2.2.2 4 (2 * t + (Int32.toNatClampNeg x1)) - 1))) hI57 (by show (S.2.2.2 4 (2 * t + (Int32.toNatClampNeg x1)) - 1) < (xv_struck S_16 (S.2.2.2 4 (2 * t + (Int32.toNatClampNeg x1)) - 1)).2.2.2 7 0; rw [hN57, hM]; exact hj)) 3 (by decide) q364 (Or.inl rfl) rfl dX6_run_64 ?_
            refine lv_iconst (v := 1) hx hb dX6_run_67 (by decide) ?_
            refine lv_isub hx hb dX6_run_68 ?_
            refine xpt X hR hS (x_lvt (by show (S.2.2.2 4 (2 * t + (Int32.toNatClampNeg x1)) - 1) < (xv_struck S_16 (S.2.2.2 4 (2 * t + (Int32.toNatClampNeg x1)) - 1)).2.2.2 7 0; rw [hN57, hM]; exact hj)) (xi_kd (X := (xv_struck S_16 (S.2.2.2 4 (2 * t + (Int32.toNatClampNeg x1)) - 1))) hI57 (by show (S.2.2.2 4 (2 * t + (Int32.toNatClampNeg x1)) - 1) < (xv_struck S_16 (S.2.2.2 4 (2 * t + (Int32.toNatClampNeg x1)) - 1)).2.2.2 7 0; rw [hN57, hM]; exact hj)) 3 (by decide) rfl q364 (Or.inl rfl) rfl dX6_run_69 (fun H locs hR hS => ?_)
            refine lv_aload_n hx hb dX6_run_72 rfl (lv_at hl 5 rfl) ?_
            refine lv_dup hx hb dX6_run_73 rfl ?_
            refine xgt X hR (x_lvt (by show (S.2.2.2 4 (2 * t + (Int32.toNatClampNeg x1)) - 1) < (xv_struck S_16 (S.2.2.2 4 (2 * t + (Int32.toNatClampNeg x1)) - 1)).2.2.2 7 0; rw [hN57, hM]; exact hj)) (xi_kd (X := (xv_struck S_16 (S.2.2.2 4 (2 * t + (Int32.toNatClampNeg x1)) - 1))) hI57 (by show (S.2.2.2 4 (2 * t + (Int32.toNatClampNeg x1)) - 1) < (xv_struck S_16 (S.2.2.2 4 (2 * t + (Int32.toNatClampNeg x1)) - 1)).2.2.2 7 0; rw [hN57, hM]; exact hj)) 5 (by decide) q373 (Or.inl rfl) ((xu_k _ (by decide) _ _ _).trans rfl) dX6_run_74 ?_
            refine lv_iconst (v := 1) hx hb dX6_run_77 (by decide) ?_
            refine lv_isub hx hb dX6_run_78 ?_
            refine xpt X hR hS (x_lvt (by show (S.2.2.2 4 (2 * t + (Int32.toNatClampNeg x1)) - 1) < (xv_struck S_16 (S.2.2.2 4 (2 * t + (Int32.toNatClampNeg x1)) - 1)).2.2.2 7 0; rw [hN57, hM]; exact hj)) (xi_kd (X := (xv_struck S_16 (S.2.2.2 4 (2 * t + (Int32.toNatClampNeg x1)) - 1))) hI57 (by show (S.2.2.2 4 (2 * t + (Int32.toNatClampNeg x1)) - 1) < (xv_struck S_16 (S.2.2.2 4 (2 * t + (Int32.toNatClampNeg x1)) - 1)).2.2.2 7 0; rw [hN57, hM]; exact hj)) 5 (by decide) rfl q373 (Or.inl rfl) rfl dX6_run_79 (fun H locs hR hS => ?_)
            refine lv_aload_n hx hb dX6_run_82 rfl (lv_at hl 5 rfl) ?_
            refine lv_dup hx hb dX6_run_83 rfl ?_
            refine xgt X hR (x_lvt (by show (S.2.2.2 4 (2 * t + (Int32.toNatClampNeg x1)) - 1) < (xv_struck S_16 (S.2.2.2 4 (2 * t + (Int32.toNatClampNeg x1)) - 1)).2.2.2 7 0; rw [hN57, hM]; exact hj)) (xi_kd (X := (xv_struck S_16 (S.2.2.2 4 (2 * t + (Int32.toNatClampNeg x1)) - 1))) hI57 (by show (S.2.2.2 4 (2 * t + (Int32.toNatClampNeg x1)) - 1) < (xv_struck S_16 (S.2.2.2 4 (2 * t + (Int32.toNatClampNeg x1)) - 1)).2.2.2 7 0; rw [hN57, hM]; exact hj)) 6 (by decide) q375 (Or.inl rfl) ((xu_k _ (by decide) _ _ _).trans ((xu_k _ (by decide) _ _ _).trans rfl)) dX6_run_84 ?_
            refine lv_iconst (v := 1) hx hb dX6_run_87 (by decide) ?_
            refine lv_iadd hx hb dX6_run_88 ?_
            refine xpt X hR hS (x_lvt (by show (S.2.2.2 4 (2 * t + (Int32.toNatClampNeg x1)) - 1) < (xv_struck S_16 (S.2.2.2 4 (2 * t + (Int32.toNatClampNeg x1)) - 1)).2.2.2 7 0; rw [hN57, hM]; exact hj)) (xi_kd (X := (xv_struck S_16 (S.2.2.2 4 (2 * t + (Int32.toNatClampNeg x1)) - 1))) hI57 (by show (S.2.2.2 4 (2 * t + (Int32.toNatClampNeg x1)) - 1) < (xv_struck S_16 (S.2.2.2 4 (2 * t + (Int32.toNatClampNeg x1)) - 1)).2.2.2 7 0; rw [hN57, hM]; exact hj)) 6 (by decide) rfl q375 (Or.inl rfl) rfl dX6_run_89 (fun H locs hR hS => ?_)
            refine lv_iinc (v := (y4_16 + 1)) (lv' := [(4, .int (y4_16 + 1)), (8, .int (x_w_run_v53 S t x1 S_16)), (7, .ref (ad (40, (S.2.2.2 4 (2 * t + (Int32.toNatClampNeg x1)) - 1)))), (6, .int y6_16), (5, .int y5_16), (3, .ref (ad (40, (S.2.2.2 4 (2 * t + (Int32.toNatClampNeg x1)) - 1)))), (0, .ref (ad (70, t))), (1, .int x1), (2, .int x2)]) hx hb dX6_run_92 hl (k := 4) rfl rfl (by decide) rfl (fun ls hl => ?_)
            refine lv_iload hx hb dX6_run_95 (lv_at hl 4 rfl) ?_
            refine lv_iload hx hb dX6_run_97 (lv_at hl 1 rfl) ?_
            have J8 : ∀ (w7 : Int32) (H : Heap) (locs : List Loc) (ls : Array Slot), w7 = (x_w_run_j115_s0 S t x1 S_16) → XR D d A ad (xu (xu (xu (xv_struck S_16 (S.2.2.2 4 (2 * t + (Int32.toNatClampNeg x1)) - 1)) 43 (S.2.2.2 4 (2 * t + (Int32.toNatClampNeg x1)) - 1) (((xv_struck S_16 (S.2.2.2 4 (2 * t + (Int32.toNatClampNeg x1)) - 1)).1 43 (S.2.2.2 4 (2 * t + (Int32.toNatClampNeg x1)) - 1)) - 1)) 45 (S.2.2.2 4 (2 * t + (Int32.toNatClampNeg x1)) - 1) (((xv_struck S_16 (S.2.2.2 4 (2 * t + (Int32.toNatClampNeg x1)) - 1)).1 45 (S.2.2.2 4 (2 * t + (Int32.toNatClampNeg x1)) - 1)) - 1)) 46 (S.2.2.2 4 (2 * t + (Int32.toNatClampNeg x1)) - 1) (((xv_struck S_16 (S.2.2.2 4 (2 * t + (Int32.toNatClampNeg x1)) - 1)).1 46 (S.2.2.2 4 (2 * t + (Int32.toNatClampNeg x1)) - 1)) + 1)) H → va_S A s.heap H locs → lv_has ls 9 [(4, .int (y4_16 + 1)), (8, .int (x_w_run_v53 S t x1 S_16)), (7, .ref (ad (40, (S.2.2.2 4 (2 * t + (Int32.toNatClampNeg x1)) - 1)))), (6, .int y6_16), (5, .int y5_16), (3, .ref (ad (40, (S.2.2.2 4 (2 * t + (Int32.toNatClampNeg x1)) - 1)))), (0, .ref (ad (70, t))), (1, .int x1), (2, .int x2)] → W p l e (rm_ 3) s m av below meth c H locs 0 0 Q (F0 m 115 ls [.int w7, .int y5_16]) := by
              intro w7 H locs ls ew7 hR hS hl
              subst ew7
              refine lv_iadd hx hb dX6_run_115 ?_
              refine lv_istore (lv' := [(5, .int (x_w_run_v116 S t x1 y5_16 S_16)), (4, .int (y4_16 + 1)), (8, .int (x_w_run_v53 S t x1 S_16)), (7, .ref (ad (40, (S.2.2.2 4 (2 * t + (Int32.toNatClampNeg x1)) - 1)))), (6, .int y6_16), (3, .ref (ad (40, (S.2.2.2 4 (2 * t + (Int32.toNatClampNeg x1)) - 1)))), (0, .ref (ad (70, t))), (1, .int x1), (2, .int x2)]) hx hb dX6_run_116 hl (by decide) rfl (fun ls hl => ?_)
              refine lv_iload hx hb dX6_run_118 (lv_at hl 4 rfl) ?_
              refine lv_aload_n hx hb dX6_run_120 rfl (lv_at hl 6 rfl) ?_
              refine x_bi hS (xr_V X hR (x_lvw (ht) (by show ¬ (xv_struck S_16 (S.2.2.2 4 (2 * t + (Int32.toNatClampNeg x1)) - 1)).2.2.2 5 t = 0; rw [hN57, hM]; exact h5)) (ci := 6) (fs := x_tw ad (xu (xu (xu (xv_struck S_16 (S.2.2.2 4 (2 * t + (Int32.toNatClampNeg x1)) - 1)) 43 (S.2.2.2 4 (2 * t + (Int32.toNatClampNeg x1)) - 1) (((xv_struck S_16 (S.2.2.2 4 (2 * t + (Int32.toNatClampNeg x1)) - 1)).1 43 (S.2.2.2 4 (2 * t + (Int32.toNatClampNeg x1)) - 1)) - 1)) 45 (S.2.2.2 4 (2 * t + (Int32.toNatClampNeg x1)) - 1) (((xv_struck S_16 (S.2.2.2 4 (2 * t + (Int32.toNatClampNeg x1)) - 1)).1 45 (S.2.2.2 4 (2 * t + (Int32.toNatClampNeg x1)) - 1)) - 1)) 46 (S.2.2.2 4 (2 * t + (Int32.toNatClampNeg x1)) - 1) (((xv_struck S_16 (S.2.2.2 4 (2 * t + (Int32.toNatClampNeg x1)) - 1)).1 46 (S.2.2.2 4 (2 * t + (Int32.toNatClampNeg x1)) - 1)) + 1)) t) rfl rfl (xt_w_silence l D d A ad (xu (xu (xu (xv_struck S_16 (S.2.2.2 4 (2 * t + (Int32.toNatClampNeg x1)) - 1)) 43 (S.2.2.2 4 (2 * t + (Int32.toNatClampNeg x1)) - 1) (((xv_struck S_16 (S.2.2.2 4 (2 * t + (Int32.toNatClampNeg x1)) - 1)).1 43 (S.2.2.2 4 (2 * t + (Int32.toNatClampNeg x1)) - 1)) - 1)) 45 (S.2.2.2 4 (2 * t + (Int32.toNatClampNeg x1)) - 1) (((xv_struck S_16 (S.2.2.2 4 (2 * t + (Int32.toNatClampNeg x1)) - 1)).1 45 (S.2.2.2 4 (2 * t + (Int32.toNatClampNeg x1)) - 1)) - 1)) 46 (S.2.2.2 4 (2 * t + (Int32.toNatClampNeg x1)) - 1) (((xv_struck S_16 (S.2.2.2 4 (2 * t + (Int32.toNatClampNeg x1)) - 1)).1 46 (S.2.2.2 4 (2 * t + (Int32.toNatClampNeg x1)) - 1)) + 1)) t ((XInv_xu (XInv_xu (XInv_43 hI57 _ _ (x_w_run_o9 S t x1 x2 y4_16 S_16 hI ht h5 hk ho hq hj hi4 hJ hM c1 c2 c3 hN57 hI57 hw)) _ _ _ (by decide)) _ _ _ (by decide))) (ht) (by show ¬ (xv_struck S_16 (S.2.2.2 4 (2 * t + (Int32.toNatClampNeg x1)) - 1)).2.2.2 5 t = 0; rw [hN57, hM]; exact h5)) 0 (lw_V q782 q783 q784 q77 q785) ⟨rfl, rfl⟩ (by decide +kernel) ⟨by decide, by decide⟩ ⟨by decide, by decide⟩ rfl hl.1 rfl (Nat.le_of_ble_eq_true rfl) dX6_run_121) (fun H locs hR hS => ?_)
              refine lv_iconst (v := 1) hx hb dX6_run_124 (by decide) ?_
              have J12 : ∀ (w11 : Int32) (H : Heap) (locs : List Loc) (ls : Array Slot), w11 = (x_w_run_j134_s0 S t x1 S_16) → XR D d A ad (xu (xu (xu (xv_struck S_16 (S.2.2.2 4 (2 * t + (Int32.toNatClampNeg x1)) - 1)) 43 (S.2.2.2 4 (2 * t + (Int32.toNatClampNeg x1)) - 1) (((xv_struck S_16 (S.2.2.2 4 (2 * t + (Int32.toNatClampNeg x1)) - 1)).1 43 (S.2.2.2 4 (2 * t + (Int32.toNatClampNeg x1)) - 1)) - 1)) 45 (S.2.2.2 4 (2 * t + (Int32.toNatClampNeg x1)) - 1) (((xv_struck S_16 (S.2.2.2 4 (2 * t + (Int32.toNatClampNeg x1)) - 1)).1 45 (S.2.2.2 4 (2 * t + (Int32.toNatClampNeg x1)) - 1)) - 1)) 46 (S.2.2.2 4 (2 * t + (Int32.toNatClampNeg x1)) - 1) (((xv_struck S_16 (S.2.2.2 4 (2 * t + (Int32.toNatClampNeg x1)) - 1)).1 46 (S.2.2.2 4 (2 * t + (Int32.toNatClampNeg x1)) - 1)) + 1)) H → va_S A s.heap H locs → lv_has ls 9 [(5, .int (x_w_run_v116 S t x1 y5_16 S_16)), (4, .int (y4_16 + 1)), (8, .int (x_w_run_v53 S t x1 S_16)), (7, .ref (ad (40, (S.2.2.2 4 (2 * t + (Int32.toNatClampNeg x1)) - 1)))), (6, .int y6_16), (3, .ref (ad (40, (S.2.2.2 4 (2 * t + (Int32.toNatClampNeg x1)) - 1)))), (0, .ref (ad (70, t))), (1, .int x1), (2, .int x2)] → W p l e (rm_ 3) s m av below meth c H locs 0 0 Q (F0 m 134 ls [.int w11, .int y6_16]) := by
                intro w11 H locs ls ew11 hR hS hl
                subst ew11
                refine lv_ior hx hb dX6_run_134 ?_
                refine lv_istore (lv' := [(6, .int (x_w_run_v135 S t x1 y6_16 S_16)), (5, .int (x_w_run_v116 S t x1 y5_16 S_16)), (4, .int (y4_16 + 1)), (8, .int (x_w_run_v53 S t x1 S_16)), (7, .ref (ad (40, (S.2.2.2 4 (2 * t + (Int32.toNatClampNeg x1)) - 1)))), (3, .ref (ad (40, (S.2.2.2 4 (2 * t + (Int32.toNatClampNeg x1)) - 1)))), (0, .ref (ad (70, t))), (1, .int x1), (2, .int x2)]) hx hb dX6_run_135 hl (by decide) rfl (fun ls hl => ?_)
                refine lv_goto (tgt := 16) hx hb dX6_run_137 (by decide) ?_
                exact ih (y4_16 + 1) (x_w_run_v116 S t x1 y5_16 S_16) (x_w_run_v135 S t x1 y6_16 S_16) (xu (xu (xu (xv_struck S_16 (S.2.2.2 4 (2 * t + (Int32.toNatClampNeg x1)) - 1)) 43 (S.2.2.2 4 (2 * t + (Int32.toNatClampNeg x1)) - 1) (((xv_struck S_16 (S.2.2.2 4 (2 * t + (Int32.toNatClampNeg x1)) - 1)).1 43 (S.2.2.2 4 (2 * t + (Int32.toNatClampNeg x1)) - 1)) - 1)) 45 (S.2.2.2 4 (2 * t + (Int32.toNatClampNeg x1)) - 1) (((xv_struck S_16 (S.2.2.2 4 (2 * t + (Int32.toNatClampNeg x1)) - 1)).1 45 (S.2.2.2 4 (2 * t + (Int32.toNatClampNeg x1)) - 1)) - 1)) 46 (S.2.2.2 4 (2 * t + (Int32.toNatClampNeg x1)) - 1) (((xv_struck S_16 (S.2.2.2 4 (2 * t + (Int32.toNatClampNeg x1)) - 1)).1 46 (S.2.2.2 4 (2 * t + (Int32.toNatClampNeg x1)) - 1)) + 1)) _ _  _ (Nat.lt_of_lt_of_le (up_ hi4 (x_w_run_o23 S t x1 x2 y4_16 S_16 hI ht h5 hk ho hq hj hi4 hJ hM c1 c2 c3 hN57 hI57 hw)) (Nat.le_of_lt_succ hf)) (x_w_run_o13 S t x1 x2 y4_16 S_16 hI ht h5 hk ho hq hj hi4 hJ hM c1 c2 c3 hN57 hI57 hw) ((XInv_xu (XInv_xu (XInv_43 hI57 _ _ (x_w_run_o9 S t x1 x2 y4_16 S_16 hI ht h5 hk ho hq hj hi4 hJ hM c1 c2 c3 hN57 hI57 hw)) _ _ _ (by decide)) _ _ _ (by decide))) ((hN57.trans hM)) (Eq.trans (Eq.symm (Eq.trans (x_w_run_L16_s _ _ _ _ _ _ _ _ _) (Eq.trans (if_neg c1) (Eq.trans (if_neg c2) (if_neg c3))))) hE) hR hS (lv_sub hl [0, 1, 2, 5, 6, 7, 8] rfl)
              refine lv_icmp_eq (tgt := 133) hx hb dX6_run_125 (by decide) (fun c10 => ?_) (fun c10 => ?_)
              · refine lv_iconst (v := 0) hx hb dX6_run_133 (by decide) ?_
                exact J12 _ _ _  _ (Eq.symm (if_pos c10)) hR hS  (lv_sub hl [0, 1, 2, 3, 4, 5, 6, 7, 8] rfl)
              · refine lv_iload hx hb dX6_run_128 (lv_at hl 2 rfl) ?_
                refine lv_goto (tgt := 134) hx hb dX6_run_130 (by decide) ?_
                exact J12 _ _ _  _ (Eq.symm (if_neg c10)) hR hS  (lv_sub hl [0, 1, 2, 3, 4, 5, 6, 7, 8] rfl)
            refine lv_if_eq (tgt := 114) hx hb dX6_run_99 (by decide) (fun c4 => ?_) (fun c4 => ?_)
            · refine lv_iconst (v := 0) hx hb dX6_run_114 (by decide) ?_
              exact J8 _ _ _  _ (Eq.symm (if_pos c4)) hR hS  (lv_sub hl [0, 1, 2, 3, 4, 5, 6, 7, 8] rfl)
            · refine lv_aload_n hx hb dX6_run_102 rfl (lv_at hl 6 rfl) ?_
              refine x_bi hS (xr_V X hR (x_lvw (ht) (by show ¬ (xv_struck S_16 (S.2.2.2 4 (2 * t + (Int32.toNatClampNeg x1)) - 1)).2.2.2 5 t = 0; rw [hN57, hM]; exact h5)) (ci := 6) (fs := x_tw ad (xu (xu (xu (xv_struck S_16 (S.2.2.2 4 (2 * t + (Int32.toNatClampNeg x1)) - 1)) 43 (S.2.2.2 4 (2 * t + (Int32.toNatClampNeg x1)) - 1) (((xv_struck S_16 (S.2.2.2 4 (2 * t + (Int32.toNatClampNeg x1)) - 1)).1 43 (S.2.2.2 4 (2 * t + (Int32.toNatClampNeg x1)) - 1)) - 1)) 45 (S.2.2.2 4 (2 * t + (Int32.toNatClampNeg x1)) - 1) (((xv_struck S_16 (S.2.2.2 4 (2 * t + (Int32.toNatClampNeg x1)) - 1)).1 45 (S.2.2.2 4 (2 * t + (Int32.toNatClampNeg x1)) - 1)) - 1)) 46 (S.2.2.2 4 (2 * t + (Int32.toNatClampNeg x1)) - 1) (((xv_struck S_16 (S.2.2.2 4 (2 * t + (Int32.toNatClampNeg x1)) - 1)).1 46 (S.2.2.2 4 (2 * t + (Int32.toNatClampNeg x1)) - 1)) + 1)) t) rfl rfl (xt_w_silence l D d A ad (xu (xu (xu (xv_struck S_16 (S.2.2.2 4 (2 * t + (Int32.toNatClampNeg x1)) - 1)) 43 (S.2.2.2 4 (2 * t + (Int32.toNatClampNeg x1)) - 1) (((xv_struck S_16 (S.2.2.2 4 (2 * t + (Int32.toNatClampNeg x1)) - 1)).1 43 (S.2.2.2 4 (2 * t + (Int32.toNatClampNeg x1)) - 1)) - 1)) 45 (S.2.2.2 4 (2 * t + (Int32.toNatClampNeg x1)) - 1) (((xv_struck S_16 (S.2.2.2 4 (2 * t + (Int32.toNatClampNeg x1)) - 1)).1 45 (S.2.2.2 4 (2 * t + (Int32.toNatClampNeg x1)) - 1)) - 1)) 46 (S.2.2.2 4 (2 * t + (Int32.toNatClampNeg x1)) - 1) (((xv_struck S_16 (S.2.2.2 4 (2 * t + (Int32.toNatClampNeg x1)) - 1)).1 46 (S.2.2.2 4 (2 * t + (Int32.toNatClampNeg x1)) - 1)) + 1)) t ((XInv_xu (XInv_xu (XInv_43 hI57 _ _ (x_w_run_o5 S t x1 x2 y4_16 S_16 hI ht h5 hk ho hq hj hi4 hJ hM c1 c2 c3 hN57 hI57 hw c4)) _ _ _ (by decide)) _ _ _ (by decide))) (ht) (by show ¬ (xv_struck S_16 (S.2.2.2 4 (2 * t + (Int32.toNatClampNeg x1)) - 1)).2.2.2 5 t = 0; rw [hN57, hM]; exact h5)) 0 (lw_V q782 q783 q784 q77 q785) ⟨rfl, rfl⟩ (by decide +kernel) ⟨by decide, by decide⟩ ⟨by decide, by decide⟩ rfl hl.1 rfl (Nat.le_of_ble_eq_true rfl) dX6_run_103) (fun H locs hR hS => ?_)
              refine lv_iconst (v := 1) hx hb dX6_run_106 (by decide) ?_
              refine lv_icmp_eq (tgt := 114) hx hb dX6_run_107 (by decide) (fun c6 => ?_) (fun c6 => ?_)
              · refine lv_iconst (v := 0) hx hb dX6_run_114 (by decide) ?_
                exact J8 _ _ _  _ (Eq.symm (Eq.trans (if_neg c4) (if_pos c6))) hR hS  (lv_sub hl [0, 1, 2, 3, 4, 5, 6, 7, 8] rfl)
              · refine lv_iconst (v := 1) hx hb dX6_run_110 (by decide) ?_
                refine lv_goto (tgt := 115) hx hb dX6_run_111 (by decide) ?_
                exact J8 _ _ _  _ (Eq.symm (Eq.trans (if_neg c4) (if_neg c6))) hR hS  (lv_sub hl [0, 1, 2, 3, 4, 5, 6, 7, 8] rfl)
  exact L16 _ 0 0 0 S _ _  _ (fz_lt _) (by decide) (hI) (rfl) rfl hR hS (lv_sub hl [0, 1, 2, 3, 4, 5, 6] rfl)
/-- X2 differs from X in the ints of the keys ks alone (of ints and longs) -/
def xeqx (ks : List Nat) (X X2 : XS) : Prop := (∀ k, k ∉ ks → X2.1 k = X.1 k) ∧ X2.2.1 = X.2.1
theorem xeqx.rf {ks : List Nat} {X : XS} : xeqx ks X X := ⟨fun _ _ => rfl, rfl⟩
theorem xeqx.up {ks : List Nat} {X X2 : XS} (h : xeqx ks X X2) {k : Nat} (hk : k ∈ ks) (i : Nat) (v : Int32) : xeqx ks X (xu X2 k i v) := ⟨fun j hj => (xu_kf X2 (fun e => hj (by rw [e]; exact hk)) i v).trans (h.1 j hj), h.2⟩
theorem xeqx.tr {ks : List Nat} {X X2 X3 : XS} (h : xeqx ks X X2) (h2 : xeqx ks X2 X3) : xeqx ks X X3 := ⟨fun j hj => (h2.1 j hj).trans (h.1 j hj), h2.2.trans h.2⟩
theorem xeqx.sub {ks ks2 : List Nat} {X X2 : XS} (h : xeqx ks X X2) (hs : ∀ k ∈ ks, k ∈ ks2) : xeqx ks2 X X2 := ⟨fun j hj => h.1 j (fun q => hj (hs j q)), h.2⟩
theorem xeqx.at {ks : List Nat} {X X2 : XS} (h : xeqx ks X X2) (k : Nat) (hk : k ∉ ks) (i : Nat) : X2.1 k i = X.1 k i := by rw [h.1 k hk]
theorem xv_letOff_eqx (S : XS) (j : Nat) (x1 x2 : Int32) : xeqx [45, 49, 50] S (xv_letOff S j x1 x2) := by
  unfold xv_letOff x_t2_letOff x_t4_letOff x_t3_letOff
  (repeat' split) <;> (repeat first | exact xeqx.rf | refine xeqx.up ?_ (by decide) _ _)
theorem x_w_warn_eqx (S : XS) (t : Nat) (x1 : Int32) : xeqx [48] S (x_w_warn S t x1) := by
  unfold x_w_warn
  (repeat' split) <;> (repeat first | exact xeqx.rf | refine xeqx.up ?_ (by decide) _ _)
theorem x_w_letOff_eqx (S : XS) (t : Nat) (x1 : Int32) : xeqx [45, 49, 50] S (x_w_letOff S t x1) := by
  unfold x_w_letOff
  (repeat' split) <;> exact xv_letOff_eqx _ _ _ _
theorem x_w_letOffWarned_eqx (S : XS) (t : Nat) (x1 : Int32) : xeqx [45, 49, 50, 48] S (x_w_letOffWarned S t x1) := by
  unfold x_w_letOffWarned
  (repeat' split) <;> first | exact xeqx.rf | exact xeqx.tr (xeqx.up xeqx.rf (by decide) _ _) ((x_w_letOff_eqx _ _ _).sub (by decide))
theorem x_w_forward_eqx (S : XS) (t : Nat) : xeqx [45, 49, 50, 48, 60] S (x_w_forward S t) := by
  have h1 : xeqx [45, 49, 50, 48, 60] S (x_w_forward_j62_S S t) := by
    unfold x_w_forward_j62_S
    (repeat' split) <;> first | exact xeqx.up xeqx.rf (by decide) _ _ | exact xeqx.tr (xeqx.up xeqx.rf (by decide) _ _) ((x_w_warn_eqx _ _ _).sub (by decide))
  unfold x_w_forward
  (repeat' split) <;> first | exact h1 | exact h1.tr ((x_w_letOffWarned_eqx _ _ _).sub (by decide))
theorem x_w_forward_63 (S : XS) (t : Nat) : (x_w_forward S t).1 63 = S.1 63 := (x_w_forward_eqx S t).1 63 (by decide)
def x_w_minute_L30 (t : Nat) : Nat → XS → XS
  | 0, S_30 => S_30
  | f30 + 1, S_30 => (if (S_30.1 61 t) < 86400 then S_30 else (if (S_30.1 63 t) ≤ 0 then S_30 else (x_w_minute_L30 t f30 (x_w_forward (xu (xu S_30 61 t ((S_30.1 61 t) - 86400)) 63 t ((S_30.1 63 t) - 1)) t))))
theorem x_w_minute_L30_s (t : Nat) (f30 : Nat) (S_30 : XS) : x_w_minute_L30 t (f30 + 1) S_30 = (if (S_30.1 61 t) < 86400 then S_30 else (if (S_30.1 63 t) ≤ 0 then S_30 else (x_w_minute_L30 t f30 (x_w_forward (xu (xu S_30 61 t ((S_30.1 61 t) - 86400)) 63 t ((S_30.1 63 t) - 1)) t)))) := rfl
def x_w_minute_R30 (S : XS) (t : Nat) : XS := x_w_minute_L30 t (fz (((xu S 61 t ((S.1 61 t) + (86400 + (S.1 62 t)))).1 63 t).toNatClampNeg + 1)) (xu S 61 t ((S.1 61 t) + (86400 + (S.1 62 t))))
theorem x_w_minute_L30_P (S : XS) (t : Nat) (hI : XInv S) (ht : t < 4) (h5 : ¬ S.2.2.2 5 t = 0) (q80 : 2 * t + (Int32.toNatClampNeg 0) < 8) (q81 : 2 * t + (Int32.toNatClampNeg 1) < 8) (c1 : ¬ (S.1 64 t) = 0) (c2 : ¬ (S.1 63 t) ≤ 0) : ∀ (f30 : Nat) (S_30 : XS), (XInv S_30) → (S_30.2.2.2 = S.2.2.2) → (XInv (x_w_minute_L30 t f30 S_30)) ∧ ((x_w_minute_L30 t f30 S_30).2.2.2 = S.2.2.2) := by
  intro f30
  induction f30 with
  | zero =>
    intro S_30 hJ hM
    exact ⟨hJ, hM⟩
  | succ f30 ih =>
    intro S_30 hJ hM
    rw [x_w_minute_L30_s]
    refine ifI (P := fun (z : XS) => (XInv z) ∧ (z.2.2.2 = S.2.2.2)) (fun c3 => ?_) (fun c3 => ?_)
    · exact ⟨hJ, hM⟩
    · refine ifI (P := fun (z : XS) => (XInv z) ∧ (z.2.2.2 = S.2.2.2)) (fun c4 => ?_) (fun c4 => ?_)
      · exact ⟨hJ, hM⟩
      · have hN68 : (x_w_forward (xu (xu S_30 61 t ((S_30.1 61 t) - 86400)) 63 t ((S_30.1 63 t) - 1)) t).2.2.2 = S_30.2.2.2 := x_w_forward_N (xu (xu S_30 61 t ((S_30.1 61 t) - 86400)) 63 t ((S_30.1 63 t) - 1)) t
        have hI68 : XInv (x_w_forward (xu (xu S_30 61 t ((S_30.1 61 t) - 86400)) 63 t ((S_30.1 63 t) - 1)) t) := x_w_forward_inv (xu (xu S_30 61 t ((S_30.1 61 t) - 86400)) 63 t ((S_30.1 63 t) - 1)) t ((XInv_xu (XInv_xu hJ _ _ _ (by decide)) _ _ _ (by decide))) (ht) (by show ¬ S_30.2.2.2 5 t = 0; rw [hM]; exact h5)
        exact ih (x_w_forward (xu (xu S_30 61 t ((S_30.1 61 t) - 86400)) 63 t ((S_30.1 63 t) - 1)) t) (hI68) ((hN68.trans hM))
theorem x_w_minute_R30_P (S : XS) (t : Nat) (hI : XInv S) (ht : t < 4) (h5 : ¬ S.2.2.2 5 t = 0) (q80 : 2 * t + (Int32.toNatClampNeg 0) < 8) (q81 : 2 * t + (Int32.toNatClampNeg 1) < 8) (c1 : ¬ (S.1 64 t) = 0) (c2 : ¬ (S.1 63 t) ≤ 0) : (XInv (x_w_minute_R30 S t)) ∧ ((x_w_minute_R30 S t).2.2.2 = S.2.2.2) := by
  unfold x_w_minute_R30
  exact x_w_minute_L30_P S t hI ht h5 q80 q81 c1 c2 (fz (((xu S 61 t ((S.1 61 t) + (86400 + (S.1 62 t)))).1 63 t).toNatClampNeg + 1)) (xu S 61 t ((S.1 61 t) + (86400 + (S.1 62 t)))) ((XInv_xu hI _ _ _ (by decide))) (rfl)
def x_w_minute_j74_S (S : XS) (t : Nat) : XS := (if (S.1 64 t) = 0 then S else (if (S.1 63 t) ≤ 0 then S else (x_w_minute_R30 S t)))
theorem x_w_minute_j74_S_N (S : XS) (t : Nat) (hI : XInv S) (ht : t < 4) (h5 : ¬ S.2.2.2 5 t = 0) (q80 : 2 * t + (Int32.toNatClampNeg 0) < 8) (q81 : 2 * t + (Int32.toNatClampNeg 1) < 8) : (x_w_minute_j74_S S t).2.2.2 = S.2.2.2 := by
  unfold x_w_minute_j74_S
  refine ifI (P := fun (z : XS) => z.2.2.2 = S.2.2.2) (fun c1 => ?_) (fun c1 => ?_)
  · exact rfl
  · refine ifI (P := fun (z : XS) => z.2.2.2 = S.2.2.2) (fun c2 => ?_) (fun c2 => ?_)
    · exact rfl
    · have hMp : (x_w_minute_R30 S t).2.2.2 = S.2.2.2 := (x_w_minute_R30_P S t hI ht h5 q80 q81 c1 c2).2
      exact hMp
theorem x_w_minute_j74_S_I (S : XS) (t : Nat) (hI : XInv S) (ht : t < 4) (h5 : ¬ S.2.2.2 5 t = 0) (q80 : 2 * t + (Int32.toNatClampNeg 0) < 8) (q81 : 2 * t + (Int32.toNatClampNeg 1) < 8) : XInv (x_w_minute_j74_S S t) := by
  unfold x_w_minute_j74_S
  refine ifI (P := XInv) (fun c1 => ?_) (fun c1 => ?_)
  · exact hI
  · refine ifI (P := XInv) (fun c2 => ?_) (fun c2 => ?_)
    · exact hI
    · have hJp : XInv (x_w_minute_R30 S t) := (x_w_minute_R30_P S t hI ht h5 q80 q81 c1 c2).1
      exact hJp
def x_w_minute_j98_S (S : XS) (t : Nat) : XS := (if S.2.2.2 4 (2 * t + (Int32.toNatClampNeg 1)) = 0 then (x_w_minute_j74_S S t) else (x_w_run (x_w_minute_j74_S S t) t 1 ((x_w_minute_j74_S S t).1 41 (S.2.2.2 4 (2 * t + (Int32.toNatClampNeg 1)) - 1))).2)
theorem x_w_minute_j98_S_N (S : XS) (t : Nat) (hI : XInv S) (ht : t < 4) (h5 : ¬ S.2.2.2 5 t = 0) (q80 : 2 * t + (Int32.toNatClampNeg 0) < 8) (q81 : 2 * t + (Int32.toNatClampNeg 1) < 8) : (x_w_minute_j98_S S t).2.2.2 = (x_w_minute_j74_S S t).2.2.2 := by
  unfold x_w_minute_j98_S
  refine ifI (P := fun (z : XS) => z.2.2.2 = (x_w_minute_j74_S S t).2.2.2) (fun c7 => ?_) (fun c7 => ?_)
  · exact rfl
  · have hN_j74_S : (x_w_minute_j74_S S t).2.2.2 = S.2.2.2 := x_w_minute_j74_S_N S t hI ht h5 q80 q81
    have hI_j74_S : XInv (x_w_minute_j74_S S t) := x_w_minute_j74_S_I S t hI ht h5 q80 q81
    have hN94 : (x_w_run (x_w_minute_j74_S S t) t 1 ((x_w_minute_j74_S S t).1 41 (S.2.2.2 4 (2 * t + (Int32.toNatClampNeg 1)) - 1))).2.2.2.2 = (x_w_minute_j74_S S t).2.2.2 := x_w_run_N (x_w_minute_j74_S S t) t 1 ((x_w_minute_j74_S S t).1 41 (S.2.2.2 4 (2 * t + (Int32.toNatClampNeg 1)) - 1)) (hI_j74_S) (ht) (by show ¬ (x_w_minute_j74_S S t).2.2.2 5 t = 0; rw [hN_j74_S]; exact h5) (by decide) (by show ¬ (x_w_minute_j74_S S t).2.2.2 4 (2 * t + (Int32.toNatClampNeg 1)) = 0; rw [hN_j74_S]; exact c7)
    exact hN94
theorem x_w_minute_j98_S_I (S : XS) (t : Nat) (hI : XInv S) (ht : t < 4) (h5 : ¬ S.2.2.2 5 t = 0) (q80 : 2 * t + (Int32.toNatClampNeg 0) < 8) (q81 : 2 * t + (Int32.toNatClampNeg 1) < 8) : XInv (x_w_minute_j98_S S t) := by
  unfold x_w_minute_j98_S
  refine ifI (P := XInv) (fun c7 => ?_) (fun c7 => ?_)
  · have hI_j74_S : XInv (x_w_minute_j74_S S t) := x_w_minute_j74_S_I S t hI ht h5 q80 q81
    exact hI_j74_S
  · have hN_j74_S : (x_w_minute_j74_S S t).2.2.2 = S.2.2.2 := x_w_minute_j74_S_N S t hI ht h5 q80 q81
    have hI_j74_S : XInv (x_w_minute_j74_S S t) := x_w_minute_j74_S_I S t hI ht h5 q80 q81
    have hI94 : XInv (x_w_run (x_w_minute_j74_S S t) t 1 ((x_w_minute_j74_S S t).1 41 (S.2.2.2 4 (2 * t + (Int32.toNatClampNeg 1)) - 1))).2 := x_w_run_inv (x_w_minute_j74_S S t) t 1 ((x_w_minute_j74_S S t).1 41 (S.2.2.2 4 (2 * t + (Int32.toNatClampNeg 1)) - 1)) (hI_j74_S) (ht) (by show ¬ (x_w_minute_j74_S S t).2.2.2 5 t = 0; rw [hN_j74_S]; exact h5) (by decide) (by show ¬ (x_w_minute_j74_S S t).2.2.2 4 (2 * t + (Int32.toNatClampNeg 1)) = 0; rw [hN_j74_S]; exact c7)
    exact hI94
def x_w_minute (S : XS) (t : Nat) : XS := (if S.2.2.2 4 (2 * t + (Int32.toNatClampNeg 0)) = 0 then (x_w_minute_j98_S S t) else (x_w_run (x_w_minute_j98_S S t) t 0 ((x_w_minute_j98_S S t).1 41 (S.2.2.2 4 (2 * t + (Int32.toNatClampNeg 0)) - 1))).2)
theorem x_w_minute_N (S : XS) (t : Nat) (hI : XInv S) (ht : t < 4) (h5 : ¬ S.2.2.2 5 t = 0) : (x_w_minute S t).2.2.2 = S.2.2.2 := by
  have q80 : 2 * t + (Int32.toNatClampNeg 0) < 8 := tp8 ht (by decide)
  have q81 : 2 * t + (Int32.toNatClampNeg 1) < 8 := tp8 ht (by decide)
  unfold x_w_minute
  refine ifI (P := fun (z : XS) => z.2.2.2 = S.2.2.2) (fun c10 => ?_) (fun c10 => ?_)
  · have hN_j74_S : (x_w_minute_j74_S S t).2.2.2 = S.2.2.2 := x_w_minute_j74_S_N S t hI ht h5 q80 q81
    have hN_j98_S : (x_w_minute_j98_S S t).2.2.2 = (x_w_minute_j74_S S t).2.2.2 := x_w_minute_j98_S_N S t hI ht h5 q80 q81
    exact (hN_j98_S.trans hN_j74_S)
  · have hN_j74_S : (x_w_minute_j74_S S t).2.2.2 = S.2.2.2 := x_w_minute_j74_S_N S t hI ht h5 q80 q81
    have hN_j98_S : (x_w_minute_j98_S S t).2.2.2 = (x_w_minute_j74_S S t).2.2.2 := x_w_minute_j98_S_N S t hI ht h5 q80 q81
    have hI_j98_S : XInv (x_w_minute_j98_S S t) := x_w_minute_j98_S_I S t hI ht h5 q80 q81
    have hN118 : (x_w_run (x_w_minute_j98_S S t) t 0 ((x_w_minute_j98_S S t).1 41 (S.2.2.2 4 (2 * t + (Int32.toNatClampNeg 0)) - 1))).2.2.2.2 = (x_w_minute_j98_S S t).2.2.2 := x_w_run_N (x_w_minute_j98_S S t) t 0 ((x_w_minute_j98_S S t).1 41 (S.2.2.2 4 (2 * t + (Int32.toNatClampNeg 0)) - 1)) (hI_j98_S) (ht) (by show ¬ (x_w_minute_j98_S S t).2.2.2 5 t = 0; rw [hN_j98_S, hN_j74_S]; exact h5) (by decide) (by show ¬ (x_w_minute_j98_S S t).2.2.2 4 (2 * t + (Int32.toNatClampNeg 0)) = 0; rw [hN_j98_S, hN_j74_S]; exact c10)
    exact (hN118.trans (hN_j98_S.trans hN_j74_S))
theorem x_w_minute_inv (S : XS) (t : Nat) (hI : XInv S) (ht : t < 4) (h5 : ¬ S.2.2.2 5 t = 0) : XInv (x_w_minute S t) := by
  have q80 : 2 * t + (Int32.toNatClampNeg 0) < 8 := tp8 ht (by decide)
  have q81 : 2 * t + (Int32.toNatClampNeg 1) < 8 := tp8 ht (by decide)
  unfold x_w_minute
  refine ifI (P := fun (z : XS) => XInv z) (fun c10 => ?_) (fun c10 => ?_)
  · have hI_j98_S : XInv (x_w_minute_j98_S S t) := x_w_minute_j98_S_I S t hI ht h5 q80 q81
    exact hI_j98_S
  · have hN_j74_S : (x_w_minute_j74_S S t).2.2.2 = S.2.2.2 := x_w_minute_j74_S_N S t hI ht h5 q80 q81
    have hN_j98_S : (x_w_minute_j98_S S t).2.2.2 = (x_w_minute_j74_S S t).2.2.2 := x_w_minute_j98_S_N S t hI ht h5 q80 q81
    have hI_j98_S : XInv (x_w_minute_j98_S S t) := x_w_minute_j98_S_I S t hI ht h5 q80 q81
    have hI118 : XInv (x_w_run (x_w_minute_j98_S S t) t 0 ((x_w_minute_j98_S S t).1 41 (S.2.2.2 4 (2 * t + (Int32.toNatClampNeg 0)) - 1))).2 := x_w_run_inv (x_w_minute_j98_S S t) t 0 ((x_w_minute_j98_S S t).1 41 (S.2.2.2 4 (2 * t + (Int32.toNatClampNeg 0)) - 1)) (hI_j98_S) (ht) (by show ¬ (x_w_minute_j98_S S t).2.2.2 5 t = 0; rw [hN_j98_S, hN_j74_S]; exact h5) (by decide) (by show ¬ (x_w_minute_j98_S S t).2.2.2 4 (2 * t + (Int32.toNatClampNeg 0)) = 0; rw [hN_j98_S, hN_j74_S]; exact c10)
    exact hI118
set_option maxHeartbeats 4000000 in
theorem xt_w_minute (l : Launch) (D : va_G) (d : Nat → ClassId) (A : Nat → Prop) (ad : XK → Nat) (S : XS) (t : Nat) (hI : XInv S) (ht : t < 4) (h5 : ¬ S.2.2.2 5 t = 0) : XV l yX6_minute cX6_minute 1 (rm_ 5) D d A ad S [.ref (ad (70, t))] (x_w_minute S t) := by
  refine x_startV RX6 rfl (by decide) (Nat.le_of_ble_eq_true rfl) ?_
  intro p e s m av below meth c ls Q X hrt hlk hl hR hQ
  have hx := X.1.1.1
  have hb := X.1.1.2.1
  have hown := X.1.1.2.2.2.1
  have hts := X.1.1.2.2.2.2
  have hS : va_S A s.heap s.heap [] := va_S.rf
  have hl : lv_has ls 1 [(0, .ref (ad (70, t)))] := hl
  have q80 : 2 * t + (Int32.toNatClampNeg 0) < 8 := tp8 ht (by decide)
  have q81 : 2 * t + (Int32.toNatClampNeg 1) < 8 := tp8 ht (by decide)
  refine lv_aload_n hx hb dX6_minute_0 rfl (lv_at hl 0 rfl) ?_
  refine xgw X hR (x_lvw (ht) (h5)) 4 (Or.inl (by decide)) (Or.inl q703) rfl dX6_minute_1 ?_
  have J6 : ∀ (w5 : XS) (H : Heap) (locs : List Loc) (ls : Array Slot), w5 = (x_w_minute_j74_S S t) → XR D d A ad w5 H → va_S A s.heap H locs → lv_has ls 1 [(0, .ref (ad (70, t)))] → W p l e (rm_ 5) s m av below meth c H locs 0 0 Q (F0 m 74 ls []) := by
    intro w5 H locs ls ew5 hR hS hl
    subst ew5
    have hN_j74_S : (x_w_minute_j74_S S t).2.2.2 = S.2.2.2 := x_w_minute_j74_S_N S t hI ht h5 q80 q81
    have hI_j74_S : XInv (x_w_minute_j74_S S t) := x_w_minute_j74_S_I S t hI ht h5 q80 q81
    refine lv_aload_n hx hb dX6_minute_74 rfl (lv_at hl 0 rfl) ?_
    refine xgwo X hR (x_lvw (ht) (by show ¬ (x_w_minute_j74_S S t).2.2.2 5 t = 0; rw [hN_j74_S]; exact h5)) (Or.inl q705) dX6_minute_75 ?_
    refine lv_iconst (v := 1) hx hb dX6_minute_78 (by decide) ?_
    have J9 : ∀ (w8 : XS) (H : Heap) (locs : List Loc) (ls : Array Slot), w8 = (x_w_minute_j98_S S t) → XR D d A ad w8 H → va_S A s.heap H locs → lv_has ls 1 [(0, .ref (ad (70, t)))] → W p l e (rm_ 5) s m av below meth c H locs 0 0 Q (F0 m 98 ls []) := by
      intro w8 H locs ls ew8 hR hS hl
      subst ew8
      have hN_j98_S : (x_w_minute_j98_S S t).2.2.2 = (x_w_minute_j74_S S t).2.2.2 := x_w_minute_j98_S_N S t hI ht h5 q80 q81
      have hI_j98_S : XInv (x_w_minute_j98_S S t) := x_w_minute_j98_S_I S t hI ht h5 q80 q81
      refine lv_aload_n hx hb dX6_minute_98 rfl (lv_at hl 0 rfl) ?_
      refine xgwo X hR (x_lvw (ht) (by show ¬ (x_w_minute_j98_S S t).2.2.2 5 t = 0; rw [hN_j98_S, hN_j74_S]; exact h5)) (Or.inl q705) dX6_minute_99 ?_
      refine lv_iconst (v := 0) hx hb dX6_minute_102 (by decide) ?_
      refine x_ldoBE X hR (x_lvo (ht) (by show ¬ (x_w_minute_j98_S S t).2.2.2 5 t = 0; rw [hN_j98_S, hN_j74_S]; exact h5)) (ixl 2 2 (by decide) rfl (by decide)) (n := S.2.2.2 4 (2 * t + (Int32.toNatClampNeg 0))) (congrFun (congrFun (hN_j98_S.trans hN_j74_S) 4) _) dX6_minute_103 (fun c10 => ?_) (fun c10 => ?_)
      · refine lv_ifnullN (tgt := 122) hx hb dX6_minute_104 (by decide) ?_
        exact x_rv hx hb hrt hlk hR hS hQ (if_pos c10) dX6_minute_122
      · refine lv_ifnull hx hb dX6_minute_104 ?_
        refine lv_aload_n hx hb dX6_minute_107 rfl (lv_at hl 0 rfl) ?_
        refine lv_iconst (v := 0) hx hb dX6_minute_108 (by decide) ?_
        refine lv_aload_n hx hb dX6_minute_109 rfl (lv_at hl 0 rfl) ?_
        refine xgwo X hR (x_lvw (ht) (by show ¬ (x_w_minute_j98_S S t).2.2.2 5 t = 0; rw [hN_j98_S, hN_j74_S]; exact h5)) (Or.inl q705) dX6_minute_110 ?_
        refine lv_iconst (v := 0) hx hb dX6_minute_113 (by decide) ?_
        refine x_ldoE X hR (x_lvo (ht) (by show ¬ (x_w_minute_j98_S S t).2.2.2 5 t = 0; rw [hN_j98_S, hN_j74_S]; exact h5)) (ixl 2 2 (by decide) rfl (by decide)) (n := S.2.2.2 4 (2 * t + (Int32.toNatClampNeg 0))) (congrFun (congrFun (hN_j98_S.trans hN_j74_S) 4) _) (c10) dX6_minute_114 ?_
        refine xgt X hR (x_lvt (by show (S.2.2.2 4 (2 * t + (Int32.toNatClampNeg 0)) - 1) < (x_w_minute_j98_S S t).2.2.2 7 0; rw [hN_j98_S, hN_j74_S]; exact (xi_own (X := S) hI (q80) c10))) (xi_kd (X := (x_w_minute_j98_S S t)) hI_j98_S (by show (S.2.2.2 4 (2 * t + (Int32.toNatClampNeg 0)) - 1) < (x_w_minute_j98_S S t).2.2.2 7 0; rw [hN_j98_S, hN_j74_S]; exact (xi_own (X := S) hI (q80) c10))) 1 (by decide) q359 (Or.inl rfl) rfl dX6_minute_115 ?_
        refine x_bi hS (xr_V X hR (x_lvw (ht) (by show ¬ (x_w_minute_j98_S S t).2.2.2 5 t = 0; rw [hN_j98_S, hN_j74_S]; exact h5)) (ci := 6) (fs := x_tw ad (x_w_minute_j98_S S t) t) rfl rfl (xt_w_run l D d A ad (x_w_minute_j98_S S t) t 0 ((x_w_minute_j98_S S t).1 41 (S.2.2.2 4 (2 * t + (Int32.toNatClampNeg 0)) - 1)) (hI_j98_S) (ht) (by show ¬ (x_w_minute_j98_S S t).2.2.2 5 t = 0; rw [hN_j98_S, hN_j74_S]; exact h5) (by decide) (by show ¬ (x_w_minute_j98_S S t).2.2.2 4 (2 * t + (Int32.toNatClampNeg 0)) = 0; rw [hN_j98_S, hN_j74_S]; exact c10)) 2 (lw_V q900 q847 q848 q77 q849) ⟨rfl, rfl⟩ (by decide +kernel) ⟨by decide, by decide⟩ ⟨by decide, by decide⟩ rfl hl.1 rfl (Nat.le_of_ble_eq_true rfl) dX6_minute_118) (fun H locs hR hS => ?_)
        have hN118 : (x_w_run (x_w_minute_j98_S S t) t 0 ((x_w_minute_j98_S S t).1 41 (S.2.2.2 4 (2 * t + (Int32.toNatClampNeg 0)) - 1))).2.2.2.2 = (x_w_minute_j98_S S t).2.2.2 := x_w_run_N (x_w_minute_j98_S S t) t 0 ((x_w_minute_j98_S S t).1 41 (S.2.2.2 4 (2 * t + (Int32.toNatClampNeg 0)) - 1)) (hI_j98_S) (ht) (by show ¬ (x_w_minute_j98_S S t).2.2.2 5 t = 0; rw [hN_j98_S, hN_j74_S]; exact h5) (by decide) (by show ¬ (x_w_minute_j98_S S t).2.2.2 4 (2 * t + (Int32.toNatClampNeg 0)) = 0; rw [hN_j98_S, hN_j74_S]; exact c10)
        have hI118 : XInv (x_w_run (x_w_minute_j98_S S t) t 0 ((x_w_minute_j98_S S t).1 41 (S.2.2.2 4 (2 * t + (Int32.toNatClampNeg 0)) - 1))).2 := x_w_run_inv (x_w_minute_j98_S S t) t 0 ((x_w_minute_j98_S S t).1 41 (S.2.2.2 4 (2 * t + (Int32.toNatClampNeg 0)) - 1)) (hI_j98_S) (ht) (by show ¬ (x_w_minute_j98_S S t).2.2.2 5 t = 0; rw [hN_j98_S, hN_j74_S]; exact h5) (by decide) (by show ¬ (x_w_minute_j98_S S t).2.2.2 4 (2 * t + (Int32.toNatClampNeg 0)) = 0; rw [hN_j98_S, hN_j74_S]; exact c10)
        refine lv_pop hx hb dX6_minute_121 rfl ?_
        exact x_rv hx hb hrt hlk hR hS hQ (if_neg c10) dX6_minute_122
    refine x_ldoBE X hR (x_lvo (ht) (by show ¬ (x_w_minute_j74_S S t).2.2.2 5 t = 0; rw [hN_j74_S]; exact h5)) (ixl 2 2 (by decide) rfl (by decide)) (n := S.2.2.2 4 (2 * t + (Int32.toNatClampNeg 1))) (congrFun (congrFun hN_j74_S 4) _) dX6_minute_79 (fun c7 => ?_) (fun c7 => ?_)
    · refine lv_ifnullN (tgt := 98) hx hb dX6_minute_80 (by decide) ?_
      exact J9 _ _ _  _ (Eq.symm (if_pos c7)) hR hS  (lv_sub hl [0] rfl)
    · refine lv_ifnull hx hb dX6_minute_80 ?_
      refine lv_aload_n hx hb dX6_minute_83 rfl (lv_at hl 0 rfl) ?_
      refine lv_iconst (v := 1) hx hb dX6_minute_84 (by decide) ?_
      refine lv_aload_n hx hb dX6_minute_85 rfl (lv_at hl 0 rfl) ?_
      refine xgwo X hR (x_lvw (ht) (by show ¬ (x_w_minute_j74_S S t).2.2.2 5 t = 0; rw [hN_j74_S]; exact h5)) (Or.inl q705) dX6_minute_86 ?_
      refine lv_iconst (v := 1) hx hb dX6_minute_89 (by decide) ?_
      refine x_ldoE X hR (x_lvo (ht) (by show ¬ (x_w_minute_j74_S S t).2.2.2 5 t = 0; rw [hN_j74_S]; exact h5)) (ixl 2 2 (by decide) rfl (by decide)) (n := S.2.2.2 4 (2 * t + (Int32.toNatClampNeg 1))) (congrFun (congrFun hN_j74_S 4) _) (c7) dX6_minute_90 ?_
      refine xgt X hR (x_lvt (by show (S.2.2.2 4 (2 * t + (Int32.toNatClampNeg 1)) - 1) < (x_w_minute_j74_S S t).2.2.2 7 0; rw [hN_j74_S]; exact (xi_own (X := S) hI (q81) c7))) (xi_kd (X := (x_w_minute_j74_S S t)) hI_j74_S (by show (S.2.2.2 4 (2 * t + (Int32.toNatClampNeg 1)) - 1) < (x_w_minute_j74_S S t).2.2.2 7 0; rw [hN_j74_S]; exact (xi_own (X := S) hI (q81) c7))) 1 (by decide) q359 (Or.inl rfl) rfl dX6_minute_91 ?_
      refine x_bi hS (xr_V X hR (x_lvw (ht) (by show ¬ (x_w_minute_j74_S S t).2.2.2 5 t = 0; rw [hN_j74_S]; exact h5)) (ci := 6) (fs := x_tw ad (x_w_minute_j74_S S t) t) rfl rfl (xt_w_run l D d A ad (x_w_minute_j74_S S t) t 1 ((x_w_minute_j74_S S t).1 41 (S.2.2.2 4 (2 * t + (Int32.toNatClampNeg 1)) - 1)) (hI_j74_S) (ht) (by show ¬ (x_w_minute_j74_S S t).2.2.2 5 t = 0; rw [hN_j74_S]; exact h5) (by decide) (by show ¬ (x_w_minute_j74_S S t).2.2.2 4 (2 * t + (Int32.toNatClampNeg 1)) = 0; rw [hN_j74_S]; exact c7)) 2 (lw_V q900 q847 q848 q77 q849) ⟨rfl, rfl⟩ (by decide +kernel) ⟨by decide, by decide⟩ ⟨by decide, by decide⟩ rfl hl.1 rfl (Nat.le_of_ble_eq_true rfl) dX6_minute_94) (fun H locs hR hS => ?_)
      have hN94 : (x_w_run (x_w_minute_j74_S S t) t 1 ((x_w_minute_j74_S S t).1 41 (S.2.2.2 4 (2 * t + (Int32.toNatClampNeg 1)) - 1))).2.2.2.2 = (x_w_minute_j74_S S t).2.2.2 := x_w_run_N (x_w_minute_j74_S S t) t 1 ((x_w_minute_j74_S S t).1 41 (S.2.2.2 4 (2 * t + (Int32.toNatClampNeg 1)) - 1)) (hI_j74_S) (ht) (by show ¬ (x_w_minute_j74_S S t).2.2.2 5 t = 0; rw [hN_j74_S]; exact h5) (by decide) (by show ¬ (x_w_minute_j74_S S t).2.2.2 4 (2 * t + (Int32.toNatClampNeg 1)) = 0; rw [hN_j74_S]; exact c7)
      have hI94 : XInv (x_w_run (x_w_minute_j74_S S t) t 1 ((x_w_minute_j74_S S t).1 41 (S.2.2.2 4 (2 * t + (Int32.toNatClampNeg 1)) - 1))).2 := x_w_run_inv (x_w_minute_j74_S S t) t 1 ((x_w_minute_j74_S S t).1 41 (S.2.2.2 4 (2 * t + (Int32.toNatClampNeg 1)) - 1)) (hI_j74_S) (ht) (by show ¬ (x_w_minute_j74_S S t).2.2.2 5 t = 0; rw [hN_j74_S]; exact h5) (by decide) (by show ¬ (x_w_minute_j74_S S t).2.2.2 4 (2 * t + (Int32.toNatClampNeg 1)) = 0; rw [hN_j74_S]; exact c7)
      refine lv_pop hx hb dX6_minute_97 rfl ?_
      exact J9 _ _ _  _ (Eq.symm (if_neg c7)) hR hS  (lv_sub hl [0] rfl)
  refine lv_if_eq (tgt := 74) hx hb dX6_minute_4 (by decide) (fun c1 => ?_) (fun c1 => ?_)
  · exact J6 _ _ _  _ (Eq.symm (if_pos c1)) hR hS  (lv_sub hl [0] rfl)
  · refine lv_aload_n hx hb dX6_minute_7 rfl (lv_at hl 0 rfl) ?_
    refine xgw X hR (x_lvw (ht) (h5)) 3 (Or.inl (by decide)) (Or.inl q701) rfl dX6_minute_8 ?_
    refine lv_if_le (tgt := 74) hx hb dX6_minute_11 (by decide) (fun c2 => ?_) (fun c2 => ?_)
    · exact J6 _ _ _  _ (Eq.symm (Eq.trans (if_neg c1) (if_pos c2))) hR hS  (lv_sub hl [0] rfl)
    · refine lv_aload_n hx hb dX6_minute_14 rfl (lv_at hl 0 rfl) ?_
      refine lv_dup hx hb dX6_minute_15 rfl ?_
      refine xgw X hR (x_lvw (ht) (h5)) 1 (Or.inl (by decide)) (Or.inl q697) rfl dX6_minute_16 ?_
      refine lv_ldc hx hb hown (hts _ q898) dX6_minute_19 ?_
      refine lv_aload_n hx hb dX6_minute_21 rfl (lv_at hl 0 rfl) ?_
      refine xgw X hR (x_lvw (ht) (h5)) 2 (Or.inl (by decide)) (Or.inl q699) rfl dX6_minute_22 ?_
      refine lv_iadd hx hb dX6_minute_25 ?_
      refine lv_iadd hx hb dX6_minute_26 ?_
      refine xpw X hR hS (x_lvw (ht) (h5)) 1 (Or.inl (by decide)) rfl (Or.inl q697) rfl dX6_minute_27 (fun H locs hR hS => ?_)
      have K30 : ∀ (H : Heap) (locs : List Loc) (ls : Array Slot), (XInv (x_w_minute_R30 S t)) → ((x_w_minute_R30 S t).2.2.2 = S.2.2.2) → XR D d A ad (x_w_minute_R30 S t) H → va_S A s.heap H locs → lv_has ls 1 [(0, .ref (ad (70, t)))] → W p l e (rm_ 5) s m av below meth c H locs 0 0 Q (F0 m 74 ls []) := by
        intro H locs ls hJp hMp hR hS hl
        exact J6 _ _ _  _ (Eq.symm (Eq.trans (if_neg c1) (if_neg c2))) hR hS  (lv_sub hl [0] rfl)
      have L30 : ∀ (f30 : Nat) (S_30 : XS) (H : Heap) (locs : List Loc) (ls : Array Slot), (S_30.1 63 t).toNatClampNeg < f30 → XInv S_30 → S_30.2.2.2 = S.2.2.2 → x_w_minute_L30 t (f30) S_30 = (x_w_minute_R30 S t) → XR D d A ad S_30 H → va_S A s.heap H locs → lv_has ls 1 [(0, .ref (ad (70, t)))] → W p l e (rm_ 5) s m av below meth c H locs 0 0 Q (F0 m 30 ls []) := by
        intro f30
        induction f30 with
        | zero => intro S_30 H locs ls hf; exact absurd hf (Nat.not_lt_zero _)
        | succ f30 ih =>
          intro S_30 H locs ls hf hJ hM hE hR hS hl
          refine lv_aload_n hx hb dX6_minute_30 rfl (lv_at hl 0 rfl) ?_
          refine xgw X hR (x_lvw (ht) (by show ¬ S_30.2.2.2 5 t = 0; rw [hM]; exact h5)) 1 (Or.inl (by decide)) (Or.inl q697) rfl dX6_minute_31 ?_
          refine lv_ldc hx hb hown (hts _ q898) dX6_minute_34 ?_
          refine lv_icmp_lt (tgt := 74) hx hb dX6_minute_36 (by decide) (fun c3 => ?_) (fun c3 => ?_)
          · have e0 : (x_w_minute_R30 S t) = S_30 := Eq.trans (Eq.symm hE) (Eq.trans (x_w_minute_L30_s _ _ _) (if_pos c3))
            exact K30 _ _ _ ((by rw [e0]; exact hJ)) ((by rw [e0]; exact hM)) (by rw [e0]; exact hR) hS (lv_sub hl [0] rfl)
          · refine lv_aload_n hx hb dX6_minute_39 rfl (lv_at hl 0 rfl) ?_
            refine xgw X hR (x_lvw (ht) (by show ¬ S_30.2.2.2 5 t = 0; rw [hM]; exact h5)) 3 (Or.inl (by decide)) (Or.inl q701) rfl dX6_minute_40 ?_
            refine lv_if_le (tgt := 74) hx hb dX6_minute_43 (by decide) (fun c4 => ?_) (fun c4 => ?_)
            · have e0 : (x_w_minute_R30 S t) = S_30 := Eq.trans (Eq.symm hE) (Eq.trans (x_w_minute_L30_s _ _ _) (Eq.trans (if_neg c3) (if_pos c4)))
              exact K30 _ _ _ ((by rw [e0]; exact hJ)) ((by rw [e0]; exact hM)) (by rw [e0]; exact hR) hS (lv_sub hl [0] rfl)
            · refine lv_aload_n hx hb dX6_minute_46 rfl (lv_at hl 0 rfl) ?_
              refine lv_dup hx hb dX6_minute_47 rfl ?_
              refine xgw X hR (x_lvw (ht) (by show ¬ S_30.2.2.2 5 t = 0; rw [hM]; exact h5)) 1 (Or.inl (by decide)) (Or.inl q697) rfl dX6_minute_48 ?_
              refine lv_ldc hx hb hown (hts _ q898) dX6_minute_51 ?_
              refine lv_isub hx hb dX6_minute_53 ?_
              refine xpw X hR hS (x_lvw (ht) (by show ¬ S_30.2.2.2 5 t = 0; rw [hM]; exact h5)) 1 (Or.inl (by decide)) rfl (Or.inl q697) rfl dX6_minute_54 (fun H locs hR hS => ?_)
              refine lv_aload_n hx hb dX6_minute_57 rfl (lv_at hl 0 rfl) ?_
              refine lv_dup hx hb dX6_minute_58 rfl ?_
              refine xgw X hR (x_lvw (ht) (by show ¬ S_30.2.2.2 5 t = 0; rw [hM]; exact h5)) 3 (Or.inl (by decide)) (Or.inl q701) ((xu_k _ (by decide) _ _ _).trans rfl) dX6_minute_59 ?_
              refine lv_iconst (v := 1) hx hb dX6_minute_62 (by decide) ?_
              refine lv_isub hx hb dX6_minute_63 ?_
              refine xpw X hR hS (x_lvw (ht) (by show ¬ S_30.2.2.2 5 t = 0; rw [hM]; exact h5)) 3 (Or.inl (by decide)) rfl (Or.inl q701) rfl dX6_minute_64 (fun H locs hR hS => ?_)
              refine lv_aload_n hx hb dX6_minute_67 rfl (lv_at hl 0 rfl) ?_
              refine x_bv hS (xr_V X hR (x_lvw (ht) (by show ¬ S_30.2.2.2 5 t = 0; rw [hM]; exact h5)) (ci := 6) (fs := x_tw ad (xu (xu S_30 61 t ((S_30.1 61 t) - 86400)) 63 t ((S_30.1 63 t) - 1)) t) rfl rfl (xt_w_forward l D d A ad (xu (xu S_30 61 t ((S_30.1 61 t) - 86400)) 63 t ((S_30.1 63 t) - 1)) t ((XInv_xu (XInv_xu hJ _ _ _ (by decide)) _ _ _ (by decide))) (ht) (by show ¬ S_30.2.2.2 5 t = 0; rw [hM]; exact h5)) 0 (lw_V q899 q771 q772 q77 q773) ⟨rfl, rfl⟩ (by decide +kernel) ⟨by decide, by decide⟩ ⟨by decide, by decide⟩ rfl hl.1 rfl (Nat.le_of_ble_eq_true rfl) dX6_minute_68) (fun H locs hR hS => ?_)
              have hN68 : (x_w_forward (xu (xu S_30 61 t ((S_30.1 61 t) - 86400)) 63 t ((S_30.1 63 t) - 1)) t).2.2.2 = S_30.2.2.2 := x_w_forward_N (xu (xu S_30 61 t ((S_30.1 61 t) - 86400)) 63 t ((S_30.1 63 t) - 1)) t
              have hI68 : XInv (x_w_forward (xu (xu S_30 61 t ((S_30.1 61 t) - 86400)) 63 t ((S_30.1 63 t) - 1)) t) := x_w_forward_inv (xu (xu S_30 61 t ((S_30.1 61 t) - 86400)) 63 t ((S_30.1 63 t) - 1)) t ((XInv_xu (XInv_xu hJ _ _ _ (by decide)) _ _ _ (by decide))) (ht) (by show ¬ S_30.2.2.2 5 t = 0; rw [hM]; exact h5)
              refine lv_goto (tgt := 30) hx hb dX6_minute_71 (by decide) ?_
              exact ih (x_w_forward (xu (xu S_30 61 t ((S_30.1 61 t) - 86400)) 63 t ((S_30.1 63 t) - 1)) t) _ _  _ (by rw [x_w_forward_63, xu_self]; exact Nat.lt_of_lt_of_le (dn_ (by assumption)) (Nat.le_of_lt_succ hf)) (hI68) ((hN68.trans hM)) (Eq.trans (Eq.symm (Eq.trans (x_w_minute_L30_s _ _ _) (Eq.trans (if_neg c3) (if_neg c4)))) hE) hR hS (lv_sub hl [0] rfl)
      exact L30 _ (xu S 61 t ((S.1 61 t) + (86400 + (S.1 62 t)))) _ _  _ (fz_lt _) ((XInv_xu hI _ _ _ (by decide))) (rfl) rfl hR hS (lv_sub hl [0] rfl)
def x_w_exact (S : XS) (t : Nat) : Int64 := (((Int32.toInt64 (S.1 60 t)) * 86400) + (Int32.toInt64 (S.1 61 t)))
set_option maxHeartbeats 4000000 in
theorem xt_w_exact (l : Launch) (D : va_G) (d : Nat → ClassId) (A : Nat → Prop) (ad : XK → Nat) (S : XS) (t : Nat) (hI : XInv S) (ht : t < 4) (h5 : ¬ S.2.2.2 5 t = 0) : XL l yX6_exact cX6_exact 1 (rm_ 0) D d A ad S [.ref (ad (70, t))] ((x_w_exact S t), S) := by
  refine x_startL RX6 rfl (by decide) (Nat.le_of_ble_eq_true rfl) ?_
  intro p e s m av below meth c ls Q X hrt hlk hl hR hQ
  have hx := X.1.1.1
  have hb := X.1.1.2.1
  have hown := X.1.1.2.2.2.1
  have hts := X.1.1.2.2.2.2
  have hS : va_S A s.heap s.heap [] := va_S.rf
  have hl : lv_has ls 1 [(0, .ref (ad (70, t)))] := hl
  refine lv_aload_n hx hb dX6_exact_0 rfl (lv_at hl 0 rfl) ?_
  refine xgw X hR (x_lvw (ht) (h5)) 0 (Or.inl (by decide)) (Or.inl q695) rfl dX6_exact_1 ?_
  refine lv_i2l hx hb dX6_exact_4 rfl ?_
  refine lv_ldc2 hx hb hown (hts _ q943) dX6_exact_5 ?_
  refine lv_lmul hx hb dX6_exact_8 ?_
  refine lv_aload_n hx hb dX6_exact_9 rfl (lv_at hl 0 rfl) ?_
  refine xgw X hR (x_lvw (ht) (h5)) 1 (Or.inl (by decide)) (Or.inl q697) rfl dX6_exact_10 ?_
  refine lv_i2l hx hb dX6_exact_13 rfl ?_
  refine lv_ladd hx hb dX6_exact_14 ?_
  exact x_rl hx hb hrt hlk hR hS hQ (hF1 rfl) dX6_exact_15
