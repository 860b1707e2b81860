/-! PRINTED by gen/run_x16.py -/
set_option maxRecDepth 100000
theorem x_row8 {x : Int32} (h : ¬ (x_isRow x) = 0) : 0 ≤ x ∧ x < 8 := by
  simp only [x_in_eq, x_isRow_eq] at h
  simp only [i_le, i_lt, i_eq, Int32.reduceToInt] at *
  omega
theorem xa_preS {s : State} {H : Heap} {D : va_G} {A : Nat → Prop} {d : Nat → ClassId} {ad : XK → Nat} {X : XS} (hK : va_K D vwCl (dd_T d) s) (hE : XE d s) (hR : XR D d A ad X H) (hA : ∀ q, H.size ≤ q → A q) {As : List Value} : PreS s H (xPa D d A ad X As) As := ⟨xa_blind, fun U hU hW => ⟨rfl, by rw [hU]; exact hR, va_K.moved hW.alike hK, hE.moved hW, by rw [hU]; exact hA⟩⟩
theorem xstr_9 (S : XS) (r : Nat) : (x_strokes S r).2.2.2 9 0 ≠ 0 := by
  unfold x_strokes
  rw [xsn_9]
  decide
def x_plate (S : XS) (x1 : Int32) : Int32 × XS := if x_isRow x1 = 0 then (-1, S) else if S.1 5 0 = 16 then (-2, S) else if S.2.2.2 3 (Int32.toNatClampNeg x1) = 0 then x_found S 1 else if x_good S (Int32.toNatClampNeg x1) = 0 then x_found S 5 else x_comes (xtr (x_strokes S (Int32.toNatClampNeg x1)) 1 (S.1 5 0))
set_option maxHeartbeats 4000000 in
theorem xt_plate (l : Launch) (D : va_G) (d : Nat → ClassId) (A : Nat → Prop) (ad : XK → Nat) (S : XS) (x1 : Int32) (hI : XInv S) (hq : XQ S) : XIa l yX0_plate cX0_plate 3 .int (rmc_ 4 2 62) D d A ad S [.ref (ad (0, 0)), .int x1] (x_plate S x1) 2 62 := by
  refine x_startIa RX0 rfl (by decide) (Nat.le_of_ble_eq_true rfl) ?_
  intro p e s m av below meth c ls Q X hrt hlk hl hR hA hQ
  have hx := X.1.1.1
  have hb := X.1.1.2.1
  have hown := X.1.1.2.2.2.1
  have hts := X.1.1.2.2.2.2
  have hS : va_S A s.heap s.heap [] := va_S.rf
  have hl : lv_has ls 3 [(0, .ref (ad (0, 0))), (1, .int x1)] := hl
  refine lv_iload_n hx hb dX0_plate_0 rfl (lv_at hl 1 rfl) ?_
  refine s_ci X.1.1 (st_x_isRow l x1) 1 (lw_S q277 q278 q58 q279) ⟨rfl, rfl⟩ (by decide +kernel) ⟨by decide, by decide⟩ ⟨by decide, by decide⟩ rfl hl.1 rfl (Nat.le_of_ble_eq_true rfl) dX0_plate_1 ?_
  refine lv_if_ne (tgt := 9) hx hb dX0_plate_4 (by decide) (fun c1 => ?_) (fun c1 => ?_)
  · refine lv_aload_n hx hb dX0_plate_9 rfl (lv_at hl 0 rfl) ?_
    refine xg_i X.1 hR 5 (by decide) rfl q101 rfl dX0_plate_10 ?_
    refine lv_bipush (v := 16) hx hb dX0_plate_13 (by decide) ?_
    refine lv_icmp_ne (tgt := 21) hx hb dX0_plate_15 (by decide) (fun c2 => ?_) (fun c2 => ?_)
    · refine lv_aload_n hx hb dX0_plate_21 rfl (lv_at hl 0 rfl) ?_
      refine xg_a X.1 hR 3 (by decide) (by decide) q99 dX0_plate_22 ?_
      refine lv_iload_n hx hb dX0_plate_25 rfl (lv_at hl 1 rfl) ?_
      refine x_ldRB X hR (ixl 8 8 (by decide) rfl (x_row8 c1)) dX0_plate_26 (fun c3 => ?_) (fun c3 => ?_)
      · refine lv_ifnonnullN hx hb dX0_plate_27 ?_
        refine lv_aload_n hx hb dX0_plate_30 rfl (lv_at hl 0 rfl) ?_
        refine lv_iconst (v := 1) hx hb dX0_plate_31 (by decide) ?_
        refine x_bi hS (xr_V X hR x_lv0 (ci := 0) (fs := x_fs ad S) rfl rfl (xt_found l D d A ad S 1 (by decide)) 1 (lw_V q283 q285 qs2 q58 q286) ⟨rfl, rfl⟩ (by decide +kernel) ⟨by decide, by decide⟩ ⟨by decide, by decide⟩ rfl hl.1 rfl (Nat.le_of_ble_eq_true rfl) dX0_plate_32) (fun H locs hR hS => ?_)
        exact x_riA hx hb hrt rfl hlk hR rfl hS hQ ((if_neg c1).trans ((if_neg c2).trans (if_pos c3))) ⟨by decide, by decide⟩ dX0_plate_35
      · refine lv_ifnonnull (tgt := 36) hx hb dX0_plate_27 (by decide) ?_
        refine lv_aload_n hx hb dX0_plate_36 rfl (lv_at hl 0 rfl) ?_
        refine xg_a X.1 hR 3 (by decide) (by decide) q99 dX0_plate_37 ?_
        refine lv_iload_n hx hb dX0_plate_40 rfl (lv_at hl 1 rfl) ?_
        refine x_ldR X hR (ixl 8 8 (by decide) rfl (x_row8 c1)) c3 dX0_plate_41 ?_
        refine va_callq (va_runS (As := [.ref (ad (30, (Int32.toNatClampNeg x1)))]) (rest := []) X.1.1 (xt_strokes l D d A ad S (Int32.toNatClampNeg x1) hI (tn8 (x_row8 c1)) c3 hq.1 hq.2.1) (va_cwS 1 hts (lw_S q420 q421 q58 q422) rfl rfl rfl (by decide +kernel) ⟨by decide, by decide⟩) (xa_preS X.1.2 X.2 hR (fun x h => hA x (Nat.le_trans hS.1 h))) rfl rfl hl.1 rfl (lv_room (Nat.le_of_ble_eq_true rfl)) dX0_plate_42 ⟨by decide, by decide⟩) hS (fun _ _ h => h) (fun _ h => h) fun o1 u t H1 locs1 ht hvm hw hB hz hk1 hS => ?_
        by_cases c4 : x_good S (Int32.toNatClampNeg x1) = 0
        · obtain ⟨rfl, rfl⟩ := hw.1 c4
          have hR : XR D d A ad S H1 := by rw [← ht]; exact hB
          refine lv_astore_nN (lv' := [(2, .null), (0, .ref (ad (0, 0))), (1, .int x1)]) hx hb dX0_plate_45 rfl hl (by decide) rfl (fun ls hl => ?_)
          refine lv_aload_nN hx hb dX0_plate_46 rfl (lv_at hl 0 rfl) ?_
          refine lv_ifnonnullN hx hb dX0_plate_47 ?_
          refine lv_aload_n hx hb dX0_plate_50 rfl (lv_at hl 1 rfl) ?_
          refine lv_iconst (v := 5) hx hb dX0_plate_51 (by decide) ?_
          refine x_bi hS (xr_V X hR x_lv0 (ci := 0) (fs := x_fs ad S) rfl rfl (xt_found l D d A ad S 5 (by decide)) 1 (lw_V q283 q285 qs2 q58 q286) ⟨rfl, rfl⟩ (by decide +kernel) ⟨by decide, by decide⟩ ⟨by decide, by decide⟩ rfl hl.1 rfl (Nat.le_of_ble_eq_true rfl) dX0_plate_52) (fun H locs hR hS => ?_)
          refine lv_goto (tgt := 75) hx hb dX0_plate_55 (by decide) ?_
          exact x_riA hx hb hrt rfl hlk hR rfl hS hQ ((if_neg c1).trans ((if_neg c2).trans ((if_neg c3).trans (if_pos c4)))) ⟨by decide, by decide⟩ dX0_plate_75
        · obtain ⟨q1, rfl, rfl⟩ := hw.2 c4
          have hR : XR D d A (adU ad (41, S.2.2.2 7 0) q1) (x_strokes S (Int32.toNatClampNeg x1)) H1 := by rw [← ht]; exact hB
          obtain ⟨ad1, had⟩ : ∃ ad1, ad1 = adU ad (41, S.2.2.2 7 0) q1 := ⟨_, rfl⟩
          have e1 : q1 = ad1 (41, S.2.2.2 7 0) := by rw [had, adU_self]
          have e2 : ad (0, 0) = ad1 (0, 0) := by rw [had, adU_s _ _ (by decide)]
          rw [← had] at hR
          rw [e2] at hl
          refine lv_astore_n (lv' := [(2, .ref q1), (0, .ref (ad1 (0, 0))), (1, .int x1)]) hx hb dX0_plate_45 rfl hl (by decide) rfl (fun ls hl => ?_)
          rw [e1] at hl
          refine lv_aload_n hx hb dX0_plate_46 rfl (lv_at hl 0 rfl) ?_
          refine lv_ifnonnull (tgt := 58) hx hb dX0_plate_47 (by decide) ?_
          have h8 : (x_strokes S (Int32.toNatClampNeg x1)).2.2.2 8 0 = 0 := hq.1
          have ho : ∀ p, p < 8 → (x_strokes S (Int32.toNatClampNeg x1)).2.2.2 4 p ≤ (x_strokes S (Int32.toNatClampNeg x1)).2.2.2 7 0 := hI.1.2.2.1
          have h5 : (x_strokes S (Int32.toNatClampNeg x1)).1 5 0 = nI ((x_strokes S (Int32.toNatClampNeg x1)).2.2.2 7 0) := hI.2.1
          have hm : (x_strokes S (Int32.toNatClampNeg x1)).2.2.2 7 0 < 16 := x_m16 (X := S) hI c2
          refine lv_aload_n hx hb dX0_plate_58 rfl (lv_at hl 1 rfl) ?_
          refine x_new X hS hA (ci := 3) (CN := RX3) (T := TT3) (N := 12) rfl in_T3 ty_T3 q423 q424 q70 [.int 0, .int 0, .int 0, .int 0, .int 0, .int 0, .int 0, .int 0, .int 0, .int 0, .null, .int 0] (by decide +kernel) ⟨by decide, by decide⟩ dX0_plate_59 fun q H1 hqz hAq hk hqo hS => ?_
          have hR1 := hR.beside hk
          refine lv_dup hx hb dX0_plate_62 rfl ?_
          refine lv_aload_n hx hb dX0_plate_63 rfl (lv_at hl 1 rfl) ?_
          refine lv_aload_n hx hb dX0_plate_64 rfl (lv_at hl 1 rfl) ?_
          refine xg_i X.1 hR1 5 (by decide) rfl q101 rfl dX0_plate_65 ?_
          refine lv_aload_n hx hb dX0_plate_68 rfl (lv_at hl 0 rfl) ?_
          refine x_ctor X hR h8 (ho) (kd := 1) (n := S.1 5 0) hqz hAq hk hqo hS (As := [.ref (ad1 (0, 0)), .int (S.1 5 0), .ref (ad1 (41, S.2.2.2 7 0))]) (o_plate3 l D d q (ad1 (0, 0)) (S.1 5 0) (ad1 (41, S.2.2.2 7 0)) [.int 0, .int 0, .int 0, .int 0, .int 0, .int 0, .int 0, .int 0, .int 0, .int 0, .null, .int 0] (by decide)) rfl (by rw [xtr_tf, x_te1, adU_s _ _ (by decide)]; rfl) 3 q425 q426 q70 q427 ⟨rfl, rfl⟩ rfl ⟨by decide, by decide, rfl⟩ ⟨by decide, by decide⟩ ⟨by decide, by decide⟩ rfl hl.1 rfl (Nat.le_of_ble_eq_true rfl) dX0_plate_69 fun H locs hR hS => ?_
          exact x_tail X hR hS e2.symm h5 hm (by decide) (fun _ => xstr_9 S _) (fun h => absurd h (by decide)) hrt hlk hQ ((if_neg c1).trans ((if_neg c2).trans ((if_neg c3).trans (if_neg c4)))) ⟨by decide, by decide⟩ ⟨by decide, by decide⟩ ⟨by decide, by decide⟩ hl.1 dX0_plate_72 dX0_plate_75
    · refine lv_bipush (v := (-2)) hx hb dX0_plate_18 (by decide) ?_
      exact x_riA hx hb hrt rfl hlk hR rfl hS hQ ((if_neg c1).trans (if_pos c2)) ⟨by decide, by decide⟩ dX0_plate_20
  · refine lv_iconst (v := (-1)) hx hb dX0_plate_7 (by decide) ?_
    exact x_riA hx hb hrt rfl hlk hR rfl hS hQ (if_pos c1) ⟨by decide, by decide⟩ dX0_plate_8
def x_snail (S : XS) (x1 : Int32) : Int32 × XS := if x_isRow x1 = 0 then (-1, S) else if S.1 5 0 = 16 then (-2, S) else if S.2.2.2 3 (Int32.toNatClampNeg x1) = 0 then x_found S 1 else if x_good S (Int32.toNatClampNeg x1) = 0 then x_found S 5 else x_comes (xtr (x_strokes S (Int32.toNatClampNeg x1)) 2 (S.1 5 0))
set_option maxHeartbeats 4000000 in
theorem xt_snail (l : Launch) (D : va_G) (d : Nat → ClassId) (A : Nat → Prop) (ad : XK → Nat) (S : XS) (x1 : Int32) (hI : XInv S) (hq : XQ S) : XIa l yX0_snail cX0_snail 3 .int (rmc_ 4 2 61) D d A ad S [.ref (ad (0, 0)), .int x1] (x_snail S x1) 2 61 := by
  refine x_startIa RX0 rfl (by decide) (Nat.le_of_ble_eq_true rfl) ?_
  intro p e s m av below meth c ls Q X hrt hlk hl hR hA hQ
  have hx := X.1.1.1
  have hb := X.1.1.2.1
  have hown := X.1.1.2.2.2.1
  have hts := X.1.1.2.2.2.2
  have hS : va_S A s.heap s.heap [] := va_S.rf
  have hl : lv_has ls 3 [(0, .ref (ad (0, 0))), (1, .int x1)] := hl
  refine lv_iload_n hx hb dX0_snail_0 rfl (lv_at hl 1 rfl) ?_
  refine s_ci X.1.1 (st_x_isRow l x1) 1 (lw_S q277 q278 q58 q279) ⟨rfl, rfl⟩ (by decide +kernel) ⟨by decide, by decide⟩ ⟨by decide, by decide⟩ rfl hl.1 rfl (Nat.le_of_ble_eq_true rfl) dX0_snail_1 ?_
  refine lv_if_ne (tgt := 9) hx hb dX0_snail_4 (by decide) (fun c1 => ?_) (fun c1 => ?_)
  · refine lv_aload_n hx hb dX0_snail_9 rfl (lv_at hl 0 rfl) ?_
    refine xg_i X.1 hR 5 (by decide) rfl q101 rfl dX0_snail_10 ?_
    refine lv_bipush (v := 16) hx hb dX0_snail_13 (by decide) ?_
    refine lv_icmp_ne (tgt := 21) hx hb dX0_snail_15 (by decide) (fun c2 => ?_) (fun c2 => ?_)
    · refine lv_aload_n hx hb dX0_snail_21 rfl (lv_at hl 0 rfl) ?_
      refine xg_a X.1 hR 3 (by decide) (by decide) q99 dX0_snail_22 ?_
      refine lv_iload_n hx hb dX0_snail_25 rfl (lv_at hl 1 rfl) ?_
      refine x_ldRB X hR (ixl 8 8 (by decide) rfl (x_row8 c1)) dX0_snail_26 (fun c3 => ?_) (fun c3 => ?_)
      · refine lv_ifnonnullN hx hb dX0_snail_27 ?_
        refine lv_aload_n hx hb dX0_snail_30 rfl (lv_at hl 0 rfl) ?_
        refine lv_iconst (v := 1) hx hb dX0_snail_31 (by decide) ?_
        refine x_bi hS (xr_V X hR x_lv0 (ci := 0) (fs := x_fs ad S) rfl rfl (xt_found l D d A ad S 1 (by decide)) 1 (lw_V q283 q285 qs2 q58 q286) ⟨rfl, rfl⟩ (by decide +kernel) ⟨by decide, by decide⟩ ⟨by decide, by decide⟩ rfl hl.1 rfl (Nat.le_of_ble_eq_true rfl) dX0_snail_32) (fun H locs hR hS => ?_)
        exact x_riA hx hb hrt rfl hlk hR rfl hS hQ ((if_neg c1).trans ((if_neg c2).trans (if_pos c3))) ⟨by decide, by decide⟩ dX0_snail_35
      · refine lv_ifnonnull (tgt := 36) hx hb dX0_snail_27 (by decide) ?_
        refine lv_aload_n hx hb dX0_snail_36 rfl (lv_at hl 0 rfl) ?_
        refine xg_a X.1 hR 3 (by decide) (by decide) q99 dX0_snail_37 ?_
        refine lv_iload_n hx hb dX0_snail_40 rfl (lv_at hl 1 rfl) ?_
        refine x_ldR X hR (ixl 8 8 (by decide) rfl (x_row8 c1)) c3 dX0_snail_41 ?_
        refine va_callq (va_runS (As := [.ref (ad (30, (Int32.toNatClampNeg x1)))]) (rest := []) X.1.1 (xt_strokes l D d A ad S (Int32.toNatClampNeg x1) hI (tn8 (x_row8 c1)) c3 hq.1 hq.2.1) (va_cwS 1 hts (lw_S q420 q421 q58 q422) rfl rfl rfl (by decide +kernel) ⟨by decide, by decide⟩) (xa_preS X.1.2 X.2 hR (fun x h => hA x (Nat.le_trans hS.1 h))) rfl rfl hl.1 rfl (lv_room (Nat.le_of_ble_eq_true rfl)) dX0_snail_42 ⟨by decide, by decide⟩) hS (fun _ _ h => h) (fun _ h => h) fun o1 u t H1 locs1 ht hvm hw hB hz hk1 hS => ?_
        by_cases c4 : x_good S (Int32.toNatClampNeg x1) = 0
        · obtain ⟨rfl, rfl⟩ := hw.1 c4
          have hR : XR D d A ad S H1 := by rw [← ht]; exact hB
          refine lv_astore_nN (lv' := [(2, .null), (0, .ref (ad (0, 0))), (1, .int x1)]) hx hb dX0_snail_45 rfl hl (by decide) rfl (fun ls hl => ?_)
          refine lv_aload_nN hx hb dX0_snail_46 rfl (lv_at hl 0 rfl) ?_
          refine lv_ifnonnullN hx hb dX0_snail_47 ?_
          refine lv_aload_n hx hb dX0_snail_50 rfl (lv_at hl 1 rfl) ?_
          refine lv_iconst (v := 5) hx hb dX0_snail_51 (by decide) ?_
          refine x_bi hS (xr_V X hR x_lv0 (ci := 0) (fs := x_fs ad S) rfl rfl (xt_found l D d A ad S 5 (by decide)) 1 (lw_V q283 q285 qs2 q58 q286) ⟨rfl, rfl⟩ (by decide +kernel) ⟨by decide, by decide⟩ ⟨by decide, by decide⟩ rfl hl.1 rfl (Nat.le_of_ble_eq_true rfl) dX0_snail_52) (fun H locs hR hS => ?_)
          refine lv_goto (tgt := 75) hx hb dX0_snail_55 (by decide) ?_
          exact x_riA hx hb hrt rfl hlk hR rfl hS hQ ((if_neg c1).trans ((if_neg c2).trans ((if_neg c3).trans (if_pos c4)))) ⟨by decide, by decide⟩ dX0_snail_75
        · obtain ⟨q1, rfl, rfl⟩ := hw.2 c4
          have hR : XR D d A (adU ad (41, S.2.2.2 7 0) q1) (x_strokes S (Int32.toNatClampNeg x1)) H1 := by rw [← ht]; exact hB
          obtain ⟨ad1, had⟩ : ∃ ad1, ad1 = adU ad (41, S.2.2.2 7 0) q1 := ⟨_, rfl⟩
          have e1 : q1 = ad1 (41, S.2.2.2 7 0) := by rw [had, adU_self]
          have e2 : ad (0, 0) = ad1 (0, 0) := by rw [had, adU_s _ _ (by decide)]
          rw [← had] at hR
          rw [e2] at hl
          refine lv_astore_n (lv' := [(2, .ref q1), (0, .ref (ad1 (0, 0))), (1, .int x1)]) hx hb dX0_snail_45 rfl hl (by decide) rfl (fun ls hl => ?_)
          rw [e1] at hl
          refine lv_aload_n hx hb dX0_snail_46 rfl (lv_at hl 0 rfl) ?_
          refine lv_ifnonnull (tgt := 58) hx hb dX0_snail_47 (by decide) ?_
          have h8 : (x_strokes S (Int32.toNatClampNeg x1)).2.2.2 8 0 = 0 := hq.1
          have ho : ∀ p, p < 8 → (x_strokes S (Int32.toNatClampNeg x1)).2.2.2 4 p ≤ (x_strokes S (Int32.toNatClampNeg x1)).2.2.2 7 0 := hI.1.2.2.1
          have h5 : (x_strokes S (Int32.toNatClampNeg x1)).1 5 0 = nI ((x_strokes S (Int32.toNatClampNeg x1)).2.2.2 7 0) := hI.2.1
          have hm : (x_strokes S (Int32.toNatClampNeg x1)).2.2.2 7 0 < 16 := x_m16 (X := S) hI c2
          refine lv_aload_n hx hb dX0_snail_58 rfl (lv_at hl 1 rfl) ?_
          refine x_new X hS hA (ci := 4) (CN := RX4) (T := TT4) (N := 11) rfl in_T4 ty_T4 q455 q456 q71 [.int 0, .int 0, .int 0, .int 0, .int 0, .int 0, .int 0, .int 0, .int 0, .int 0, .null] (by decide +kernel) ⟨by decide, by decide⟩ dX0_snail_59 fun q H1 hqz hAq hk hqo hS => ?_
          have hR1 := hR.beside hk
          refine lv_dup hx hb dX0_snail_62 rfl ?_
          refine lv_aload_n hx hb dX0_snail_63 rfl (lv_at hl 1 rfl) ?_
          refine lv_aload_n hx hb dX0_snail_64 rfl (lv_at hl 1 rfl) ?_
          refine xg_i X.1 hR1 5 (by decide) rfl q101 rfl dX0_snail_65 ?_
          refine lv_aload_n hx hb dX0_snail_68 rfl (lv_at hl 0 rfl) ?_
          refine x_ctor X hR h8 (ho) (kd := 2) (n := S.1 5 0) hqz hAq hk hqo hS (As := [.ref (ad1 (0, 0)), .int (S.1 5 0), .ref (ad1 (41, S.2.2.2 7 0))]) (o_snail4 l D d q (ad1 (0, 0)) (S.1 5 0) (ad1 (41, S.2.2.2 7 0)) [.int 0, .int 0, .int 0, .int 0, .int 0, .int 0, .int 0, .int 0, .int 0, .int 0, .null] (by decide)) rfl (by rw [xtr_tf, x_te2, adU_s _ _ (by decide)]; rfl) 3 q457 q458 q71 q459 ⟨rfl, rfl⟩ rfl ⟨by decide, by decide, rfl⟩ ⟨by decide, by decide⟩ ⟨by decide, by decide⟩ rfl hl.1 rfl (Nat.le_of_ble_eq_true rfl) dX0_snail_69 fun H locs hR hS => ?_
          exact x_tail X hR hS e2.symm h5 hm (by decide) (fun _ => xstr_9 S _) (fun h => absurd h (by decide)) hrt hlk hQ ((if_neg c1).trans ((if_neg c2).trans ((if_neg c3).trans (if_neg c4)))) ⟨by decide, by decide⟩ ⟨by decide, by decide⟩ ⟨by decide, by decide⟩ hl.1 dX0_snail_72 dX0_snail_75
    · refine lv_bipush (v := (-2)) hx hb dX0_snail_18 (by decide) ?_
      exact x_riA hx hb hrt rfl hlk hR rfl hS hQ ((if_neg c1).trans (if_pos c2)) ⟨by decide, by decide⟩ dX0_snail_20
  · refine lv_iconst (v := (-1)) hx hb dX0_snail_7 (by decide) ?_
    exact x_riA hx hb hrt rfl hlk hR rfl hS hQ (if_pos c1) ⟨by decide, by decide⟩ dX0_snail_8
