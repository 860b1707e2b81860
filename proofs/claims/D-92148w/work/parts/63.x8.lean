/-! PRINTED by gen/run_x8.py -/
set_option maxRecDepth 100000
theorem XInv_wheel {X : XS} (hI : XInv X) (i : Nat) (v w : Int32) (hi : i = (X.1 20 0).toNatClampNeg) (hv : 6 ≤ v ∧ v ≤ 200) (hw : w = X.1 20 0 + 1) (h12 : ¬ X.1 20 0 = 12) : XInv (xu (xu X 21 i v) 20 0 w) := by
  obtain ⟨a1, a2, a3, a4, a5, a6, a7, a8, a9, a10, a11⟩ := hI
  subst hi hw
  have e : (X.1 20 0 + 1).toInt = (X.1 20 0).toInt + 1 := by
    rw [a32] <;> simp only [i_le, i_eq, Int32.reduceToInt] at * <;> omega
  refine ⟨a1, a2, a3, a4, a5, ?_, a7, a8, a9, a10, fun n hn h2 => ?_⟩
  · rw [xu_self]
    simp only [i_le, i_eq, Int32.reduceToInt] at *
    omega
  · rw [xu_self] at h2
    show 6 ≤ (xu (xu X 21 _ v) 20 0 _).1 21 n ∧ (xu (xu X 21 _ v) 20 0 _).1 21 n ≤ 200
    rw [xu_k _ (show 21 ≠ 20 by decide)]
    by_cases h : n = (X.1 20 0).toNatClampNeg
    · subst h; rw [xu_self]; exact hv
    · rw [xu_i _ _ h]
      refine a11 n hn ?_
      have e2 := nI_toInt (n := n) (by omega)
      simp only [i_lt, i_le, e, e2, Int32.reduceToInt] at *
      have : ((X.1 20 0).toNatClampNeg : Int) = (X.1 20 0).toInt := by show (((X.1 20 0).toInt.toNat : Nat) : Int) = _; omega
      omega
theorem x_wheel_o3 (S : XS) (x1 : Int32) (hI : XInv S) (hW : 0 ≤ S.1 20 0 ∧ S.1 20 0 ≤ 12) (c1 : ¬ (x_in x1 6 200) = 0) (c2 : ¬ (S.1 20 0) = 12) : 0 ≤ (S.1 20 0) ∧ (S.1 20 0) < 12 := by 
  have bl_x1 := Int32.toInt_lt x1
  try simp only [x_in_eq] at *
  try simp only [i_le, i_lt, i_eq, Int32.reduceToInt] at *
  try simp only [Int32.reduceToInt] at *
  omega
def x_wheel (S : XS) (x1 : Int32) : Int32 × XS := (if (x_in x1 6 200) = 0 then ((-1), S) else (if (S.1 20 0) = 12 then ((-2), S) else ((((S.1 20 0) + 1) - 1), (xu (xu S 21 (Int32.toNatClampNeg (S.1 20 0)) x1) 20 0 ((S.1 20 0) + 1)))))
theorem x_wheel_N (S : XS) (x1 : Int32) : (x_wheel S x1).2.2.2.2 = S.2.2.2 := by
  unfold x_wheel
  refine ifI (P := fun (z : Int32 × XS) => z.2.2.2.2 = S.2.2.2) (fun c1 => ?_) (fun c1 => ?_)
  · exact rfl
  · refine ifI (P := fun (z : Int32 × XS) => z.2.2.2.2 = S.2.2.2) (fun c2 => ?_) (fun c2 => ?_)
    · exact rfl
    · exact rfl
theorem x_wheel_inv (S : XS) (x1 : Int32) (hI : XInv S) : XInv (x_wheel S x1).2 := by
  have hW : 0 ≤ S.1 20 0 ∧ S.1 20 0 ≤ 12 := xi_wm hI
  unfold x_wheel
  refine ifI (P := fun (z : Int32 × XS) => XInv z.2) (fun c1 => hI) (fun c1 => ifI (P := fun (z : Int32 × XS) => XInv z.2) (fun c2 => hI) (fun c2 => ?_))
  rw [x_in_eq, Classical.not_not] at c1
  exact XInv_wheel hI _ _ _ rfl c1 rfl c2
set_option maxHeartbeats 4000000 in
theorem xt_wheel (l : Launch) (D : va_G) (d : Nat → ClassId) (A : Nat → Prop) (ad : XK → Nat) (S : XS) (x1 : Int32) (hI : XInv S) : XI l yX0_wheel cX0_wheel 2 .int (rm_ 1) D d A ad S [.ref (ad (0, 0)), .int x1] (x_wheel S x1) := by
  refine x_startI RX0 rfl (by decide) (Nat.le_of_ble_eq_true rfl) ?_
  intro p e s m av below meth c ls Q X hrt hlk hl hR hQ
  have hx := X.1.1.1
  have hb := X.1.1.2.1
  have hown := X.1.1.2.2.2.1
  have hts := X.1.1.2.2.2.2
  have hS : va_S A s.heap s.heap [] := va_S.rf
  have hl : lv_has ls 2 [(0, .ref (ad (0, 0))), (1, .int x1)] := hl
  have hW : 0 ≤ S.1 20 0 ∧ S.1 20 0 ≤ 12 := xi_wm hI
  refine lv_iload_n hx hb dX0_wheel_0 rfl (lv_at hl 1 rfl) ?_
  refine lv_bipush (v := 6) hx hb dX0_wheel_1 (by decide) ?_
  refine lv_sipush (v := 200) hx hb dX0_wheel_3 (by decide) ?_
  refine s_ci X.1.1 (st_x_in l x1 6 200) 3 (lw_S q280 q281 q58 q282) ⟨rfl, rfl⟩ (by decide +kernel) ⟨by decide, by decide⟩ ⟨by decide, by decide⟩ rfl hl.1 rfl (Nat.le_of_ble_eq_true rfl) dX0_wheel_6 ?_
  refine lv_if_ne (tgt := 14) hx hb dX0_wheel_9 (by decide) (fun c1 => ?_) (fun c1 => ?_)
  · refine lv_aload_n hx hb dX0_wheel_14 rfl (lv_at hl 0 rfl) ?_
    refine xg_i X.1 hR 20 (by decide) rfl q117 rfl dX0_wheel_15 ?_
    refine lv_bipush (v := 12) hx hb dX0_wheel_18 (by decide) ?_
    refine lv_icmp_ne (tgt := 26) hx hb dX0_wheel_20 (by decide) (fun c2 => ?_) (fun c2 => ?_)
    · refine lv_aload_n hx hb dX0_wheel_26 rfl (lv_at hl 0 rfl) ?_
      refine xg_a X.1 hR 21 (by decide) (by decide) q118 dX0_wheel_27 ?_
      refine lv_aload_n hx hb dX0_wheel_30 rfl (lv_at hl 0 rfl) ?_
      refine xg_i X.1 hR 20 (by decide) rfl q117 rfl dX0_wheel_31 ?_
      refine lv_iload_n hx hb dX0_wheel_34 rfl (lv_at hl 1 rfl) ?_
      refine x_st X.1 hR hS ⟨by decide, rfl⟩ (ixl 12 12 (by decide) rfl (x_wheel_o3 S x1 hI hW c1 c2)) dX0_wheel_35 (fun H locs hR hS => ?_)
      refine lv_aload_n hx hb dX0_wheel_36 rfl (lv_at hl 0 rfl) ?_
      refine lv_dup hx hb dX0_wheel_37 rfl ?_
      refine xg_i X.1 hR 20 (by decide) rfl q117 ((xu_k _ (by decide) _ _ _).trans rfl) dX0_wheel_38 ?_
      refine lv_iconst (v := 1) hx hb dX0_wheel_41 (by decide) ?_
      refine lv_iadd hx hb dX0_wheel_42 ?_
      refine xp_i X.1 hR hS 20 (by decide) rfl rfl rfl q117 dX0_wheel_43 (fun H locs hR hS => ?_)
      refine lv_aload_n hx hb dX0_wheel_46 rfl (lv_at hl 0 rfl) ?_
      refine xg_i X.1 hR 20 (by decide) rfl q117 (xu_self _ _ _ _) dX0_wheel_47 ?_
      refine lv_iconst (v := 1) hx hb dX0_wheel_50 (by decide) ?_
      refine lv_isub hx hb dX0_wheel_51 ?_
      exact x_ri hx hb hrt (rfl) hlk hR hS hQ (Eq.trans (if_neg c1) (if_neg c2)) dX0_wheel_52
    · refine lv_bipush (v := (-2)) hx hb dX0_wheel_23 (by decide) ?_
      exact x_ri hx hb hrt (rfl) hlk hR hS hQ (Eq.trans (if_neg c1) (if_pos c2)) dX0_wheel_25
  · refine lv_iconst (v := (-1)) hx hb dX0_wheel_12 (by decide) ?_
    exact x_ri hx hb hrt (rfl) hlk hR hS hQ (if_pos c1) dX0_wheel_13
def x_dayOf_j11_s0 (x2 : Int32) : Int32 := (if x2 = 0 then 24 else 96)
theorem x_dayOf_o5 (S : XS) (x1 : Nat) (x2 : Int32) (x3 : Int32) (y5_18 : Int32) (hI : XInv S) (hj : x1 < S.2.2.2 7 0) (hbf : 0 ≤ x3 ∧ x3 ≤ 90000000) (hi5 : 0 ≤ y5_18) (c4 : ¬ (x_dayOf_j11_s0 x2) ≤ y5_18) (hj11 : (x_dayOf_j11_s0 x2) ≤ 96) : 0 ≤ y5_18 ∧ y5_18 < 96 := by 
  have bl_x2 := Int32.toInt_lt x2
  have bl_x3 := Int32.toInt_lt x3
  have bl_y5_18 := Int32.toInt_lt y5_18
  try simp only [i_le, i_lt, i_eq, Int32.reduceToInt] at *
  try simp only [Int32.reduceToInt] at *
  omega
def x_dayOf_j43_s0 (x2 : Int32) (y5_18 : Int32) : Int32 := (if x2 = 0 then (y5_18 - y5_18 / 12 * 12) else (y5_18 - y5_18 / 4 * 4))
theorem x_dayOf_j11_le (k : Int32) : (x_dayOf_j11_s0 k) ≤ 96 := by
  unfold x_dayOf_j11_s0
  split <;> decide
theorem x_dayOf_j43_ok (x2 k : Int32) (h : 0 ≤ k) : 0 ≤ (x_dayOf_j43_s0 x2 k) ∧ (x_dayOf_j43_s0 x2 k) ≤ 100000000 := by
  unfold x_dayOf_j43_s0
  split
  · have := dv_ (x := k) (d := 12) h (by decide)
    simp only [i_le, i_lt, Int32.reduceToInt] at *
    omega
  · have := dv_ (x := k) (d := 4) h (by decide)
    simp only [i_le, i_lt, Int32.reduceToInt] at *
    omega
theorem x_dayOf_o9 (S : XS) (x1 : Nat) (x2 : Int32) (x3 : Int32) (y5_18 : Int32) (hI : XInv S) (hj : x1 < S.2.2.2 7 0) (hbf : 0 ≤ x3 ∧ x3 ≤ 90000000) (hi5 : 0 ≤ y5_18) (c4 : ¬ (x_dayOf_j11_s0 x2) ≤ y5_18) (hj11 : (x_dayOf_j11_s0 x2) ≤ 96) (hk5 : 0 ≤ y5_18 ∧ y5_18 < 96) (hj43 : 0 ≤ (x_dayOf_j43_s0 x2 y5_18) ∧ (x_dayOf_j43_s0 x2 y5_18) ≤ 100000000) : 0 ≤ (x3 + y5_18) ∧ (x3 + y5_18) ≤ 100000000 := by 
  have bl_x2 := Int32.toInt_lt x2
  have bl_x3 := Int32.toInt_lt x3
  have bl_y5_18 := Int32.toInt_lt y5_18
  try simp only [i_le, i_lt, i_eq, Int32.reduceToInt] at *
  first | (have e_0 := a32 (x := x3) (y := y5_18) (by (try simp only [Int32.reduceToInt]); omega); (try simp only [Int32.reduceToInt] at e_0)) | skip
  try simp only [Int32.reduceToInt] at *
  omega
def x_dayOf_v51 (S : XS) (x1 : Nat) (x2 : Int32) (x3 : Int32) (y4_18 : Int32) (y5_18 : Int32) : Int32 := (y4_18 + (xv_lets S x1 (x_dayOf_j43_s0 x2 y5_18) (x3 + y5_18)))
def x_dayOf_L18 (S : XS) (x1 : Nat) (x2 : Int32) (x3 : Int32) : Nat → Int32 → Int32 → Int32 × Int32
  | 0, y4_18, y5_18 => (y4_18, y5_18)
  | f18 + 1, y4_18, y5_18 => (if (x_dayOf_j11_s0 x2) ≤ y5_18 then (y4_18, y5_18) else (x_dayOf_L18 S x1 x2 x3 f18 (x_dayOf_v51 S x1 x2 x3 y4_18 y5_18) (y5_18 + 1)))
theorem x_dayOf_L18_s (S : XS) (x1 : Nat) (x2 : Int32) (x3 : Int32) (f18 : Nat) (y4_18 : Int32) (y5_18 : Int32) : x_dayOf_L18 S x1 x2 x3 (f18 + 1) y4_18 y5_18 = (if (x_dayOf_j11_s0 x2) ≤ y5_18 then (y4_18, y5_18) else (x_dayOf_L18 S x1 x2 x3 f18 (x_dayOf_v51 S x1 x2 x3 y4_18 y5_18) (y5_18 + 1))) := rfl
def x_dayOf_R18 (S : XS) (x1 : Nat) (x2 : Int32) (x3 : Int32) : Int32 × Int32 := x_dayOf_L18 S x1 x2 x3 (fz (((x_dayOf_j11_s0 x2) - 0 : Int32).toNatClampNeg + 1)) 0 0
theorem x_dayOf_o10 (S : XS) (x1 : Nat) (x2 : Int32) (x3 : Int32) (y5_18 : Int32) (hI : XInv S) (hj : x1 < S.2.2.2 7 0) (hbf : 0 ≤ x3 ∧ x3 ≤ 90000000) (hi5 : 0 ≤ y5_18) (c4 : ¬ (x_dayOf_j11_s0 x2) ≤ y5_18) (hj11 : (x_dayOf_j11_s0 x2) ≤ 96) (hk5 : 0 ≤ y5_18 ∧ y5_18 < 96) (hj43 : 0 ≤ (x_dayOf_j43_s0 x2 y5_18) ∧ (x_dayOf_j43_s0 x2 y5_18) ≤ 100000000) : 0 ≤ (y5_18 + 1) := by 
  have bl_x2 := Int32.toInt_lt x2
  have bl_x3 := Int32.toInt_lt x3
  have bl_y5_18 := Int32.toInt_lt y5_18
  try simp only [i_le, i_lt, i_eq, Int32.reduceToInt] at *
  first | (have e_0 := a32 (x := y5_18) (y := 1) (by (try simp only [Int32.reduceToInt]); omega); (try simp only [Int32.reduceToInt] at e_0)) | skip
  try simp only [Int32.reduceToInt] at *
  omega
theorem x_dayOf_o11 (S : XS) (x1 : Nat) (x2 : Int32) (x3 : Int32) (y5_18 : Int32) (hI : XInv S) (hj : x1 < S.2.2.2 7 0) (hbf : 0 ≤ x3 ∧ x3 ≤ 90000000) (hi5 : 0 ≤ y5_18) (c4 : ¬ (x_dayOf_j11_s0 x2) ≤ y5_18) (hj11 : (x_dayOf_j11_s0 x2) ≤ 96) (hk5 : 0 ≤ y5_18 ∧ y5_18 < 96) (hj43 : 0 ≤ (x_dayOf_j43_s0 x2 y5_18) ∧ (x_dayOf_j43_s0 x2 y5_18) ≤ 100000000) : y5_18 < (x_dayOf_j11_s0 x2) := by 
  have bl_x2 := Int32.toInt_lt x2
  have bl_x3 := Int32.toInt_lt x3
  have bl_y5_18 := Int32.toInt_lt y5_18
  try simp only [i_le, i_lt, i_eq, Int32.reduceToInt] at *
  try simp only [Int32.reduceToInt] at *
  omega
def x_dayOf (S : XS) (x1 : Nat) (x2 : Int32) (x3 : Int32) : Int32 := (x_dayOf_R18 S x1 x2 x3).1
set_option maxHeartbeats 4000000 in
theorem xt_dayOf (l : Launch) (D : va_G) (d : Nat → ClassId) (A : Nat → Prop) (ad : XK → Nat) (S : XS) (x1 : Nat) (x2 : Int32) (x3 : Int32) (hI : XInv S) (hj : x1 < S.2.2.2 7 0) (hbf : 0 ≤ x3 ∧ x3 ≤ 90000000) : XI l yX0_dayOf cX0_dayOf 6 .int (rm_ 1) D d A ad S [.ref (ad (40, x1)), .int x2, .int x3] ((x_dayOf S x1 x2 x3), S) := by
  refine x_startI RX0 rfl (by decide) (Nat.le_of_ble_eq_true rfl) ?_
  intro p e s m av below meth c ls Q X hrt hlk hl hR hQ
  have hx := X.1.1.1
  have hb := X.1.1.2.1
  have hown := X.1.1.2.2.2.1
  have hts := X.1.1.2.2.2.2
  have hS : va_S A s.heap s.heap [] := va_S.rf
  have hl : lv_has ls 6 [(0, .ref (ad (40, x1))), (1, .int x2), (2, .int x3)] := hl
  refine lv_iload_n hx hb dX0_dayOf_0 rfl (lv_at hl 1 rfl) ?_
  have J3 : ∀ (w2 : Int32) (H : Heap) (locs : List Loc) (ls : Array Slot), w2 = (x_dayOf_j11_s0 x2) → XR D d A ad S H → va_S A s.heap H locs → lv_has ls 6 [(0, .ref (ad (40, x1))), (1, .int x2), (2, .int x3)] → W p l e (rm_ 1) s m av below meth c H locs 0 0 Q (F0 m 11 ls [.int w2]) := by
    intro w2 H locs ls ew2 hR hS hl
    subst ew2
    refine lv_istore_n (lv' := [(3, .int (x_dayOf_j11_s0 x2)), (0, .ref (ad (40, x1))), (1, .int x2), (2, .int x3)]) hx hb dX0_dayOf_11 rfl hl (by decide) rfl (fun ls hl => ?_)
    refine lv_iconst (v := 0) hx hb dX0_dayOf_12 (by decide) ?_
    refine lv_istore (lv' := [(4, .int 0), (3, .int (x_dayOf_j11_s0 x2)), (0, .ref (ad (40, x1))), (1, .int x2), (2, .int x3)]) hx hb dX0_dayOf_13 hl (by decide) rfl (fun ls hl => ?_)
    refine lv_iconst (v := 0) hx hb dX0_dayOf_15 (by decide) ?_
    refine lv_istore (lv' := [(5, .int 0), (4, .int 0), (3, .int (x_dayOf_j11_s0 x2)), (0, .ref (ad (40, x1))), (1, .int x2), (2, .int x3)]) hx hb dX0_dayOf_16 hl (by decide) rfl (fun ls hl => ?_)
    have K18 : ∀ (H : Heap) (locs : List Loc) (ls : Array Slot), XR D d A ad S H → va_S A s.heap H locs → lv_has ls 6 [(5, .int (x_dayOf_R18 S x1 x2 x3).2), (4, .int (x_dayOf_R18 S x1 x2 x3).1), (3, .int (x_dayOf_j11_s0 x2)), (0, .ref (ad (40, x1))), (1, .int x2), (2, .int x3)] → W p l e (rm_ 1) s m av below meth c H locs 0 0 Q (F0 m 59 ls []) := by
      intro H locs ls hR hS hl
      refine lv_iload hx hb dX0_dayOf_59 (lv_at hl 1 rfl) ?_
      exact x_ri hx hb hrt (rfl) hlk hR hS hQ (hF1 rfl) dX0_dayOf_61
    have L18 : ∀ (f18 : Nat) (y4_18 : Int32) (y5_18 : Int32) (H : Heap) (locs : List Loc) (ls : Array Slot), ((x_dayOf_j11_s0 x2) - y5_18 : Int32).toNatClampNeg < f18 → 0 ≤ y5_18 → x_dayOf_L18 S x1 x2 x3 (f18) y4_18 y5_18 = (x_dayOf_R18 S x1 x2 x3) → XR D d A ad S H → va_S A s.heap H locs → lv_has ls 6 [(5, .int y5_18), (4, .int y4_18), (3, .int (x_dayOf_j11_s0 x2)), (0, .ref (ad (40, x1))), (1, .int x2), (2, .int x3)] → W p l e (rm_ 1) s m av below meth c H locs 0 0 Q (F0 m 18 ls []) := by
      intro f18
      induction f18 with
      | zero => intro y4_18 y5_18 H locs ls hf; exact absurd hf (Nat.not_lt_zero _)
      | succ f18 ih =>
        intro y4_18 y5_18 H locs ls hf hi5 hE hR hS hl
        refine lv_iload hx hb dX0_dayOf_18 (lv_at hl 0 rfl) ?_
        refine lv_iload_n hx hb dX0_dayOf_20 rfl (lv_at hl 2 rfl) ?_
        refine lv_icmp_ge (tgt := 59) hx hb dX0_dayOf_21 (by decide) (fun c4 => ?_) (fun c4 => ?_)
        · have e0 : (x_dayOf_R18 S x1 x2 x3) = (y4_18, y5_18) := Eq.trans (Eq.symm hE) (Eq.trans (x_dayOf_L18_s _ _ _ _ _ _ _) (if_pos c4))
          exact K18 _ _ _ hR hS (by rw [e0]; exact lv_sub hl [0, 1, 2, 3, 4, 5] rfl)
        · have hj11 : (x_dayOf_j11_s0 x2) ≤ 96 := x_dayOf_j11_le _
          have hk5 : 0 ≤ y5_18 ∧ y5_18 < 96 := x_dayOf_o5 S x1 x2 x3 y5_18 hI hj hbf hi5 c4 hj11
          refine lv_iload hx hb dX0_dayOf_24 (lv_at hl 1 rfl) ?_
          refine lv_aload_n hx hb dX0_dayOf_26 rfl (lv_at hl 3 rfl) ?_
          refine lv_iload_n hx hb dX0_dayOf_27 rfl (lv_at hl 4 rfl) ?_
          have J8 : ∀ (w7 : Int32) (H : Heap) (locs : List Loc) (ls : Array Slot), w7 = (x_dayOf_j43_s0 x2 y5_18) → XR D d A ad S H → va_S A s.heap H locs → lv_has ls 6 [(5, .int y5_18), (4, .int y4_18), (3, .int (x_dayOf_j11_s0 x2)), (0, .ref (ad (40, x1))), (1, .int x2), (2, .int x3)] → W p l e (rm_ 1) s m av below meth c H locs 0 0 Q (F0 m 43 ls [.int w7, .ref (ad (40, x1)), .int y4_18]) := by
            intro w7 H locs ls ew7 hR hS hl
            subst ew7
            have hj43 : 0 ≤ (x_dayOf_j43_s0 x2 y5_18) ∧ (x_dayOf_j43_s0 x2 y5_18) ≤ 100000000 := x_dayOf_j43_ok _ _ hk5.1
            refine lv_iload_n hx hb dX0_dayOf_43 rfl (lv_at hl 5 rfl) ?_
            refine lv_iload hx hb dX0_dayOf_44 (lv_at hl 0 rfl) ?_
            refine lv_iadd hx hb dX0_dayOf_46 ?_
            refine vr_lets X hR hS (hI) (hj) (hj43) (x_dayOf_o9 S x1 x2 x3 y5_18 hI hj hbf hi5 c4 hj11 hk5 hj43) q1083 hl.1 ⟨by decide, by decide⟩ ⟨by decide, by decide⟩ (Nat.le_of_ble_eq_true rfl) dX0_dayOf_47 (fun H locs hR hS => ?_)
            refine lv_iadd hx hb dX0_dayOf_50 ?_
            refine lv_istore (lv' := [(4, .int (x_dayOf_v51 S x1 x2 x3 y4_18 y5_18)), (5, .int y5_18), (3, .int (x_dayOf_j11_s0 x2)), (0, .ref (ad (40, x1))), (1, .int x2), (2, .int x3)]) hx hb dX0_dayOf_51 hl (by decide) rfl (fun ls hl => ?_)
            refine lv_iinc (v := (y5_18 + 1)) (lv' := [(5, .int (y5_18 + 1)), (4, .int (x_dayOf_v51 S x1 x2 x3 y4_18 y5_18)), (3, .int (x_dayOf_j11_s0 x2)), (0, .ref (ad (40, x1))), (1, .int x2), (2, .int x3)]) hx hb dX0_dayOf_53 hl (k := 1) rfl rfl (by decide) rfl (fun ls hl => ?_)
            refine lv_goto (tgt := 18) hx hb dX0_dayOf_56 (by decide) ?_
            exact ih (x_dayOf_v51 S x1 x2 x3 y4_18 y5_18) (y5_18 + 1) _ _  _ (Nat.lt_of_lt_of_le (up_ hi5 (x_dayOf_o11 S x1 x2 x3 y5_18 hI hj hbf hi5 c4 hj11 hk5 hj43)) (Nat.le_of_lt_succ hf)) (x_dayOf_o10 S x1 x2 x3 y5_18 hI hj hbf hi5 c4 hj11 hk5 hj43) (Eq.trans (Eq.symm (Eq.trans (x_dayOf_L18_s _ _ _ _ _ _ _) (if_neg c4))) hE) hR hS (lv_sub hl [0, 1, 2, 3, 4, 5] rfl)
          refine lv_if_ne (tgt := 39) hx hb dX0_dayOf_28 (by decide) (fun c6 => ?_) (fun c6 => ?_)
          · refine lv_iload hx hb dX0_dayOf_39 (lv_at hl 0 rfl) ?_
            refine lv_iconst (v := 4) hx hb dX0_dayOf_41 (by decide) ?_
            refine lv_irem hx hb dX0_dayOf_42 (by decide) ?_
            exact J8 _ _ _  _ (Eq.symm (if_neg c6)) hR hS  (lv_sub hl [0, 1, 2, 3, 4, 5] rfl)
          · refine lv_iload hx hb dX0_dayOf_31 (lv_at hl 0 rfl) ?_
            refine lv_bipush (v := 12) hx hb dX0_dayOf_33 (by decide) ?_
            refine lv_irem hx hb dX0_dayOf_35 (by decide) ?_
            refine lv_goto (tgt := 43) hx hb dX0_dayOf_36 (by decide) ?_
            exact J8 _ _ _  _ (Eq.symm (if_pos c6)) hR hS  (lv_sub hl [0, 1, 2, 3, 4, 5] rfl)
    exact L18 _ 0 0 _ _  _ (fz_lt _) (by decide) rfl hR hS (lv_sub hl [0, 1, 2, 3, 4, 5] rfl)
  refine lv_if_ne (tgt := 9) hx hb dX0_dayOf_1 (by decide) (fun c1 => ?_) (fun c1 => ?_)
  · refine lv_bipush (v := 96) hx hb dX0_dayOf_9 (by decide) ?_
    exact J3 _ _ _  _ (Eq.symm (if_neg c1)) hR hS  (lv_sub hl [0, 1, 2] rfl)
  · refine lv_bipush (v := 24) hx hb dX0_dayOf_4 (by decide) ?_
    refine lv_goto (tgt := 11) hx hb dX0_dayOf_6 (by decide) ?_
    exact J3 _ _ _  _ (Eq.symm (if_pos c1)) hR hS  (lv_sub hl [0, 1, 2] rfl)
theorem x_daily_o2 (S : XS) (x1 : Int32) (hI : XInv S) (ht1 : ¬ (x_isTrain S x1) = 0 → 0 ≤ x1 ∧ x1 < 16) (c1 : ¬ (x_isTrain S x1) = 0) : 0 ≤ x1 ∧ x1 < 16 := by 
  have bl_x1 := Int32.toInt_lt x1
  try simp only [x_in_eq] at *
  try simp only [i_le, i_lt, i_eq, Int32.reduceToInt] at *
  try simp only [Int32.reduceToInt] at *
  omega
def x_daily (S : XS) (x1 : Int32) (x2 : Int32) : Int32 := (if (x_isTrain S x1) = 0 then (-1) else (x_dayOf S (Int32.toNatClampNeg x1) (x_kOf x2) 0))
set_option maxHeartbeats 4000000 in
theorem xt_daily (l : Launch) (D : va_G) (d : Nat → ClassId) (A : Nat → Prop) (ad : XK → Nat) (S : XS) (x1 : Int32) (x2 : Int32) (hI : XInv S) : XI l yX0_daily cX0_daily 3 .int (rm_ 2) D d A ad S [.ref (ad (0, 0)), .int x1, .int x2] ((x_daily S x1 x2), S) := by
  refine x_startI RX0 rfl (by decide) (Nat.le_of_ble_eq_true rfl) ?_
  intro p e s m av below meth c ls Q X hrt hlk hl hR hQ
  have hx := X.1.1.1
  have hb := X.1.1.2.1
  have hown := X.1.1.2.2.2.1
  have hts := X.1.1.2.2.2.2
  have hS : va_S A s.heap s.heap [] := va_S.rf
  have hl : lv_has ls 3 [(0, .ref (ad (0, 0))), (1, .int x1), (2, .int x2)] := hl
  have ht1 : ¬ (x_isTrain S x1) = 0 → 0 ≤ x1 ∧ x1 < 16 := fun h => xi_t16 hI h
  refine lv_aload_n hx hb dX0_daily_0 rfl (lv_at hl 0 rfl) ?_
  refine lv_iload_n hx hb dX0_daily_1 rfl (lv_at hl 1 rfl) ?_
  refine x_bi hS (xr_V X hR x_lv0 (ci := 0) (fs := x_fs ad S) rfl rfl (xt_isTrain l D d A ad S x1) 1 (lw_V q518 q520 qs4 q58 q521) ⟨rfl, rfl⟩ (by decide +kernel) ⟨by decide, by decide⟩ ⟨by decide, by decide⟩ rfl hl.1 rfl (Nat.le_of_ble_eq_true rfl) dX0_daily_2) (fun H locs hR hS => ?_)
  refine lv_if_eq (tgt := 25) hx hb dX0_daily_5 (by decide) (fun c1 => ?_) (fun c1 => ?_)
  · refine lv_iconst (v := (-1)) hx hb dX0_daily_25 (by decide) ?_
    exact x_ri hx hb hrt (rfl) hlk hR hS hQ (hF1 (if_pos c1)) dX0_daily_26
  · refine lv_aload_n hx hb dX0_daily_8 rfl (lv_at hl 0 rfl) ?_
    refine xg_a X.1 hR 4 (by decide) (by decide) q100 dX0_daily_9 ?_
    refine lv_iload_n hx hb dX0_daily_12 rfl (lv_at hl 1 rfl) ?_
    refine x_ldt X hR (ixl 16 16 (by decide) rfl (x_daily_o2 S x1 hI ht1 c1)) ((xi_tr (X := S) hI c1)) dX0_daily_13 ?_
    refine lv_iload_n hx hb dX0_daily_14 rfl (lv_at hl 2 rfl) ?_
    refine s_ci X.1.1 (st_x_kOf l x2) 1 (lw_S q751 q752 q58 q753) ⟨rfl, rfl⟩ (by decide +kernel) ⟨by decide, by decide⟩ ⟨by decide, by decide⟩ rfl hl.1 rfl (Nat.le_of_ble_eq_true rfl) dX0_daily_15 ?_
    refine lv_iconst (v := 0) hx hb dX0_daily_18 (by decide) ?_
    refine x_bi hS (xr_S X hR (xt_dayOf l D d A ad S (Int32.toNatClampNeg x1) (x_kOf x2) 0 (hI) ((xi_tr (X := S) hI c1)) (by decide)) 3 (lw_S q1080 q1081 q58 q1082) ⟨rfl, rfl⟩ (by decide +kernel) ⟨by decide, by decide⟩ ⟨by decide, by decide⟩ rfl hl.1 rfl (Nat.le_of_ble_eq_true rfl) dX0_daily_19) (fun H locs hR hS => ?_)
    refine lv_goto (tgt := 26) hx hb dX0_daily_22 (by decide) ?_
    exact x_ri hx hb hrt (rfl) hlk hR hS hQ (hF1 (if_neg c1)) dX0_daily_26
def x_lasting_v54 (S : XS) (x1 : Int32) : Int64 := (((Int32.toInt64 (S.1 63 (Int32.toNatClampNeg x1))) * 86400) - (Int32.toInt64 (S.1 61 (Int32.toNatClampNeg x1))))
def x_lasting_v65 (S : XS) (x1 : Int32) : Int64 := (Int32.toInt64 (86400 + (S.1 62 (Int32.toNatClampNeg x1))))
def x_lasting_j88_s0 (S : XS) (x1 : Int32) : Int64 := (if 0 < (x_lasting_v54 S x1) then ((((x_lasting_v54 S x1) + (x_lasting_v65 S x1)) - 1) / (x_lasting_v65 S x1)) else 1)
def x_lasting (S : XS) (x1 : Int32) : Int32 × XS := (if 0 ≤ (x_need S 1 x1).1 then (if (S.1 64 (Int32.toNatClampNeg x1)) = 0 then ((-9), S) else (if (S.1 63 (Int32.toNatClampNeg x1)) = 0 then (0, S) else (if (x_lasting_j88_s0 S x1) ≤ 1000000 then ((Int64.toInt32 (x_lasting_j88_s0 S x1)), S) else (1000001, S)))) else ((x_need S 1 x1).1, (x_need S 1 x1).2))
theorem x_lasting_N (S : XS) (x1 : Int32) : (x_lasting S x1).2.2.2.2 = S.2.2.2 := by
  unfold x_lasting
  refine ifI (P := fun (z : Int32 × XS) => z.2.2.2.2 = S.2.2.2) (fun c1 => ?_) (fun c1 => ?_)
  · refine ifI (P := fun (z : Int32 × XS) => z.2.2.2.2 = S.2.2.2) (fun c2 => ?_) (fun c2 => ?_)
    · exact rfl
    · refine ifI (P := fun (z : Int32 × XS) => z.2.2.2.2 = S.2.2.2) (fun c3 => ?_) (fun c3 => ?_)
      · exact rfl
      · refine ifI (P := fun (z : Int32 × XS) => z.2.2.2.2 = S.2.2.2) (fun c7 => ?_) (fun c7 => ?_)
        · exact rfl
        · exact rfl
  · have hN3 : (x_need S 1 x1).2.2.2.2 = S.2.2.2 := x_need_N S 1 x1
    exact hN3
theorem x_lasting_inv (S : XS) (x1 : Int32) (hI : XInv S) : XInv (x_lasting S x1).2 := by
  unfold x_lasting
  refine ifI (P := fun (z : Int32 × XS) => XInv z.2) (fun c1 => ?_) (fun c1 => ?_)
  · refine ifI (P := fun (z : Int32 × XS) => XInv z.2) (fun c2 => ?_) (fun c2 => ?_)
    · exact hI
    · refine ifI (P := fun (z : Int32 × XS) => XInv z.2) (fun c3 => ?_) (fun c3 => ?_)
      · exact hI
      · refine ifI (P := fun (z : Int32 × XS) => XInv z.2) (fun c7 => ?_) (fun c7 => ?_)
        · exact hI
        · exact hI
  · have hI3 : XInv (x_need S 1 x1).2 := x_need_inv S 1 x1 (hI)
    exact hI3
set_option maxHeartbeats 4000000 in
theorem xt_lasting (l : Launch) (D : va_G) (d : Nat → ClassId) (A : Nat → Prop) (ad : XK → Nat) (S : XS) (x1 : Int32) (hI : XInv S) : XI l yX0_lasting cX0_lasting 10 .int (rm_ 3) D d A ad S [.ref (ad (0, 0)), .int x1] (x_lasting S x1) := by
  refine x_startI RX0 rfl (by decide) (Nat.le_of_ble_eq_true rfl) ?_
  intro p e s m av below meth c ls Q X hrt hlk hl hR hQ
  have hx := X.1.1.1
  have hb := X.1.1.2.1
  have hown := X.1.1.2.2.2.1
  have hts := X.1.1.2.2.2.2
  have hS : va_S A s.heap s.heap [] := va_S.rf
  have hl : lv_has ls 10 [(0, .ref (ad (0, 0))), (1, .int x1)] := hl
  refine lv_aload_n hx hb dX0_lasting_0 rfl (lv_at hl 0 rfl) ?_
  refine lv_iconst (v := 1) hx hb dX0_lasting_1 (by decide) ?_
  refine lv_iload_n hx hb dX0_lasting_2 rfl (lv_at hl 1 rfl) ?_
  refine x_bi hS (xr_V X hR x_lv0 (ci := 0) (fs := x_fs ad S) rfl rfl (xt_need l D d A ad S 1 x1 (hI)) 2 (lw_V q747 q749 qs5 q58 q750) ⟨rfl, rfl⟩ (by decide +kernel) ⟨by decide, by decide⟩ ⟨by decide, by decide⟩ rfl hl.1 rfl (Nat.le_of_ble_eq_true rfl) dX0_lasting_3) (fun H locs hR hS => ?_)
  have hN3 : (x_need S 1 x1).2.2.2.2 = S.2.2.2 := x_need_N S 1 x1
  have hI3 : XInv (x_need S 1 x1).2 := x_need_inv S 1 x1 (hI)
  refine lv_istore_n (lv' := [(2, .int (x_need S 1 x1).1), (0, .ref (ad (0, 0))), (1, .int x1)]) hx hb dX0_lasting_6 rfl hl (by decide) rfl (fun ls hl => ?_)
  refine lv_iload_n hx hb dX0_lasting_7 rfl (lv_at hl 0 rfl) ?_
  refine lv_if_ge (tgt := 13) hx hb dX0_lasting_8 (by decide) (fun c1 => ?_) (fun c1 => ?_)
  · have okc1 := x_need_ok S 1 x1 hI c1
    have hR : XR D d A ad S H := okc1.1 ▸ hR
    have okc1_0 : 0 ≤ x1 ∧ x1 < 4 := okc1.2.1
    have okc1_1 : ¬ (1 : Int32) = 0 := okc1.2.2.1
    have okc1_2 : ¬ S.2.2.2 5 (Int32.toNatClampNeg x1) = 0 := okc1.2.2.2
    refine lv_aload_n hx hb dX0_lasting_13 rfl (lv_at hl 1 rfl) ?_
    refine xg_a X.1 hR 7 (by decide) (by decide) q104 dX0_lasting_14 ?_
    refine lv_iload_n hx hb dX0_lasting_17 rfl (lv_at hl 2 rfl) ?_
    refine x_ldw X hR (ixl 4 4 (by decide) rfl (okc1_0)) (okc1_2) dX0_lasting_18 ?_
    refine lv_astore_n (lv' := [(3, .ref (ad (70, (Int32.toNatClampNeg x1)))), (2, .int (x_need S 1 x1).1), (0, .ref (ad (0, 0))), (1, .int x1)]) hx hb dX0_lasting_19 rfl hl (by decide) rfl (fun ls hl => ?_)
    refine lv_aload_n hx hb dX0_lasting_20 rfl (lv_at hl 0 rfl) ?_
    refine xgw X hR (x_lvw (tn4 (okc1_0)) (okc1_2)) 4 (Or.inl (by decide)) (Or.inr q704) rfl dX0_lasting_21 ?_
    refine lv_if_ne (tgt := 30) hx hb dX0_lasting_24 (by decide) (fun c2 => ?_) (fun c2 => ?_)
    · refine lv_aload_n hx hb dX0_lasting_30 rfl (lv_at hl 0 rfl) ?_
      refine xgw X hR (x_lvw (tn4 (okc1_0)) (okc1_2)) 3 (Or.inl (by decide)) (Or.inr q702) rfl dX0_lasting_31 ?_
      refine lv_if_ne (tgt := 39) hx hb dX0_lasting_34 (by decide) (fun c3 => ?_) (fun c3 => ?_)
      · refine lv_aload_n hx hb dX0_lasting_39 rfl (lv_at hl 0 rfl) ?_
        refine xgw X hR (x_lvw (tn4 (okc1_0)) (okc1_2)) 3 (Or.inl (by decide)) (Or.inr q702) rfl dX0_lasting_40 ?_
        refine lv_i2l hx hb dX0_lasting_43 rfl ?_
        refine lv_ldc2 hx hb hown (hts _ q1099) dX0_lasting_44 ?_
        refine lv_lmul hx hb dX0_lasting_47 ?_
        refine lv_aload_n hx hb dX0_lasting_48 rfl (lv_at hl 0 rfl) ?_
        refine xgw X hR (x_lvw (tn4 (okc1_0)) (okc1_2)) 1 (Or.inl (by decide)) (Or.inr q698) rfl dX0_lasting_49 ?_
        refine lv_i2l hx hb dX0_lasting_52 rfl ?_
        refine lv_lsub hx hb dX0_lasting_53 ?_
        refine lv_lstore (lv' := [(4, .long (x_lasting_v54 S x1)), (3, .ref (ad (70, (Int32.toNatClampNeg x1)))), (2, .int (x_need S 1 x1).1), (0, .ref (ad (0, 0))), (1, .int x1)]) hx hb dX0_lasting_54 hl (by decide) rfl (fun ls hl => ?_)
        refine lv_ldcw hx hb hown (hts _ q1100) dX0_lasting_56 ?_
        refine lv_aload_n hx hb dX0_lasting_59 rfl (lv_at hl 1 rfl) ?_
        refine xgw X hR (x_lvw (tn4 (okc1_0)) (okc1_2)) 2 (Or.inl (by decide)) (Or.inr q700) rfl dX0_lasting_60 ?_
        refine lv_iadd hx hb dX0_lasting_63 ?_
        refine lv_i2l hx hb dX0_lasting_64 rfl ?_
        refine lv_lstore (lv' := [(6, .long (x_lasting_v65 S x1)), (4, .long (x_lasting_v54 S x1)), (3, .ref (ad (70, (Int32.toNatClampNeg x1)))), (2, .int (x_need S 1 x1).1), (0, .ref (ad (0, 0))), (1, .int x1)]) hx hb dX0_lasting_65 hl (by decide) rfl (fun ls hl => ?_)
        refine lv_lload hx hb dX0_lasting_67 (lv_at hl 1 rfl) ?_
        refine lv_lconst (v := 0) hx hb dX0_lasting_69 (by decide) ?_
        have J6 : ∀ (w5 : Int64) (H : Heap) (locs : List Loc) (ls : Array Slot), w5 = (x_lasting_j88_s0 S x1) → XR D d A ad S H → va_S A s.heap H locs → lv_has ls 10 [(6, .long (x_lasting_v65 S x1)), (4, .long (x_lasting_v54 S x1)), (3, .ref (ad (70, (Int32.toNatClampNeg x1)))), (2, .int (x_need S 1 x1).1), (0, .ref (ad (0, 0))), (1, .int x1)] → W p l e (rm_ 3) s m av below meth c H locs 0 0 Q (F0 m 88 ls [.long w5]) := by
          intro w5 H locs ls ew5 hR hS hl
          subst ew5
          refine lv_lstore (lv' := [(8, .long (x_lasting_j88_s0 S x1)), (6, .long (x_lasting_v65 S x1)), (4, .long (x_lasting_v54 S x1)), (3, .ref (ad (70, (Int32.toNatClampNeg x1)))), (2, .int (x_need S 1 x1).1), (0, .ref (ad (0, 0))), (1, .int x1)]) hx hb dX0_lasting_88 hl (by decide) rfl (fun ls hl => ?_)
          refine lv_lload hx hb dX0_lasting_90 (lv_at hl 0 rfl) ?_
          refine lv_ldc2 hx hb hown (hts _ q1101) dX0_lasting_92 ?_
          refine hl_le (tgt := 105) hx hb dX0_lasting_95 dX0_lasting_96 (by decide) (fun c7 => ?_) (fun c7 => ?_)
          · refine lv_lload hx hb dX0_lasting_105 (lv_at hl 0 rfl) ?_
            refine lv_l2i hx hb dX0_lasting_107 rfl ?_
            exact x_ri hx hb hrt (rfl) hlk hR hS hQ (Eq.trans (if_pos c1) (Eq.trans (if_neg c2) (Eq.trans (if_neg c3) (if_pos c7)))) dX0_lasting_108
          · refine lv_ldcw hx hb hown (hts _ q1102) dX0_lasting_99 ?_
            refine lv_goto (tgt := 108) hx hb dX0_lasting_102 (by decide) ?_
            exact x_ri hx hb hrt (rfl) hlk hR hS hQ (Eq.trans (if_pos c1) (Eq.trans (if_neg c2) (Eq.trans (if_neg c3) (if_neg c7)))) dX0_lasting_108
        refine hl_gt (tgt := 78) hx hb dX0_lasting_70 dX0_lasting_71 (by decide) (fun c4 => ?_) (fun c4 => ?_)
        · refine lv_lload hx hb dX0_lasting_78 (lv_at hl 1 rfl) ?_
          refine lv_lload hx hb dX0_lasting_80 (lv_at hl 0 rfl) ?_
          refine lv_ladd hx hb dX0_lasting_82 ?_
          refine lv_lconst (v := 1) hx hb dX0_lasting_83 (by decide) ?_
          refine lv_lsub hx hb dX0_lasting_84 ?_
          refine lv_lload hx hb dX0_lasting_85 (lv_at hl 0 rfl) ?_
          refine lv_ldiv hx hb dX0_lasting_87 (ne_pace (xi_t hI (tn4 okc1_0) okc1_2).2.2) ?_
          exact J6 _ _ _  _ (Eq.symm (if_pos c4)) hR hS  (lv_sub hl [0, 1, 2, 3, 4, 5] rfl)
        · refine lv_lconst (v := 1) hx hb dX0_lasting_74 (by decide) ?_
          refine lv_goto (tgt := 88) hx hb dX0_lasting_75 (by decide) ?_
          exact J6 _ _ _  _ (Eq.symm (if_neg c4)) hR hS  (lv_sub hl [0, 1, 2, 3, 4, 5] rfl)
      · refine lv_iconst (v := 0) hx hb dX0_lasting_37 (by decide) ?_
        exact x_ri hx hb hrt (rfl) hlk hR hS hQ (Eq.trans (if_pos c1) (Eq.trans (if_neg c2) (if_pos c3))) dX0_lasting_38
    · refine lv_bipush (v := (-9)) hx hb dX0_lasting_27 (by decide) ?_
      exact x_ri hx hb hrt (rfl) hlk hR hS hQ (Eq.trans (if_pos c1) (if_pos c2)) dX0_lasting_29
  · refine lv_iload_n hx hb dX0_lasting_11 rfl (lv_at hl 0 rfl) ?_
    exact x_ri hx hb hrt (rfl) hlk hR hS hQ (if_neg c1) dX0_lasting_12
theorem xv_lets_b (S : XS) (j : Nat) (x1 x2 : Int32) (hI : XInv S) (hj : j < S.2.2.2 7 0) (h1 : 0 ≤ x1 ∧ x1 ≤ 100000000) (h2 : 0 ≤ x2 ∧ x2 ≤ 100000000) : 1 ≤ xv_lets S j x1 x2 ∧ xv_lets S j x1 x2 ≤ 24 := by
  unfold xv_lets
  refine ifI (P := fun (z : Int32) => 1 ≤ z ∧ z ≤ 24) (fun _ => by decide) (fun h0 => ?_)
  have hn := xi_nb hI hj h0
  have hp : 0 < nI (S.2.2.2 1 j) := by
    clear hI
    simp only [i_le, i_lt, Int32.reduceToInt] at *
    omega
  refine ifI (P := fun (z : Int32) => 1 ≤ z ∧ z ≤ 24) (fun _ => ?_) (fun h3 => ?_)
  · unfold x_t4_lets
    exact xi_noI hI hj h0 (dv_ h1.1 hp).2.2
  · unfold x_t3_lets
    have hk : S.2.2.2 0 j = 1 ∨ S.2.2.2 0 j = 3 := by have := xi_kd hI hj; omega
    have ha := xi_at hI hj hk
    refine xi_noI hI hj h0 (dv_ ?_ hp).2.2
    clear hI hk h3 h0
    have e := a32 (x := S.1 50 j) (y := x2) (by simp only [i_le, i_lt, Int32.reduceToInt] at *; omega)
    simp only [i_le, i_lt, Int32.reduceToInt] at *
    omega
theorem x_dayOf_L_b (S : XS) (x1 : Nat) (x2 x3 : Int32) (hI : XInv S) (hj : x1 < S.2.2.2 7 0) (hb : 0 ≤ x3 ∧ x3 ≤ 90000000) : ∀ (f : Nat) (y4 y6 : Int32), ((x_dayOf_j11_s0 x2) - y6).toNatClampNeg < f → (0 ≤ y6 ∧ y6 ≤ (x_dayOf_j11_s0 x2)) → (y6 ≤ y4 ∧ y4 ≤ 24 * y6) → (x_dayOf_j11_s0 x2) ≤ (x_dayOf_L18 S x1 x2 x3 f y4 y6).1 ∧ (x_dayOf_L18 S x1 x2 x3 f y4 y6).1 ≤ 2304 := by
  have h14 : (x_dayOf_j11_s0 x2) = 24 ∨ (x_dayOf_j11_s0 x2) = 96 := by unfold x_dayOf_j11_s0; split <;> simp
  intro f
  induction f with
  | zero => intro y4 y6 h; exact absurd h (Nat.not_lt_zero _)
  | succ f ih =>
    intro y4 y6 h h6 h4
    rw [x_dayOf_L18_s]
    split
    · rename_i c
      show (x_dayOf_j11_s0 x2) ≤ y4 ∧ y4 ≤ 2304
      clear ih h hI hj
      generalize (x_dayOf_j11_s0 x2) = J at *
      simp only [i_le, i_lt, i_eq, Int32.reduceToInt] at *
      have e := m32 (x := 24) (y := y6) (by simp only [Int32.reduceToInt]; omega)
      simp only [Int32.reduceToInt] at e
      omega
    · rename_i c
      have hk : 0 ≤ y6 ∧ y6 < 96 := by
        clear ih h hI hj
        generalize (x_dayOf_j11_s0 x2) = J at *
        simp only [i_le, i_lt, i_eq, Int32.reduceToInt] at *
        omega
      have hk2 : 0 ≤ x3 + y6 ∧ x3 + y6 ≤ 100000000 := by
        clear ih h hI hj h14 h6 h4 c
        have e := a32 (x := x3) (y := y6) (by simp only [i_le, i_lt, Int32.reduceToInt] at *; omega)
        simp only [i_le, i_lt, i_eq, Int32.reduceToInt] at *
        omega
      have h102 := xv_lets_b S x1 (x_dayOf_j43_s0 x2 y6) (x3 + y6) hI hj (x_dayOf_j43_ok _ _ hk.1) hk2
      refine ih _ _ (Nat.lt_of_lt_of_le (up_ h6.1 (Int32.not_le.mp c)) (Nat.le_of_lt_succ h)) ?_ ?_
      · clear ih h hI hj h102
        generalize (x_dayOf_j11_s0 x2) = J at *
        simp only [i_le, i_lt, i_eq, Int32.reduceToInt] at *
        have e := a32 (x := y6) (y := 1) (by simp only [Int32.reduceToInt]; omega)
        simp only [Int32.reduceToInt] at e
        omega
      · unfold x_dayOf_v51
        clear ih h hI hj hk2
        generalize (xv_lets S x1 (x_dayOf_j43_s0 x2 y6) (x3 + y6)) = v at *
        generalize (x_dayOf_j11_s0 x2) = J at *
        simp only [i_le, i_lt, i_eq, Int32.reduceToInt] at *
        have e := a32 (x := y6) (y := 1) (by simp only [Int32.reduceToInt]; omega)
        simp only [Int32.reduceToInt] at e
        have e1 := m32 (x := 24) (y := y6) (by simp only [Int32.reduceToInt]; omega)
        simp only [Int32.reduceToInt] at e1
        have e2 := m32 (x := 24) (y := y6 + 1) (by simp only [Int32.reduceToInt]; omega)
        simp only [Int32.reduceToInt] at e2
        have e3 := a32 (x := y4) (y := v) (by omega)
        omega
theorem x_dayOf_b (S : XS) (x1 : Nat) (x2 x3 : Int32) (hI : XInv S) (hj : x1 < S.2.2.2 7 0) (hb : 0 ≤ x3 ∧ x3 ≤ 90000000) : 24 ≤ (x_dayOf S x1 x2 x3) ∧ (x_dayOf S x1 x2 x3) ≤ 2304 := by
  have h14 : 24 ≤ (x_dayOf_j11_s0 x2) := by unfold x_dayOf_j11_s0; split <;> decide
  have h := x_dayOf_L_b S x1 x2 x3 hI hj hb _ 0 0 (fz_lt _) ⟨by decide, Int32.le_trans (by decide) h14⟩ (by decide)
  exact ⟨Int32.le_trans h14 h.1, h.2⟩
theorem ld_b (d c : Int32) (hd : 0 ≤ d ∧ d ≤ 4200) (hc : c = 24 ∨ c = 96) : 0 ≤ d * c ∧ d * c ≤ 90000000 := by
  rcases hc with rfl | rfl
  · have e := m32 (x := d) (y := 24) (by simp only [i_le, Int32.reduceToInt] at *; omega)
    simp only [i_le, Int32.reduceToInt] at *
    omega
  · have e := m32 (x := d) (y := 96) (by simp only [i_le, Int32.reduceToInt] at *; omega)
    simp only [i_le, Int32.reduceToInt] at *
    omega
theorem ld_step (l d y : Int32) (h : 0 ≤ d ∧ 0 ≤ l ∧ l + 24 * d ≤ 100000 ∧ d ≤ 4200 ∧ l ≤ 100000) (hy : 24 ≤ y) (hl : ¬ l < y) : 0 ≤ d + 1 ∧ 0 ≤ l - y ∧ (l - y) + 24 * (d + 1) ≤ 100000 ∧ d + 1 ≤ 4200 ∧ l - y ≤ 100000 := by
  simp only [i_le, i_lt, Int32.reduceToInt] at *
  have e0 := m32 (x := 24) (y := d) (by simp only [Int32.reduceToInt]; omega)
  simp only [Int32.reduceToInt] at e0
  have e1 := a32 (x := l) (y := 24 * d) (by omega)
  have e2 := a32 (x := d) (y := 1) (by simp only [Int32.reduceToInt]; omega)
  simp only [Int32.reduceToInt] at e2
  have e3 := m32 (x := 24) (y := d + 1) (by simp only [Int32.reduceToInt]; omega)
  simp only [Int32.reduceToInt] at e3
  have e4 := s32 (x := l) (y := y) (by omega)
  have e5 := a32 (x := l - y) (y := 24 * (d + 1)) (by omega)
  omega
theorem x_lastingDays_o2 (S : XS) (x1 : Int32) (hI : XInv S) (ht1 : ¬ (x_isTrain S x1) = 0 → 0 ≤ x1 ∧ x1 < 16) (c1 : ¬ (x_isTrain S x1) = 0) (hj : (Int32.toNatClampNeg x1) < S.2.2.2 7 0) (hwe : 0 ≤ S.1 43 (Int32.toNatClampNeg x1) ∧ S.1 43 (Int32.toNatClampNeg x1) ≤ 100000) : 0 ≤ x1 ∧ x1 < 16 := by 
  have bl_x1 := Int32.toInt_lt x1
  try simp only [x_in_eq] at *
  try simp only [i_le, i_lt, i_eq, Int32.reduceToInt] at *
  try simp only [Int32.reduceToInt] at *
  omega
def x_lastingDays_v27 (S : XS) (x1 : Int32) : Int32 := (S.1 43 (Int32.toNatClampNeg x1))
def x_lastingDays_j49_s0 (x2 : Int32) : Int32 := (if (x_kOf x2) = 0 then 24 else 96)
def x_lastingDays_j77_s0 (x2 : Int32) : Int32 := (if (x_kOf x2) = 0 then 24 else 96)
def x_lastingDays_v82 (S : XS) (x1 : Int32) (x2 : Int32) (y5_32 : Int32) (y6_32 : Int32) : Int32 := (y5_32 - (x_dayOf S (Int32.toNatClampNeg x1) (x_kOf x2) (y6_32 * (x_lastingDays_j77_s0 x2))))
def x_lastingDays_L32 (S : XS) (x1 : Int32) (x2 : Int32) : Nat → Int32 → Int32 → Int32 × Int32
  | 0, y5_32, y6_32 => (y5_32, y6_32)
  | f32 + 1, y5_32, y6_32 => (if y5_32 < (x_dayOf S (Int32.toNatClampNeg x1) (x_kOf x2) (y6_32 * (x_lastingDays_j49_s0 x2))) then (y5_32, y6_32) else (x_lastingDays_L32 S x1 x2 f32 (x_lastingDays_v82 S x1 x2 y5_32 y6_32) (y6_32 + 1)))
theorem x_lastingDays_L32_s (S : XS) (x1 : Int32) (x2 : Int32) (f32 : Nat) (y5_32 : Int32) (y6_32 : Int32) : x_lastingDays_L32 S x1 x2 (f32 + 1) y5_32 y6_32 = (if y5_32 < (x_dayOf S (Int32.toNatClampNeg x1) (x_kOf x2) (y6_32 * (x_lastingDays_j49_s0 x2))) then (y5_32, y6_32) else (x_lastingDays_L32 S x1 x2 f32 (x_lastingDays_v82 S x1 x2 y5_32 y6_32) (y6_32 + 1))) := rfl
def x_lastingDays_R32 (S : XS) (x1 : Int32) (x2 : Int32) : Int32 × Int32 := x_lastingDays_L32 S x1 x2 (fz (((x_lastingDays_v27 S x1) : Int32).toNatClampNeg + 1)) (x_lastingDays_v27 S x1) 0
def x_lastingDays (S : XS) (x1 : Int32) (x2 : Int32) : Int32 := (if (x_isTrain S x1) = 0 then (-1) else (x_lastingDays_R32 S x1 x2).2)
set_option maxHeartbeats 4000000 in
theorem xt_lastingDays (l : Launch) (D : va_G) (d : Nat → ClassId) (A : Nat → Prop) (ad : XK → Nat) (S : XS) (x1 : Int32) (x2 : Int32) (hI : XInv S) : XI l yX0_lastingDays cX0_lastingDays 7 .int (rm_ 2) D d A ad S [.ref (ad (0, 0)), .int x1, .int x2] ((x_lastingDays S x1 x2), S) := by
  refine x_startI RX0 rfl (by decide) (Nat.le_of_ble_eq_true rfl) ?_
  intro p e s m av below meth c ls Q X hrt hlk hl hR hQ
  have hx := X.1.1.1
  have hb := X.1.1.2.1
  have hown := X.1.1.2.2.2.1
  have hts := X.1.1.2.2.2.2
  have hS : va_S A s.heap s.heap [] := va_S.rf
  have hl : lv_has ls 7 [(0, .ref (ad (0, 0))), (1, .int x1), (2, .int x2)] := hl
  have ht1 : ¬ (x_isTrain S x1) = 0 → 0 ≤ x1 ∧ x1 < 16 := fun h => xi_t16 hI h
  refine lv_aload_n hx hb dX0_lastingDays_0 rfl (lv_at hl 0 rfl) ?_
  refine lv_iload_n hx hb dX0_lastingDays_1 rfl (lv_at hl 1 rfl) ?_
  refine x_bi hS (xr_V X hR x_lv0 (ci := 0) (fs := x_fs ad S) rfl rfl (xt_isTrain l D d A ad S x1) 1 (lw_V q518 q520 qs4 q58 q521) ⟨rfl, rfl⟩ (by decide +kernel) ⟨by decide, by decide⟩ ⟨by decide, by decide⟩ rfl hl.1 rfl (Nat.le_of_ble_eq_true rfl) dX0_lastingDays_2) (fun H locs hR hS => ?_)
  refine lv_if_ne (tgt := 10) hx hb dX0_lastingDays_5 (by decide) (fun c1 => ?_) (fun c1 => ?_)
  · have hj : (Int32.toNatClampNeg x1) < S.2.2.2 7 0 := xi_tr hI (by assumption)
    have hwe : 0 ≤ S.1 43 (Int32.toNatClampNeg x1) ∧ S.1 43 (Int32.toNatClampNeg x1) ≤ 100000 := (xi_we hI hj).1
    refine lv_aload_n hx hb dX0_lastingDays_10 rfl (lv_at hl 0 rfl) ?_
    refine xg_a X.1 hR 4 (by decide) (by decide) q100 dX0_lastingDays_11 ?_
    refine lv_iload_n hx hb dX0_lastingDays_14 rfl (lv_at hl 1 rfl) ?_
    refine x_ldt X hR (ixl 16 16 (by decide) rfl (x_lastingDays_o2 S x1 hI ht1 c1 hj hwe)) (hj) dX0_lastingDays_15 ?_
    refine lv_astore_n (lv' := [(3, .ref (ad (40, (Int32.toNatClampNeg x1)))), (0, .ref (ad (0, 0))), (1, .int x1), (2, .int x2)]) hx hb dX0_lastingDays_16 rfl hl (by decide) rfl (fun ls hl => ?_)
    refine lv_iload_n hx hb dX0_lastingDays_17 rfl (lv_at hl 3 rfl) ?_
    refine s_ci X.1.1 (st_x_kOf l x2) 1 (lw_S q751 q752 q58 q753) ⟨rfl, rfl⟩ (by decide +kernel) ⟨by decide, by decide⟩ ⟨by decide, by decide⟩ rfl hl.1 rfl (Nat.le_of_ble_eq_true rfl) dX0_lastingDays_18 ?_
    refine lv_istore (lv' := [(4, .int (x_kOf x2)), (3, .ref (ad (40, (Int32.toNatClampNeg x1)))), (0, .ref (ad (0, 0))), (1, .int x1), (2, .int x2)]) hx hb dX0_lastingDays_21 hl (by decide) rfl (fun ls hl => ?_)
    refine lv_aload_n hx hb dX0_lastingDays_23 rfl (lv_at hl 1 rfl) ?_
    refine xgt X hR (x_lvt (hj)) (xi_kd (X := S) hI (hj)) 3 (by decide) q365 (Or.inl rfl) rfl dX0_lastingDays_24 ?_
    refine lv_istore (lv' := [(5, .int (x_lastingDays_v27 S x1)), (4, .int (x_kOf x2)), (3, .ref (ad (40, (Int32.toNatClampNeg x1)))), (0, .ref (ad (0, 0))), (1, .int x1), (2, .int x2)]) hx hb dX0_lastingDays_27 hl (by decide) rfl (fun ls hl => ?_)
    refine lv_iconst (v := 0) hx hb dX0_lastingDays_29 (by decide) ?_
    refine lv_istore (lv' := [(6, .int 0), (5, .int (x_lastingDays_v27 S x1)), (4, .int (x_kOf x2)), (3, .ref (ad (40, (Int32.toNatClampNeg x1)))), (0, .ref (ad (0, 0))), (1, .int x1), (2, .int x2)]) hx hb dX0_lastingDays_30 hl (by decide) rfl (fun ls hl => ?_)
    have K32 : ∀ (H : Heap) (locs : List Loc) (ls : Array Slot), XR D d A ad S H → va_S A s.heap H locs → lv_has ls 7 [(6, .int (x_lastingDays_R32 S x1 x2).2), (5, .int (x_lastingDays_R32 S x1 x2).1), (4, .int (x_kOf x2)), (3, .ref (ad (40, (Int32.toNatClampNeg x1)))), (0, .ref (ad (0, 0))), (1, .int x1), (2, .int x2)] → W p l e (rm_ 2) s m av below meth c H locs 0 0 Q (F0 m 90 ls []) := by
      intro H locs ls hR hS hl
      refine lv_iload hx hb dX0_lastingDays_90 (lv_at hl 0 rfl) ?_
      exact x_ri hx hb hrt (rfl) hlk hR hS hQ (hF1 (if_neg c1)) dX0_lastingDays_92
    have L32 : ∀ (f32 : Nat) (y5_32 : Int32) (y6_32 : Int32) (H : Heap) (locs : List Loc) (ls : Array Slot), (y5_32 : Int32).toNatClampNeg < f32 → 0 ≤ y6_32 ∧ 0 ≤ y5_32 ∧ y5_32 + 24 * y6_32 ≤ 100000 ∧ y6_32 ≤ 4200 ∧ y5_32 ≤ 100000 → x_lastingDays_L32 S x1 x2 (f32) y5_32 y6_32 = (x_lastingDays_R32 S x1 x2) → XR D d A ad S H → va_S A s.heap H locs → lv_has ls 7 [(6, .int y6_32), (5, .int y5_32), (4, .int (x_kOf x2)), (3, .ref (ad (40, (Int32.toNatClampNeg x1)))), (0, .ref (ad (0, 0))), (1, .int x1), (2, .int x2)] → W p l e (rm_ 2) s m av below meth c H locs 0 0 Q (F0 m 32 ls []) := by
      intro f32
      induction f32 with
      | zero => intro y5_32 y6_32 H locs ls hf; exact absurd hf (Nat.not_lt_zero _)
      | succ f32 ih =>
        intro y5_32 y6_32 H locs ls hf hD hE hR hS hl
        refine lv_aload_n hx hb dX0_lastingDays_32 rfl (lv_at hl 3 rfl) ?_
        refine lv_iload hx hb dX0_lastingDays_33 (lv_at hl 2 rfl) ?_
        refine lv_iload hx hb dX0_lastingDays_35 (lv_at hl 0 rfl) ?_
        refine lv_iload hx hb dX0_lastingDays_37 (lv_at hl 2 rfl) ?_
        have J5 : ∀ (w4 : Int32) (H : Heap) (locs : List Loc) (ls : Array Slot), w4 = (x_lastingDays_j49_s0 x2) → XR D d A ad S H → va_S A s.heap H locs → lv_has ls 7 [(6, .int y6_32), (5, .int y5_32), (4, .int (x_kOf x2)), (3, .ref (ad (40, (Int32.toNatClampNeg x1)))), (0, .ref (ad (0, 0))), (1, .int x1), (2, .int x2)] → W p l e (rm_ 2) s m av below meth c H locs 0 0 Q (F0 m 49 ls [.int w4, .int y6_32, .int (x_kOf x2), .ref (ad (40, (Int32.toNatClampNeg x1)))]) := by
          intro w4 H locs ls ew4 hR hS hl
          subst ew4
          have hb49 : 0 ≤ y6_32 * (x_lastingDays_j49_s0 x2) ∧ y6_32 * (x_lastingDays_j49_s0 x2) ≤ 90000000 := ld_b _ _ ⟨hD.1, hD.2.2.2.1⟩ (by unfold x_lastingDays_j49_s0; split <;> simp)
          refine lv_imul hx hb dX0_lastingDays_49 ?_
          refine x_bi hS (xr_S X hR (xt_dayOf l D d A ad S (Int32.toNatClampNeg x1) (x_kOf x2) (y6_32 * (x_lastingDays_j49_s0 x2)) (hI) (hj) (hb49)) 3 (lw_S q1080 q1081 q58 q1082) ⟨rfl, rfl⟩ (by decide +kernel) ⟨by decide, by decide⟩ ⟨by decide, by decide⟩ rfl hl.1 rfl (Nat.le_of_ble_eq_true rfl) dX0_lastingDays_50) (fun H locs hR hS => ?_)
          refine lv_iload hx hb dX0_lastingDays_53 (lv_at hl 1 rfl) ?_
          refine lv_icmp_gt (tgt := 90) hx hb dX0_lastingDays_55 (by decide) (fun c6 => ?_) (fun c6 => ?_)
          · have e0 : (x_lastingDays_R32 S x1 x2) = (y5_32, y6_32) := Eq.trans (Eq.symm hE) (Eq.trans (x_lastingDays_L32_s _ _ _ _ _ _) (if_pos c6))
            exact K32 _ _ _ hR hS (by rw [e0]; exact lv_sub hl [0, 1, 2, 3, 4, 5, 6] rfl)
          · refine lv_iload hx hb dX0_lastingDays_58 (lv_at hl 1 rfl) ?_
            refine lv_aload_n hx hb dX0_lastingDays_60 rfl (lv_at hl 3 rfl) ?_
            refine lv_iload hx hb dX0_lastingDays_61 (lv_at hl 2 rfl) ?_
            refine lv_iload hx hb dX0_lastingDays_63 (lv_at hl 0 rfl) ?_
            refine lv_iload hx hb dX0_lastingDays_65 (lv_at hl 2 rfl) ?_
            have J9 : ∀ (w8 : Int32) (H : Heap) (locs : List Loc) (ls : Array Slot), w8 = (x_lastingDays_j77_s0 x2) → XR D d A ad S H → va_S A s.heap H locs → lv_has ls 7 [(6, .int y6_32), (5, .int y5_32), (4, .int (x_kOf x2)), (3, .ref (ad (40, (Int32.toNatClampNeg x1)))), (0, .ref (ad (0, 0))), (1, .int x1), (2, .int x2)] → W p l e (rm_ 2) s m av below meth c H locs 0 0 Q (F0 m 77 ls [.int w8, .int y6_32, .int (x_kOf x2), .ref (ad (40, (Int32.toNatClampNeg x1))), .int y5_32]) := by
              intro w8 H locs ls ew8 hR hS hl
              subst ew8
              have hb77 : 0 ≤ y6_32 * (x_lastingDays_j77_s0 x2) ∧ y6_32 * (x_lastingDays_j77_s0 x2) ≤ 90000000 := ld_b _ _ ⟨hD.1, hD.2.2.2.1⟩ (by unfold x_lastingDays_j77_s0; split <;> simp)
              refine lv_imul hx hb dX0_lastingDays_77 ?_
              refine x_bi hS (xr_S X hR (xt_dayOf l D d A ad S (Int32.toNatClampNeg x1) (x_kOf x2) (y6_32 * (x_lastingDays_j77_s0 x2)) (hI) (hj) (hb77)) 3 (lw_S q1080 q1081 q58 q1082) ⟨rfl, rfl⟩ (by decide +kernel) ⟨by decide, by decide⟩ ⟨by decide, by decide⟩ rfl hl.1 rfl (Nat.le_of_ble_eq_true rfl) dX0_lastingDays_78) (fun H locs hR hS => ?_)
              refine lv_isub hx hb dX0_lastingDays_81 ?_
              refine lv_istore (lv' := [(5, .int (x_lastingDays_v82 S x1 x2 y5_32 y6_32)), (6, .int y6_32), (4, .int (x_kOf x2)), (3, .ref (ad (40, (Int32.toNatClampNeg x1)))), (0, .ref (ad (0, 0))), (1, .int x1), (2, .int x2)]) hx hb dX0_lastingDays_82 hl (by decide) rfl (fun ls hl => ?_)
              refine lv_iinc (v := (y6_32 + 1)) (lv' := [(6, .int (y6_32 + 1)), (5, .int (x_lastingDays_v82 S x1 x2 y5_32 y6_32)), (4, .int (x_kOf x2)), (3, .ref (ad (40, (Int32.toNatClampNeg x1)))), (0, .ref (ad (0, 0))), (1, .int x1), (2, .int x2)]) hx hb dX0_lastingDays_84 hl (k := 1) rfl rfl (by decide) rfl (fun ls hl => ?_)
              refine lv_goto (tgt := 32) hx hb dX0_lastingDays_87 (by decide) ?_
              exact ih (x_lastingDays_v82 S x1 x2 y5_32 y6_32) (y6_32 + 1) _ _  _ (Nat.lt_of_lt_of_le (sub_dn (by assumption) (x_dayOf_b S _ _ _ hI hj hb77).1) (Nat.le_of_lt_succ hf)) (ld_step _ _ _ hD (x_dayOf_b S _ _ _ hI hj hb77).1 (by assumption)) (Eq.trans (Eq.symm (Eq.trans (x_lastingDays_L32_s _ _ _ _ _ _) (if_neg c6))) hE) hR hS (lv_sub hl [0, 1, 2, 3, 4, 5, 6] rfl)
            refine lv_if_ne (tgt := 75) hx hb dX0_lastingDays_67 (by decide) (fun c7 => ?_) (fun c7 => ?_)
            · refine lv_bipush (v := 96) hx hb dX0_lastingDays_75 (by decide) ?_
              exact J9 _ _ _  _ (Eq.symm (if_neg c7)) hR hS  (lv_sub hl [0, 1, 2, 3, 4, 5, 6] rfl)
            · refine lv_bipush (v := 24) hx hb dX0_lastingDays_70 (by decide) ?_
              refine lv_goto (tgt := 77) hx hb dX0_lastingDays_72 (by decide) ?_
              exact J9 _ _ _  _ (Eq.symm (if_pos c7)) hR hS  (lv_sub hl [0, 1, 2, 3, 4, 5, 6] rfl)
        refine lv_if_ne (tgt := 47) hx hb dX0_lastingDays_39 (by decide) (fun c3 => ?_) (fun c3 => ?_)
        · refine lv_bipush (v := 96) hx hb dX0_lastingDays_47 (by decide) ?_
          exact J5 _ _ _  _ (Eq.symm (if_neg c3)) hR hS  (lv_sub hl [0, 1, 2, 3, 4, 5, 6] rfl)
        · refine lv_bipush (v := 24) hx hb dX0_lastingDays_42 (by decide) ?_
          refine lv_goto (tgt := 49) hx hb dX0_lastingDays_44 (by decide) ?_
          exact J5 _ _ _  _ (Eq.symm (if_pos c3)) hR hS  (lv_sub hl [0, 1, 2, 3, 4, 5, 6] rfl)
    exact L32 _ (x_lastingDays_v27 S x1) 0 _ _  _ (fz_lt _) (⟨by decide, hwe.1, by show S.1 43 _ + 0 ≤ 100000; rw [Int32.add_zero]; exact hwe.2, by decide, hwe.2⟩) rfl hR hS (lv_sub hl [0, 1, 2, 3, 4, 5, 6] rfl)
  · refine lv_iconst (v := (-1)) hx hb dX0_lastingDays_8 (by decide) ?_
    exact x_ri hx hb hrt (rfl) hlk hR hS hQ (hF1 (if_pos c1)) dX0_lastingDays_9
theorem le_pred {i n : Int32} (h : i < n) : i ≤ n - 1 := by
  have a := Int32.le_toInt i
  have b := Int32.toInt_lt n
  simp only [i_lt, i_le] at *
  have e := s32 (x := n) (y := 1) (by simp only [Int32.reduceToInt]; omega)
  simp only [Int32.reduceToInt] at e
  omega
theorem x_count_o3 (S : XS) (y3_4 : Int32) (hI : XInv S) (hTm : 0 ≤ S.1 5 0 ∧ S.1 5 0 ≤ 16) (hi3 : 0 ≤ y3_4) (c1 : ¬ 4 ≤ y3_4) : 0 ≤ y3_4 ∧ y3_4 < 4 := by 
  have bl_y3_4 := Int32.toInt_lt y3_4
  try simp only [i_le, i_lt, i_eq, Int32.reduceToInt] at *
  try simp only [Int32.reduceToInt] at *
  omega
def x_count_j24_s0 (S : XS) (y3_4 : Int32) : Int32 := (if S.2.2.2 5 (Int32.toNatClampNeg y3_4) = 0 then 0 else 1)
def x_count_v25 (S : XS) (y2_4 : Int32) (y3_4 : Int32) : Int32 := (y2_4 + (x_count_j24_s0 S y3_4))
def x_count_L4 (S : XS) : Nat → Int32 → Int32 → Int32 × Int32
  | 0, y2_4, y3_4 => (y2_4, y3_4)
  | f4 + 1, y2_4, y3_4 => (if 4 ≤ y3_4 then (y2_4, y3_4) else (x_count_L4 S f4 (x_count_v25 S y2_4 y3_4) (y3_4 + 1)))
theorem x_count_L4_s (S : XS) (f4 : Nat) (y2_4 : Int32) (y3_4 : Int32) : x_count_L4 S (f4 + 1) y2_4 y3_4 = (if 4 ≤ y3_4 then (y2_4, y3_4) else (x_count_L4 S f4 (x_count_v25 S y2_4 y3_4) (y3_4 + 1))) := rfl
def x_count_R4 (S : XS) : Int32 × Int32 := x_count_L4 S (fz ((4 - 0 : Int32).toNatClampNeg + 1)) 0 0
theorem x_count_o8 (S : XS) (y4_37 : Int32) (hI : XInv S) (hTm : 0 ≤ S.1 5 0 ∧ S.1 5 0 ≤ 16) (hi4 : 0 ≤ y4_37) (c6 : ¬ 8 ≤ y4_37) : 0 ≤ y4_37 ∧ y4_37 < 8 := by 
  have bl_y4_37 := Int32.toInt_lt y4_37
  try simp only [i_le, i_lt, i_eq, Int32.reduceToInt] at *
  try simp only [Int32.reduceToInt] at *
  omega
def x_count_j60_s0 (S : XS) (y4_37 : Int32) : Int32 := (if S.2.2.2 3 (Int32.toNatClampNeg y4_37) = 0 then 0 else 1)
def x_count_v61 (S : XS) (y3_37 : Int32) (y4_37 : Int32) : Int32 := (y3_37 + (x_count_j60_s0 S y4_37))
def x_count_L37 (S : XS) : Nat → Int32 → Int32 → Int32 × Int32
  | 0, y3_37, y4_37 => (y3_37, y4_37)
  | f37 + 1, y3_37, y4_37 => (if 8 ≤ y4_37 then (y3_37, y4_37) else (x_count_L37 S f37 (x_count_v61 S y3_37 y4_37) (y4_37 + 1)))
theorem x_count_L37_s (S : XS) (f37 : Nat) (y3_37 : Int32) (y4_37 : Int32) : x_count_L37 S (f37 + 1) y3_37 y4_37 = (if 8 ≤ y4_37 then (y3_37, y4_37) else (x_count_L37 S f37 (x_count_v61 S y3_37 y4_37) (y4_37 + 1))) := rfl
def x_count_R37 (S : XS) : Int32 × Int32 := x_count_L37 S (fz ((8 - 0 : Int32).toNatClampNeg + 1)) 0 0
theorem x_count_o12 (S : XS) (y5_74 : Int32) (hI : XInv S) (hTm : 0 ≤ S.1 5 0 ∧ S.1 5 0 ≤ 16) (hi5 : 0 ≤ y5_74) (c11 : ¬ (S.1 5 0) ≤ y5_74) (hj : (Int32.toNatClampNeg y5_74) < S.2.2.2 7 0) : 0 ≤ y5_74 ∧ y5_74 < 16 := by 
  have bl_y5_74 := Int32.toInt_lt y5_74
  try simp only [i_le, i_lt, i_eq, Int32.reduceToInt] at *
  try simp only [Int32.reduceToInt] at *
  omega
def x_count_v96 (S : XS) (y4_74 : Int32) (y5_74 : Int32) : Int32 := (y4_74 + (S.1 46 (Int32.toNatClampNeg y5_74)))
def x_count_L74 (S : XS) : Nat → Int32 → Int32 → Int32 × Int32
  | 0, y4_74, y5_74 => (y4_74, y5_74)
  | f74 + 1, y4_74, y5_74 => (if (S.1 5 0) ≤ y5_74 then (y4_74, y5_74) else (x_count_L74 S f74 (x_count_v96 S y4_74 y5_74) (y5_74 + 1)))
theorem x_count_L74_s (S : XS) (f74 : Nat) (y4_74 : Int32) (y5_74 : Int32) : x_count_L74 S (f74 + 1) y4_74 y5_74 = (if (S.1 5 0) ≤ y5_74 then (y4_74, y5_74) else (x_count_L74 S f74 (x_count_v96 S y4_74 y5_74) (y5_74 + 1))) := rfl
def x_count_R74 (S : XS) : Int32 × Int32 := x_count_L74 S (fz (((S.1 5 0) - 0 : Int32).toNatClampNeg + 1)) 0 0
theorem x_count_o19 (S : XS) (y5_74 : Int32) (hI : XInv S) (hTm : 0 ≤ S.1 5 0 ∧ S.1 5 0 ≤ 16) (hi5 : 0 ≤ y5_74) (c11 : ¬ (S.1 5 0) ≤ y5_74) (hj : (Int32.toNatClampNeg y5_74) < S.2.2.2 7 0) : 0 ≤ (y5_74 + 1) := by 
  have bl_y5_74 := Int32.toInt_lt y5_74
  try simp only [i_le, i_lt, i_eq, Int32.reduceToInt] at *
  first | (have e_0 := a32 (x := y5_74) (y := 1) (by (try simp only [Int32.reduceToInt]); omega); (try simp only [Int32.reduceToInt] at e_0)) | skip
  try simp only [Int32.reduceToInt] at *
  omega
theorem x_count_o20 (S : XS) (y5_74 : Int32) (hI : XInv S) (hTm : 0 ≤ S.1 5 0 ∧ S.1 5 0 ≤ 16) (hi5 : 0 ≤ y5_74) (c11 : ¬ (S.1 5 0) ≤ y5_74) (hj : (Int32.toNatClampNeg y5_74) < S.2.2.2 7 0) : y5_74 < (S.1 5 0) := by 
  have bl_y5_74 := Int32.toInt_lt y5_74
  try simp only [i_le, i_lt, i_eq, Int32.reduceToInt] at *
  try simp only [Int32.reduceToInt] at *
  omega
theorem x_count_o21 (S : XS) (y4_37 : Int32) (hI : XInv S) (hTm : 0 ≤ S.1 5 0 ∧ S.1 5 0 ≤ 16) (hi4 : 0 ≤ y4_37) (c6 : ¬ 8 ≤ y4_37) : 0 ≤ (y4_37 + 1) := by 
  have bl_y4_37 := Int32.toInt_lt y4_37
  try simp only [i_le, i_lt, i_eq, Int32.reduceToInt] at *
  first | (have e_0 := a32 (x := y4_37) (y := 1) (by (try simp only [Int32.reduceToInt]); omega); (try simp only [Int32.reduceToInt] at e_0)) | skip
  try simp only [Int32.reduceToInt] at *
  omega
theorem x_count_o22 (S : XS) (y4_37 : Int32) (hI : XInv S) (hTm : 0 ≤ S.1 5 0 ∧ S.1 5 0 ≤ 16) (hi4 : 0 ≤ y4_37) (c6 : ¬ 8 ≤ y4_37) : y4_37 < 8 := by 
  have bl_y4_37 := Int32.toInt_lt y4_37
  try simp only [i_le, i_lt, i_eq, Int32.reduceToInt] at *
  try simp only [Int32.reduceToInt] at *
  omega
theorem x_count_o23 (S : XS) (y3_4 : Int32) (hI : XInv S) (hTm : 0 ≤ S.1 5 0 ∧ S.1 5 0 ≤ 16) (hi3 : 0 ≤ y3_4) (c1 : ¬ 4 ≤ y3_4) : 0 ≤ (y3_4 + 1) := by 
  have bl_y3_4 := Int32.toInt_lt y3_4
  try simp only [i_le, i_lt, i_eq, Int32.reduceToInt] at *
  first | (have e_0 := a32 (x := y3_4) (y := 1) (by (try simp only [Int32.reduceToInt]); omega); (try simp only [Int32.reduceToInt] at e_0)) | skip
  try simp only [Int32.reduceToInt] at *
  omega
theorem x_count_o24 (S : XS) (y3_4 : Int32) (hI : XInv S) (hTm : 0 ≤ S.1 5 0 ∧ S.1 5 0 ≤ 16) (hi3 : 0 ≤ y3_4) (c1 : ¬ 4 ≤ y3_4) : y3_4 < 4 := by 
  have bl_y3_4 := Int32.toInt_lt y3_4
  try simp only [i_le, i_lt, i_eq, Int32.reduceToInt] at *
  try simp only [Int32.reduceToInt] at *
  omega
def x_count (S : XS) (x1 : Int32) : Int32 := (if x1 = 0 then (S.1 6 0) else (if x1 = 1 then (S.1 5 0) else (if x1 = 2 then (x_count_R4 S).1 else (if x1 = 3 then (S.1 20 0) else (if x1 = 4 then (x_count_R37 S).1 else (if x1 = 5 then (x_count_R74 S).1 else (-1)))))))
set_option maxHeartbeats 4000000 in
theorem xt_count (l : Launch) (D : va_G) (d : Nat → ClassId) (A : Nat → Prop) (ad : XK → Nat) (S : XS) (x1 : Int32) (hI : XInv S) : XI l yX0_count cX0_count 6 .int (rm_ 0) D d A ad S [.ref (ad (0, 0)), .int x1] ((x_count S x1), S) := by
  refine x_startI RX0 rfl (by decide) (Nat.le_of_ble_eq_true rfl) ?_
  intro p e s m av below meth c ls Q X hrt hlk hl hR hQ
  have hx := X.1.1.1
  have hb := X.1.1.2.1
  have hown := X.1.1.2.2.2.1
  have hts := X.1.1.2.2.2.2
  have hS : va_S A s.heap s.heap [] := va_S.rf
  have hl : lv_has ls 6 [(0, .ref (ad (0, 0))), (1, .int x1)] := hl
  have hTm : 0 ≤ S.1 5 0 ∧ S.1 5 0 ≤ 16 := xi_tm hI
  refine lv_iconst (v := 0) hx hb dX0_count_0 (by decide) ?_
  refine lv_istore_n (lv' := [(2, .int 0), (0, .ref (ad (0, 0))), (1, .int x1)]) hx hb dX0_count_1 rfl hl (by decide) rfl (fun ls hl => ?_)
  refine lv_iconst (v := 0) hx hb dX0_count_2 (by decide) ?_
  refine lv_istore_n (lv' := [(3, .int 0), (2, .int 0), (0, .ref (ad (0, 0))), (1, .int x1)]) hx hb dX0_count_3 rfl hl (by decide) rfl (fun ls hl => ?_)
  have K4 : ∀ (H : Heap) (locs : List Loc) (ls : Array Slot), XR D d A ad S H → va_S A s.heap H locs → lv_has ls 6 [(3, .int (x_count_R4 S).2), (2, .int (x_count_R4 S).1), (0, .ref (ad (0, 0))), (1, .int x1)] → W p l e (rm_ 0) s m av below meth c H locs 0 0 Q (F0 m 32 ls []) := by
    intro H locs ls hR hS hl
    refine lv_iconst (v := 0) hx hb dX0_count_32 (by decide) ?_
    refine lv_istore_n (lv' := [(3, .int 0), (2, .int (x_count_R4 S).1), (0, .ref (ad (0, 0))), (1, .int x1)]) hx hb dX0_count_33 rfl hl (by decide) rfl (fun ls hl => ?_)
    refine lv_iconst (v := 0) hx hb dX0_count_34 (by decide) ?_
    refine lv_istore (lv' := [(4, .int 0), (3, .int 0), (2, .int (x_count_R4 S).1), (0, .ref (ad (0, 0))), (1, .int x1)]) hx hb dX0_count_35 hl (by decide) rfl (fun ls hl => ?_)
    have K37 : ∀ (H : Heap) (locs : List Loc) (ls : Array Slot), XR D d A ad S H → va_S A s.heap H locs → lv_has ls 6 [(4, .int (x_count_R37 S).2), (3, .int (x_count_R37 S).1), (2, .int (x_count_R4 S).1), (0, .ref (ad (0, 0))), (1, .int x1)] → W p l e (rm_ 0) s m av below meth c H locs 0 0 Q (F0 m 68 ls []) := by
      intro H locs ls hR hS hl
      refine lv_iconst (v := 0) hx hb dX0_count_68 (by decide) ?_
      refine lv_istore (lv' := [(4, .int 0), (3, .int (x_count_R37 S).1), (2, .int (x_count_R4 S).1), (0, .ref (ad (0, 0))), (1, .int x1)]) hx hb dX0_count_69 hl (by decide) rfl (fun ls hl => ?_)
      refine lv_iconst (v := 0) hx hb dX0_count_71 (by decide) ?_
      refine lv_istore (lv' := [(5, .int 0), (4, .int 0), (3, .int (x_count_R37 S).1), (2, .int (x_count_R4 S).1), (0, .ref (ad (0, 0))), (1, .int x1)]) hx hb dX0_count_72 hl (by decide) rfl (fun ls hl => ?_)
      have K74 : ∀ (H : Heap) (locs : List Loc) (ls : Array Slot), XR D d A ad S H → va_S A s.heap H locs → lv_has ls 6 [(5, .int (x_count_R74 S).2), (4, .int (x_count_R74 S).1), (3, .int (x_count_R37 S).1), (2, .int (x_count_R4 S).1), (0, .ref (ad (0, 0))), (1, .int x1)] → W p l e (rm_ 0) s m av below meth c H locs 0 0 Q (F0 m 104 ls []) := by
        intro H locs ls hR hS hl
        refine lv_iload_n hx hb dX0_count_104 rfl (lv_at hl 5 rfl) ?_
        by_cases c13 : x1 = 0
        · refine lv_tableIn (off := 39) (tgt := 144) hx hb dX0_count_105 (by rw [c13]; decide) (by rw [c13]; decide) (by rw [c13]; rfl) (by decide) ?_
          refine lv_aload_n hx hb dX0_count_144 rfl (lv_at hl 4 rfl) ?_
          refine xg_i X.1 hR 6 (by decide) rfl q103 rfl dX0_count_145 ?_
          exact x_ri hx hb hrt (rfl) hlk hR hS hQ (hF1 (if_pos c13)) dX0_count_148
        · by_cases c14 : x1 = 1
          · refine lv_tableIn (off := 44) (tgt := 149) hx hb dX0_count_105 (by rw [c14]; decide) (by rw [c14]; decide) (by rw [c14]; rfl) (by decide) ?_
            refine lv_aload_n hx hb dX0_count_149 rfl (lv_at hl 4 rfl) ?_
            refine xg_i X.1 hR 5 (by decide) rfl q101 rfl dX0_count_150 ?_
            exact x_ri hx hb hrt (rfl) hlk hR hS hQ (hF1 (Eq.trans (if_neg c13) (if_pos c14))) dX0_count_153
          · by_cases c15 : x1 = 2
            · refine lv_tableIn (off := 49) (tgt := 154) hx hb dX0_count_105 (by rw [c15]; decide) (by rw [c15]; decide) (by rw [c15]; rfl) (by decide) ?_
              refine lv_iload_n hx hb dX0_count_154 rfl (lv_at hl 3 rfl) ?_
              exact x_ri hx hb hrt (rfl) hlk hR hS hQ (hF1 (Eq.trans (if_neg c13) (Eq.trans (if_neg c14) (if_pos c15)))) dX0_count_155
            · by_cases c16 : x1 = 3
              · refine lv_tableIn (off := 51) (tgt := 156) hx hb dX0_count_105 (by rw [c16]; decide) (by rw [c16]; decide) (by rw [c16]; rfl) (by decide) ?_
                refine lv_aload_n hx hb dX0_count_156 rfl (lv_at hl 4 rfl) ?_
                refine xg_i X.1 hR 20 (by decide) rfl q117 rfl dX0_count_157 ?_
                exact x_ri hx hb hrt (rfl) hlk hR hS hQ (hF1 (Eq.trans (if_neg c13) (Eq.trans (if_neg c14) (Eq.trans (if_neg c15) (if_pos c16))))) dX0_count_160
              · by_cases c17 : x1 = 4
                · refine lv_tableIn (off := 56) (tgt := 161) hx hb dX0_count_105 (by rw [c17]; decide) (by rw [c17]; decide) (by rw [c17]; rfl) (by decide) ?_
                  refine lv_iload_n hx hb dX0_count_161 rfl (lv_at hl 2 rfl) ?_
                  exact x_ri hx hb hrt (rfl) hlk hR hS hQ (hF1 (Eq.trans (if_neg c13) (Eq.trans (if_neg c14) (Eq.trans (if_neg c15) (Eq.trans (if_neg c16) (if_pos c17)))))) dX0_count_162
                · by_cases c18 : x1 = 5
                  · refine lv_tableIn (off := 58) (tgt := 163) hx hb dX0_count_105 (by rw [c18]; decide) (by rw [c18]; decide) (by rw [c18]; rfl) (by decide) ?_
                    refine lv_iload hx hb dX0_count_163 (lv_at hl 1 rfl) ?_
                    exact x_ri hx hb hrt (rfl) hlk hR hS hQ (hF1 (Eq.trans (if_neg c13) (Eq.trans (if_neg c14) (Eq.trans (if_neg c15) (Eq.trans (if_neg c16) (Eq.trans (if_neg c17) (if_pos c18))))))) dX0_count_165
                  · refine lv_tableOut (tgt := 166) hx hb dX0_count_105 (sw_out _ _ _ (fun k hk => by match k, hk with | 0, _ => exact c13 | 1, _ => exact c14 | 2, _ => exact c15 | 3, _ => exact c16 | 4, _ => exact c17 | 5, _ => exact c18)) (by decide) ?_
                    refine lv_iconst (v := (-1)) hx hb dX0_count_166 (by decide) ?_
                    exact x_ri hx hb hrt (rfl) hlk hR hS hQ (hF1 (Eq.trans (if_neg c13) (Eq.trans (if_neg c14) (Eq.trans (if_neg c15) (Eq.trans (if_neg c16) (Eq.trans (if_neg c17) (if_neg c18))))))) dX0_count_167
      have L74 : ∀ (f74 : Nat) (y4_74 : Int32) (y5_74 : Int32) (H : Heap) (locs : List Loc) (ls : Array Slot), ((S.1 5 0) - y5_74 : Int32).toNatClampNeg < f74 → 0 ≤ y5_74 → x_count_L74 S (f74) y4_74 y5_74 = (x_count_R74 S) → XR D d A ad S H → va_S A s.heap H locs → lv_has ls 6 [(5, .int y5_74), (4, .int y4_74), (3, .int (x_count_R37 S).1), (2, .int (x_count_R4 S).1), (0, .ref (ad (0, 0))), (1, .int x1)] → W p l e (rm_ 0) s m av below meth c H locs 0 0 Q (F0 m 74 ls []) := by
        intro f74
        induction f74 with
        | zero => intro y4_74 y5_74 H locs ls hf; exact absurd hf (Nat.not_lt_zero _)
        | succ f74 ih =>
          intro y4_74 y5_74 H locs ls hf hi5 hE hR hS hl
          refine lv_iload hx hb dX0_count_74 (lv_at hl 0 rfl) ?_
          refine lv_aload_n hx hb dX0_count_76 rfl (lv_at hl 4 rfl) ?_
          refine xg_i X.1 hR 5 (by decide) rfl q101 rfl dX0_count_77 ?_
          refine lv_icmp_ge (tgt := 104) hx hb dX0_count_80 (by decide) (fun c11 => ?_) (fun c11 => ?_)
          · have e0 : (x_count_R74 S) = (y4_74, y5_74) := Eq.trans (Eq.symm hE) (Eq.trans (x_count_L74_s _ _ _ _) (if_pos c11))
            exact K74 _ _ _ hR hS (by rw [e0]; exact lv_sub hl [0, 1, 2, 3, 4, 5] rfl)
          · have hj : (Int32.toNatClampNeg y5_74) < S.2.2.2 7 0 := xi_trn hI ⟨hi5, le_pred (Int32.not_le.mp (by assumption))⟩
            refine lv_iload hx hb dX0_count_83 (lv_at hl 1 rfl) ?_
            refine lv_aload_n hx hb dX0_count_85 rfl (lv_at hl 4 rfl) ?_
            refine xg_a X.1 hR 4 (by decide) (by decide) q100 dX0_count_86 ?_
            refine lv_iload hx hb dX0_count_89 (lv_at hl 0 rfl) ?_
            refine x_ldt X hR (ixl 16 16 (by decide) rfl (x_count_o12 S y5_74 hI hTm hi5 c11 hj)) (hj) dX0_count_91 ?_
            refine xgt X hR (x_lvt (hj)) (xi_kd (X := S) hI (hj)) 6 (by decide) q376 (Or.inl rfl) rfl dX0_count_92 ?_
            refine lv_iadd hx hb dX0_count_95 ?_
            refine lv_istore (lv' := [(4, .int (x_count_v96 S y4_74 y5_74)), (5, .int y5_74), (3, .int (x_count_R37 S).1), (2, .int (x_count_R4 S).1), (0, .ref (ad (0, 0))), (1, .int x1)]) hx hb dX0_count_96 hl (by decide) rfl (fun ls hl => ?_)
            refine lv_iinc (v := (y5_74 + 1)) (lv' := [(5, .int (y5_74 + 1)), (4, .int (x_count_v96 S y4_74 y5_74)), (3, .int (x_count_R37 S).1), (2, .int (x_count_R4 S).1), (0, .ref (ad (0, 0))), (1, .int x1)]) hx hb dX0_count_98 hl (k := 1) rfl rfl (by decide) rfl (fun ls hl => ?_)
            refine lv_goto (tgt := 74) hx hb dX0_count_101 (by decide) ?_
            exact ih (x_count_v96 S y4_74 y5_74) (y5_74 + 1) _ _  _ (Nat.lt_of_lt_of_le (up_ hi5 (x_count_o20 S y5_74 hI hTm hi5 c11 hj)) (Nat.le_of_lt_succ hf)) (x_count_o19 S y5_74 hI hTm hi5 c11 hj) (Eq.trans (Eq.symm (Eq.trans (x_count_L74_s _ _ _ _) (if_neg c11))) hE) hR hS (lv_sub hl [0, 1, 2, 3, 4, 5] rfl)
      exact L74 _ 0 0 _ _  _ (fz_lt _) (by decide) rfl hR hS (lv_sub hl [0, 1, 2, 3, 4, 5] rfl)
    have L37 : ∀ (f37 : Nat) (y3_37 : Int32) (y4_37 : Int32) (H : Heap) (locs : List Loc) (ls : Array Slot), (8 - y4_37 : Int32).toNatClampNeg < f37 → 0 ≤ y4_37 → x_count_L37 S (f37) y3_37 y4_37 = (x_count_R37 S) → XR D d A ad S H → va_S A s.heap H locs → lv_has ls 6 [(4, .int y4_37), (3, .int y3_37), (2, .int (x_count_R4 S).1), (0, .ref (ad (0, 0))), (1, .int x1)] → W p l e (rm_ 0) s m av below meth c H locs 0 0 Q (F0 m 37 ls []) := by
      intro f37
      induction f37 with
      | zero => intro y3_37 y4_37 H locs ls hf; exact absurd hf (Nat.not_lt_zero _)
      | succ f37 ih =>
        intro y3_37 y4_37 H locs ls hf hi4 hE hR hS hl
        refine lv_iload hx hb dX0_count_37 (lv_at hl 0 rfl) ?_
        refine lv_bipush (v := 8) hx hb dX0_count_39 (by decide) ?_
        refine lv_icmp_ge (tgt := 68) hx hb dX0_count_41 (by decide) (fun c6 => ?_) (fun c6 => ?_)
        · have e0 : (x_count_R37 S) = (y3_37, y4_37) := Eq.trans (Eq.symm hE) (Eq.trans (x_count_L37_s _ _ _ _) (if_pos c6))
          exact K37 _ _ _ hR hS (by rw [e0]; exact lv_sub hl [0, 1, 2, 3, 4] rfl)
        · refine lv_iload_n hx hb dX0_count_44 rfl (lv_at hl 1 rfl) ?_
          refine lv_aload_n hx hb dX0_count_45 rfl (lv_at hl 3 rfl) ?_
          refine xg_a X.1 hR 3 (by decide) (by decide) q99 dX0_count_46 ?_
          refine lv_iload hx hb dX0_count_49 (lv_at hl 0 rfl) ?_
          have J10 : ∀ (w9 : Int32) (H : Heap) (locs : List Loc) (ls : Array Slot), w9 = (x_count_j60_s0 S y4_37) → XR D d A ad S H → va_S A s.heap H locs → lv_has ls 6 [(4, .int y4_37), (3, .int y3_37), (2, .int (x_count_R4 S).1), (0, .ref (ad (0, 0))), (1, .int x1)] → W p l e (rm_ 0) s m av below meth c H locs 0 0 Q (F0 m 60 ls [.int w9, .int y3_37]) := by
            intro w9 H locs ls ew9 hR hS hl
            subst ew9
            refine lv_iadd hx hb dX0_count_60 ?_
            refine lv_istore_n (lv' := [(3, .int (x_count_v61 S y3_37 y4_37)), (4, .int y4_37), (2, .int (x_count_R4 S).1), (0, .ref (ad (0, 0))), (1, .int x1)]) hx hb dX0_count_61 rfl hl (by decide) rfl (fun ls hl => ?_)
            refine lv_iinc (v := (y4_37 + 1)) (lv' := [(4, .int (y4_37 + 1)), (3, .int (x_count_v61 S y3_37 y4_37)), (2, .int (x_count_R4 S).1), (0, .ref (ad (0, 0))), (1, .int x1)]) hx hb dX0_count_62 hl (k := 1) rfl rfl (by decide) rfl (fun ls hl => ?_)
            refine lv_goto (tgt := 37) hx hb dX0_count_65 (by decide) ?_
            exact ih (x_count_v61 S y3_37 y4_37) (y4_37 + 1) _ _  _ (Nat.lt_of_lt_of_le (up_ hi4 (x_count_o22 S y4_37 hI hTm hi4 c6)) (Nat.le_of_lt_succ hf)) (x_count_o21 S y4_37 hI hTm hi4 c6) (Eq.trans (Eq.symm (Eq.trans (x_count_L37_s _ _ _ _) (if_neg c6))) hE) hR hS (lv_sub hl [0, 1, 2, 3, 4] rfl)
          refine x_ldRB X hR (ixl 8 8 (by decide) rfl (x_count_o8 S y4_37 hI hTm hi4 c6)) dX0_count_51 (fun c7 => ?_) (fun c7 => ?_)
          · refine lv_ifnonnullN hx hb dX0_count_52 ?_
            refine lv_iconst (v := 0) hx hb dX0_count_55 (by decide) ?_
            refine lv_goto (tgt := 60) hx hb dX0_count_56 (by decide) ?_
            exact J10 _ _ _  _ (Eq.symm (if_pos c7)) hR hS  (lv_sub hl [0, 1, 2, 3, 4] rfl)
          · refine lv_ifnonnull (tgt := 59) hx hb dX0_count_52 (by decide) ?_
            refine lv_iconst (v := 1) hx hb dX0_count_59 (by decide) ?_
            exact J10 _ _ _  _ (Eq.symm (if_neg c7)) hR hS  (lv_sub hl [0, 1, 2, 3, 4] rfl)
    exact L37 _ 0 0 _ _  _ (fz_lt _) (by decide) rfl hR hS (lv_sub hl [0, 1, 2, 3, 4] rfl)
  have L4 : ∀ (f4 : Nat) (y2_4 : Int32) (y3_4 : Int32) (H : Heap) (locs : List Loc) (ls : Array Slot), (4 - y3_4 : Int32).toNatClampNeg < f4 → 0 ≤ y3_4 → x_count_L4 S (f4) y2_4 y3_4 = (x_count_R4 S) → XR D d A ad S H → va_S A s.heap H locs → lv_has ls 6 [(3, .int y3_4), (2, .int y2_4), (0, .ref (ad (0, 0))), (1, .int x1)] → W p l e (rm_ 0) s m av below meth c H locs 0 0 Q (F0 m 4 ls []) := by
    intro f4
    induction f4 with
    | zero => intro y2_4 y3_4 H locs ls hf; exact absurd hf (Nat.not_lt_zero _)
    | succ f4 ih =>
      intro y2_4 y3_4 H locs ls hf hi3 hE hR hS hl
      refine lv_iload_n hx hb dX0_count_4 rfl (lv_at hl 0 rfl) ?_
      refine lv_iconst (v := 4) hx hb dX0_count_5 (by decide) ?_
      refine lv_icmp_ge (tgt := 32) hx hb dX0_count_6 (by decide) (fun c1 => ?_) (fun c1 => ?_)
      · have e0 : (x_count_R4 S) = (y2_4, y3_4) := Eq.trans (Eq.symm hE) (Eq.trans (x_count_L4_s _ _ _ _) (if_pos c1))
        exact K4 _ _ _ hR hS (by rw [e0]; exact lv_sub hl [0, 1, 2, 3] rfl)
      · refine lv_iload_n hx hb dX0_count_9 rfl (lv_at hl 1 rfl) ?_
        refine lv_aload_n hx hb dX0_count_10 rfl (lv_at hl 2 rfl) ?_
        refine xg_a X.1 hR 7 (by decide) (by decide) q104 dX0_count_11 ?_
        refine lv_iload_n hx hb dX0_count_14 rfl (lv_at hl 0 rfl) ?_
        have J5 : ∀ (w4 : Int32) (H : Heap) (locs : List Loc) (ls : Array Slot), w4 = (x_count_j24_s0 S y3_4) → XR D d A ad S H → va_S A s.heap H locs → lv_has ls 6 [(3, .int y3_4), (2, .int y2_4), (0, .ref (ad (0, 0))), (1, .int x1)] → W p l e (rm_ 0) s m av below meth c H locs 0 0 Q (F0 m 24 ls [.int w4, .int y2_4]) := by
          intro w4 H locs ls ew4 hR hS hl
          subst ew4
          refine lv_iadd hx hb dX0_count_24 ?_
          refine lv_istore_n (lv' := [(2, .int (x_count_v25 S y2_4 y3_4)), (3, .int y3_4), (0, .ref (ad (0, 0))), (1, .int x1)]) hx hb dX0_count_25 rfl hl (by decide) rfl (fun ls hl => ?_)
          refine lv_iinc (v := (y3_4 + 1)) (lv' := [(3, .int (y3_4 + 1)), (2, .int (x_count_v25 S y2_4 y3_4)), (0, .ref (ad (0, 0))), (1, .int x1)]) hx hb dX0_count_26 hl (k := 1) rfl rfl (by decide) rfl (fun ls hl => ?_)
          refine lv_goto (tgt := 4) hx hb dX0_count_29 (by decide) ?_
          exact ih (x_count_v25 S y2_4 y3_4) (y3_4 + 1) _ _  _ (Nat.lt_of_lt_of_le (up_ hi3 (x_count_o24 S y3_4 hI hTm hi3 c1)) (Nat.le_of_lt_succ hf)) (x_count_o23 S y3_4 hI hTm hi3 c1) (Eq.trans (Eq.symm (Eq.trans (x_count_L4_s _ _ _ _) (if_neg c1))) hE) hR hS (lv_sub hl [0, 1, 2, 3] rfl)
        refine x_ldwB X hR (ixl 4 4 (by decide) rfl (x_count_o3 S y3_4 hI hTm hi3 c1)) dX0_count_15 (fun c2 => ?_) (fun c2 => ?_)
        · refine lv_ifnonnullN hx hb dX0_count_16 ?_
          refine lv_iconst (v := 0) hx hb dX0_count_19 (by decide) ?_
          refine lv_goto (tgt := 24) hx hb dX0_count_20 (by decide) ?_
          exact J5 _ _ _  _ (Eq.symm (if_pos c2)) hR hS  (lv_sub hl [0, 1, 2, 3] rfl)
        · refine lv_ifnonnull (tgt := 23) hx hb dX0_count_16 (by decide) ?_
          refine lv_iconst (v := 1) hx hb dX0_count_23 (by decide) ?_
          exact J5 _ _ _  _ (Eq.symm (if_neg c2)) hR hS  (lv_sub hl [0, 1, 2, 3] rfl)
  exact L4 _ 0 0 _ _  _ (fz_lt _) (by decide) rfl hR hS (lv_sub hl [0, 1, 2, 3] rfl)
