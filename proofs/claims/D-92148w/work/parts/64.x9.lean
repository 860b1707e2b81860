/-! PRINTED by gen/run_x9.py -/
set_option maxRecDepth 100000
theorem xv_many_i {S : XS} {j : Nat} {i : Int32} (h0 : 0 ≤ i) (h : i < xv_many S j) : ¬ S.2.2.2 0 j = 0 → 0 ≤ i ∧ i < nI (S.2.2.2 1 j) := by
  intro hk
  unfold xv_many at h
  rw [if_neg hk] at h
  exact ⟨h0, h⟩
def x_digestOf_v25 (S : XS) (x1 : Nat) (y3_5 : Int64) (y5_5 : Int32) : Int64 := ((31 * y3_5) + (Int32.toInt64 (x_toldOf S x1 y5_5)))
def x_digestOf_L5 (S : XS) (x1 : Nat) : Nat → Int64 → Int32 → Int64 × Int32
  | 0, y3_5, y5_5 => (y3_5, y5_5)
  | f5 + 1, y3_5, y5_5 => (if 8 ≤ y5_5 then (y3_5, y5_5) else (x_digestOf_L5 S x1 f5 (x_digestOf_v25 S x1 y3_5 y5_5) (y5_5 + 1)))
theorem x_digestOf_L5_s (S : XS) (x1 : Nat) (f5 : Nat) (y3_5 : Int64) (y5_5 : Int32) : x_digestOf_L5 S x1 (f5 + 1) y3_5 y5_5 = (if 8 ≤ y5_5 then (y3_5, y5_5) else (x_digestOf_L5 S x1 f5 (x_digestOf_v25 S x1 y3_5 y5_5) (y5_5 + 1))) := rfl
def x_digestOf_R5 (S : XS) (x1 : Nat) (x2 : Int64) : Int64 × Int32 := x_digestOf_L5 S x1 (fz ((8 - 0 : Int32).toNatClampNeg + 1)) x2 0
def x_digestOf_v57 (S : XS) (x1 : Nat) (y3_35 : Int64) (y5_35 : Int32) : Int64 := ((31 * y3_35) + (Int32.toInt64 (xv_notch S x1 y5_35)))
def x_digestOf_L35 (S : XS) (x1 : Nat) : Nat → Int64 → Int32 → Int64 × Int32
  | 0, y3_35, y5_35 => (y3_35, y5_35)
  | f35 + 1, y3_35, y5_35 => (if (xv_many S x1) ≤ y5_35 then (y3_35, y5_35) else (x_digestOf_L35 S x1 f35 (x_digestOf_v57 S x1 y3_35 y5_35) (y5_35 + 1)))
theorem x_digestOf_L35_s (S : XS) (x1 : Nat) (f35 : Nat) (y3_35 : Int64) (y5_35 : Int32) : x_digestOf_L35 S x1 (f35 + 1) y3_35 y5_35 = (if (xv_many S x1) ≤ y5_35 then (y3_35, y5_35) else (x_digestOf_L35 S x1 f35 (x_digestOf_v57 S x1 y3_35 y5_35) (y5_35 + 1))) := rfl
def x_digestOf_R35 (S : XS) (x1 : Nat) (x2 : Int64) : Int64 × Int32 := x_digestOf_L35 S x1 (fz (((xv_many S x1) - 0 : Int32).toNatClampNeg + 1)) (x_digestOf_R5 S x1 x2).1 0
theorem x_digestOf_o5 (S : XS) (x1 : Nat) (y6_80 : Int32) (hI : XInv S) (hj : x1 < S.2.2.2 7 0) (c3 : ¬ (x_isB S x1) = 0) (hk3 : S.2.2.2 0 x1 = 3) (hi6 : 0 ≤ y6_80) (c4 : ¬ (nI (S.2.2.2 2 x1)) ≤ y6_80) : 0 ≤ y6_80 ∧ y6_80 < nI (S.2.2.2 2 x1) := by 
  have bl_y6_80 := Int32.toInt_lt y6_80
  try (have bu_0 := Int32.toInt_lt (nI (S.2.2.2 2 x1)))
  try simp only [i_le, i_lt, i_eq, Int32.reduceToInt] at *
  try simp only [Int32.reduceToInt] at *
  omega
def x_digestOf_v106 (S : XS) (x1 : Nat) (y3_80 : Int64) (y6_80 : Int32) : Int64 := ((31 * y3_80) + (Int32.toInt64 (S.2.2.1 1 x1 (Int32.toNatClampNeg y6_80))))
def x_digestOf_L80 (S : XS) (x1 : Nat) : Nat → Int64 → Int32 → Int64 × Int32
  | 0, y3_80, y6_80 => (y3_80, y6_80)
  | f80 + 1, y3_80, y6_80 => (if (nI (S.2.2.2 2 x1)) ≤ y6_80 then (y3_80, y6_80) else (x_digestOf_L80 S x1 f80 (x_digestOf_v106 S x1 y3_80 y6_80) (y6_80 + 1)))
theorem x_digestOf_L80_s (S : XS) (x1 : Nat) (f80 : Nat) (y3_80 : Int64) (y6_80 : Int32) : x_digestOf_L80 S x1 (f80 + 1) y3_80 y6_80 = (if (nI (S.2.2.2 2 x1)) ≤ y6_80 then (y3_80, y6_80) else (x_digestOf_L80 S x1 f80 (x_digestOf_v106 S x1 y3_80 y6_80) (y6_80 + 1))) := rfl
def x_digestOf_R80 (S : XS) (x1 : Nat) (x2 : Int64) : Int64 × Int32 := x_digestOf_L80 S x1 (fz (((nI (S.2.2.2 2 x1)) - 0 : Int32).toNatClampNeg + 1)) (x_digestOf_R35 S x1 x2).1 0
def x_digestOf_v125 (S : XS) (x1 : Nat) (x2 : Int64) : Int64 := ((31 * (x_digestOf_R80 S x1 x2).1) + (Int32.toInt64 (x_t5_mark S x1)))
theorem x_digestOf_o6 (S : XS) (x1 : Nat) (y6_80 : Int32) (hI : XInv S) (hj : x1 < S.2.2.2 7 0) (c3 : ¬ (x_isB S x1) = 0) (hk3 : S.2.2.2 0 x1 = 3) (hi6 : 0 ≤ y6_80) (c4 : ¬ (nI (S.2.2.2 2 x1)) ≤ y6_80) : 0 ≤ (y6_80 + 1) := by 
  have bl_y6_80 := Int32.toInt_lt y6_80
  try (have bu_0 := Int32.toInt_lt (nI (S.2.2.2 2 x1)))
  try simp only [i_le, i_lt, i_eq, Int32.reduceToInt] at *
  first | (have e_0 := a32 (x := y6_80) (y := 1) (by (try simp only [Int32.reduceToInt]); omega); (try simp only [Int32.reduceToInt] at e_0)) | skip
  try simp only [Int32.reduceToInt] at *
  omega
theorem x_digestOf_o7 (S : XS) (x1 : Nat) (y6_80 : Int32) (hI : XInv S) (hj : x1 < S.2.2.2 7 0) (c3 : ¬ (x_isB S x1) = 0) (hk3 : S.2.2.2 0 x1 = 3) (hi6 : 0 ≤ y6_80) (c4 : ¬ (nI (S.2.2.2 2 x1)) ≤ y6_80) : y6_80 < (nI (S.2.2.2 2 x1)) := by 
  have bl_y6_80 := Int32.toInt_lt y6_80
  try (have bu_0 := Int32.toInt_lt (nI (S.2.2.2 2 x1)))
  try simp only [i_le, i_lt, i_eq, Int32.reduceToInt] at *
  try simp only [Int32.reduceToInt] at *
  omega
theorem x_digestOf_o8 (S : XS) (x1 : Nat) (y5_35 : Int32) (hI : XInv S) (hj : x1 < S.2.2.2 7 0) (hi5 : 0 ≤ y5_35) (c2 : ¬ (xv_many S x1) ≤ y5_35) (hnt : ¬ S.2.2.2 0 x1 = 0 → 0 ≤ y5_35 ∧ y5_35 < nI (S.2.2.2 1 x1)) : 0 ≤ (y5_35 + 1) := by 
  have bl_y5_35 := Int32.toInt_lt y5_35
  try (have bu_0 := Int32.toInt_lt (xv_many S x1))
  try simp only [i_le, i_lt, i_eq, Int32.reduceToInt] at *
  first | (have e_0 := a32 (x := y5_35) (y := 1) (by (try simp only [Int32.reduceToInt]); omega); (try simp only [Int32.reduceToInt] at e_0)) | skip
  try simp only [Int32.reduceToInt] at *
  omega
theorem x_digestOf_o9 (S : XS) (x1 : Nat) (y5_35 : Int32) (hI : XInv S) (hj : x1 < S.2.2.2 7 0) (hi5 : 0 ≤ y5_35) (c2 : ¬ (xv_many S x1) ≤ y5_35) (hnt : ¬ S.2.2.2 0 x1 = 0 → 0 ≤ y5_35 ∧ y5_35 < nI (S.2.2.2 1 x1)) : y5_35 < (xv_many S x1) := by 
  have bl_y5_35 := Int32.toInt_lt y5_35
  try (have bu_0 := Int32.toInt_lt (xv_many S x1))
  try simp only [i_le, i_lt, i_eq, Int32.reduceToInt] at *
  try simp only [Int32.reduceToInt] at *
  omega
theorem x_digestOf_o10 (S : XS) (x1 : Nat) (y5_5 : Int32) (hI : XInv S) (hj : x1 < S.2.2.2 7 0) (hi5 : 0 ≤ y5_5) (c1 : ¬ 8 ≤ y5_5) : 0 ≤ (y5_5 + 1) := by 
  have bl_y5_5 := Int32.toInt_lt y5_5
  try simp only [i_le, i_lt, i_eq, Int32.reduceToInt] at *
  first | (have e_0 := a32 (x := y5_5) (y := 1) (by (try simp only [Int32.reduceToInt]); omega); (try simp only [Int32.reduceToInt] at e_0)) | skip
  try simp only [Int32.reduceToInt] at *
  omega
theorem x_digestOf_o11 (S : XS) (x1 : Nat) (y5_5 : Int32) (hI : XInv S) (hj : x1 < S.2.2.2 7 0) (hi5 : 0 ≤ y5_5) (c1 : ¬ 8 ≤ y5_5) : y5_5 < 8 := by 
  have bl_y5_5 := Int32.toInt_lt y5_5
  try simp only [i_le, i_lt, i_eq, Int32.reduceToInt] at *
  try simp only [Int32.reduceToInt] at *
  omega
def x_digestOf (S : XS) (x1 : Nat) (x2 : Int64) : Int64 := (if (x_isB S x1) = 0 then (x_digestOf_R35 S x1 x2).1 else (x_digestOf_v125 S x1 x2))
set_option maxHeartbeats 4000000 in
theorem xt_digestOf (l : Launch) (D : va_G) (d : Nat → ClassId) (A : Nat → Prop) (ad : XK → Nat) (S : XS) (x1 : Nat) (x2 : Int64) (hI : XInv S) (hj : x1 < S.2.2.2 7 0) : XL l yX0_digestOf cX0_digestOf 7 (rm_ 4) D d A ad S [.ref (ad (40, x1)), .long x2] ((x_digestOf S x1 x2), S) := by
  refine x_startL RX0 rfl (by decide) (Nat.le_of_ble_eq_true rfl) ?_
  intro p e s m av below meth c ls Q X hrt hlk hl hR hQ
  have hx := X.1.1.1
  have hb := X.1.1.2.1
  have hown := X.1.1.2.2.2.1
  have hts := X.1.1.2.2.2.2
  have hS : va_S A s.heap s.heap [] := va_S.rf
  have hl : lv_has ls 7 [(0, .ref (ad (40, x1))), (1, .long x2)] := hl
  refine lv_lload_n hx hb dX0_digestOf_0 rfl (lv_at hl 1 rfl) ?_
  refine lv_lstore_n (lv' := [(3, .long x2), (0, .ref (ad (40, x1))), (1, .long x2)]) hx hb dX0_digestOf_1 rfl hl (by decide) rfl (fun ls hl => ?_)
  refine lv_iconst (v := 0) hx hb dX0_digestOf_2 (by decide) ?_
  refine lv_istore (lv' := [(5, .int 0), (3, .long x2), (0, .ref (ad (40, x1))), (1, .long x2)]) hx hb dX0_digestOf_3 hl (by decide) rfl (fun ls hl => ?_)
  have K5 : ∀ (H : Heap) (locs : List Loc) (ls : Array Slot), XR D d A ad S H → va_S A s.heap H locs → lv_has ls 7 [(5, .int (x_digestOf_R5 S x1 x2).2), (3, .long (x_digestOf_R5 S x1 x2).1), (0, .ref (ad (40, x1))), (1, .long x2)] → W p l e (rm_ 4) s m av below meth c H locs 0 0 Q (F0 m 32 ls []) := by
    intro H locs ls hR hS hl
    refine lv_iconst (v := 0) hx hb dX0_digestOf_32 (by decide) ?_
    refine lv_istore (lv' := [(5, .int 0), (3, .long (x_digestOf_R5 S x1 x2).1), (0, .ref (ad (40, x1))), (1, .long x2)]) hx hb dX0_digestOf_33 hl (by decide) rfl (fun ls hl => ?_)
    have K35 : ∀ (H : Heap) (locs : List Loc) (ls : Array Slot), XR D d A ad S H → va_S A s.heap H locs → lv_has ls 7 [(5, .int (x_digestOf_R35 S x1 x2).2), (3, .long (x_digestOf_R35 S x1 x2).1), (0, .ref (ad (40, x1))), (1, .long x2)] → W p l e (rm_ 4) s m av below meth c H locs 0 0 Q (F0 m 64 ls []) := by
      intro H locs ls hR hS hl
      refine lv_aload_n hx hb dX0_digestOf_64 rfl (lv_at hl 2 rfl) ?_
      refine x_instB X hR (x_lvt (hj)) (xi_kd (X := S) hI (hj)) q483 dX0_digestOf_65 ?_
      refine lv_if_eq (tgt := 126) hx hb dX0_digestOf_68 (by decide) (fun c3 => ?_) (fun c3 => ?_)
      · refine lv_lload_n hx hb dX0_digestOf_126 rfl (lv_at hl 1 rfl) ?_
        exact x_rl hx hb hrt hlk hR hS hQ (hF1 (if_pos c3)) dX0_digestOf_127
      · have hk3 : S.2.2.2 0 x1 = 3 := x_isB_k (by assumption)
        refine lv_aload_n hx hb dX0_digestOf_71 rfl (lv_at hl 2 rfl) ?_
        refine x_castB X hR (x_lvt (hj)) (hk3) q483 dX0_digestOf_72 ?_
        refine lv_astore (lv' := [(5, .ref (ad (40, x1))), (3, .long (x_digestOf_R35 S x1 x2).1), (0, .ref (ad (40, x1))), (1, .long x2)]) hx hb dX0_digestOf_75 hl (by decide) rfl (fun ls hl => ?_)
        refine lv_iconst (v := 0) hx hb dX0_digestOf_77 (by decide) ?_
        refine lv_istore (lv' := [(6, .int 0), (5, .ref (ad (40, x1))), (3, .long (x_digestOf_R35 S x1 x2).1), (0, .ref (ad (40, x1))), (1, .long x2)]) hx hb dX0_digestOf_78 hl (by decide) rfl (fun ls hl => ?_)
        have K80 : ∀ (H : Heap) (locs : List Loc) (ls : Array Slot), XR D d A ad S H → va_S A s.heap H locs → lv_has ls 7 [(6, .int (x_digestOf_R80 S x1 x2).2), (5, .ref (ad (40, x1))), (3, .long (x_digestOf_R80 S x1 x2).1), (0, .ref (ad (40, x1))), (1, .long x2)] → W p l e (rm_ 4) s m av below meth c H locs 0 0 Q (F0 m 113 ls []) := by
          intro H locs ls hR hS hl
          refine lv_ldc2 hx hb hown (hts _ q1127) dX0_digestOf_113 ?_
          refine lv_lload_n hx hb dX0_digestOf_116 rfl (lv_at hl 2 rfl) ?_
          refine lv_lmul hx hb dX0_digestOf_117 ?_
          refine lv_aload hx hb dX0_digestOf_118 (lv_at hl 1 rfl) ?_
          refine x_bi hS (xr_V X hR (x_lvt (hj)) (ci := 5) (by have hk_ := hk3; rw [x_C40, hk_]) rfl (xt_t5_mark l D d A ad S x1 (hI) (hj) (hk3)) 0 (lw_V q611 q602 q1722 q72 q603) ⟨rfl, rfl⟩ (by decide +kernel) ⟨by decide, by decide⟩ ⟨by decide, by decide⟩ rfl hl.1 rfl (Nat.le_of_ble_eq_true rfl) dX0_digestOf_120) (fun H locs hR hS => ?_)
          refine lv_i2l hx hb dX0_digestOf_123 rfl ?_
          refine lv_ladd hx hb dX0_digestOf_124 ?_
          refine lv_lstore_n (lv' := [(3, .long (x_digestOf_v125 S x1 x2)), (6, .int (x_digestOf_R80 S x1 x2).2), (5, .ref (ad (40, x1))), (0, .ref (ad (40, x1))), (1, .long x2)]) hx hb dX0_digestOf_125 rfl hl (by decide) rfl (fun ls hl => ?_)
          refine lv_lload_n hx hb dX0_digestOf_126 rfl (lv_at hl 0 rfl) ?_
          exact x_rl hx hb hrt hlk hR hS hQ (hF1 (if_neg c3)) dX0_digestOf_127
        have L80 : ∀ (f80 : Nat) (y3_80 : Int64) (y6_80 : Int32) (H : Heap) (locs : List Loc) (ls : Array Slot), ((nI (S.2.2.2 2 x1)) - y6_80 : Int32).toNatClampNeg < f80 → 0 ≤ y6_80 → x_digestOf_L80 S x1 (f80) y3_80 y6_80 = (x_digestOf_R80 S x1 x2) → XR D d A ad S H → va_S A s.heap H locs → lv_has ls 7 [(6, .int y6_80), (5, .ref (ad (40, x1))), (3, .long y3_80), (0, .ref (ad (40, x1))), (1, .long x2)] → W p l e (rm_ 4) s m av below meth c H locs 0 0 Q (F0 m 80 ls []) := by
          intro f80
          induction f80 with
          | zero => intro y3_80 y6_80 H locs ls hf; exact absurd hf (Nat.not_lt_zero _)
          | succ f80 ih =>
            intro y3_80 y6_80 H locs ls hf hi6 hE hR hS hl
            refine lv_iload hx hb dX0_digestOf_80 (lv_at hl 0 rfl) ?_
            refine lv_aload hx hb dX0_digestOf_82 (lv_at hl 1 rfl) ?_
            refine xg_pi X hR (x_lvt (hj)) (hk3) q490 dX0_digestOf_84 ?_
            refine x_lnp X hR (x_lvp (hj) (hk3)) (v := nI (S.2.2.2 2 x1)) rfl dX0_digestOf_87 ?_
            refine lv_icmp_ge (tgt := 113) hx hb dX0_digestOf_88 (by decide) (fun c4 => ?_) (fun c4 => ?_)
            · have e0 : (x_digestOf_R80 S x1 x2) = (y3_80, y6_80) := Eq.trans (Eq.symm hE) (Eq.trans (x_digestOf_L80_s _ _ _ _ _) (if_pos c4))
              exact K80 _ _ _ hR hS (by rw [e0]; exact lv_sub hl [0, 1, 2, 3, 4] rfl)
            · refine lv_ldc2 hx hb hown (hts _ q1127) dX0_digestOf_91 ?_
              refine lv_lload_n hx hb dX0_digestOf_94 rfl (lv_at hl 2 rfl) ?_
              refine lv_lmul hx hb dX0_digestOf_95 ?_
              refine lv_aload hx hb dX0_digestOf_96 (lv_at hl 1 rfl) ?_
              refine xg_pi X hR (x_lvt (hj)) (hk3) q490 dX0_digestOf_98 ?_
              refine lv_iload hx hb dX0_digestOf_101 (lv_at hl 0 rfl) ?_
              refine x_ldp X hR (x_lvp (hj) (hk3)) (ix_ (xi_pl (X := S) hI (hj) (hk3)) (x_digestOf_o5 S x1 y6_80 hI hj c3 hk3 hi6 c4)) (v := S.2.2.1 1 x1 (Int32.toNatClampNeg y6_80)) rfl dX0_digestOf_103 ?_
              refine lv_i2l hx hb dX0_digestOf_104 rfl ?_
              refine lv_ladd hx hb dX0_digestOf_105 ?_
              refine lv_lstore_n (lv' := [(3, .long (x_digestOf_v106 S x1 y3_80 y6_80)), (6, .int y6_80), (5, .ref (ad (40, x1))), (0, .ref (ad (40, x1))), (1, .long x2)]) hx hb dX0_digestOf_106 rfl hl (by decide) rfl (fun ls hl => ?_)
              refine lv_iinc (v := (y6_80 + 1)) (lv' := [(6, .int (y6_80 + 1)), (3, .long (x_digestOf_v106 S x1 y3_80 y6_80)), (5, .ref (ad (40, x1))), (0, .ref (ad (40, x1))), (1, .long x2)]) hx hb dX0_digestOf_107 hl (k := 1) rfl rfl (by decide) rfl (fun ls hl => ?_)
              refine lv_goto (tgt := 80) hx hb dX0_digestOf_110 (by decide) ?_
              exact ih (x_digestOf_v106 S x1 y3_80 y6_80) (y6_80 + 1) _ _  _ (Nat.lt_of_lt_of_le (up_ hi6 (x_digestOf_o7 S x1 y6_80 hI hj c3 hk3 hi6 c4)) (Nat.le_of_lt_succ hf)) (x_digestOf_o6 S x1 y6_80 hI hj c3 hk3 hi6 c4) (Eq.trans (Eq.symm (Eq.trans (x_digestOf_L80_s _ _ _ _ _) (if_neg c4))) hE) hR hS (lv_sub hl [0, 2, 1, 3, 4] rfl)
        exact L80 _ (x_digestOf_R35 S x1 x2).1 0 _ _  _ (fz_lt _) (by decide) rfl hR hS (lv_sub hl [0, 1, 2, 3, 4] rfl)
    have L35 : ∀ (f35 : Nat) (y3_35 : Int64) (y5_35 : Int32) (H : Heap) (locs : List Loc) (ls : Array Slot), ((xv_many S x1) - y5_35 : Int32).toNatClampNeg < f35 → 0 ≤ y5_35 → x_digestOf_L35 S x1 (f35) y3_35 y5_35 = (x_digestOf_R35 S x1 x2) → XR D d A ad S H → va_S A s.heap H locs → lv_has ls 7 [(5, .int y5_35), (3, .long y3_35), (0, .ref (ad (40, x1))), (1, .long x2)] → W p l e (rm_ 4) s m av below meth c H locs 0 0 Q (F0 m 35 ls []) := by
      intro f35
      induction f35 with
      | zero => intro y3_35 y5_35 H locs ls hf; exact absurd hf (Nat.not_lt_zero _)
      | succ f35 ih =>
        intro y3_35 y5_35 H locs ls hf hi5 hE hR hS hl
        refine lv_iload hx hb dX0_digestOf_35 (lv_at hl 0 rfl) ?_
        refine lv_aload_n hx hb dX0_digestOf_37 rfl (lv_at hl 2 rfl) ?_
        refine vr_many X hR hS (hI) (hj) q554 hl.1 ⟨by decide, by decide⟩ ⟨by decide, by decide⟩ (Nat.le_of_ble_eq_true rfl) dX0_digestOf_38 (fun H locs hR hS => ?_)
        refine lv_icmp_ge (tgt := 64) hx hb dX0_digestOf_41 (by decide) (fun c2 => ?_) (fun c2 => ?_)
        · have e0 : (x_digestOf_R35 S x1 x2) = (y3_35, y5_35) := Eq.trans (Eq.symm hE) (Eq.trans (x_digestOf_L35_s _ _ _ _ _) (if_pos c2))
          exact K35 _ _ _ hR hS (by rw [e0]; exact lv_sub hl [0, 1, 2, 3] rfl)
        · have hnt : ¬ S.2.2.2 0 x1 = 0 → 0 ≤ y5_35 ∧ y5_35 < nI (S.2.2.2 1 x1) := xv_many_i hi5 (Int32.not_le.mp (by assumption))
          refine lv_ldc2 hx hb hown (hts _ q1127) dX0_digestOf_44 ?_
          refine lv_lload_n hx hb dX0_digestOf_47 rfl (lv_at hl 1 rfl) ?_
          refine lv_lmul hx hb dX0_digestOf_48 ?_
          refine lv_aload_n hx hb dX0_digestOf_49 rfl (lv_at hl 2 rfl) ?_
          refine lv_iload hx hb dX0_digestOf_50 (lv_at hl 0 rfl) ?_
          refine vr_notch X hR hS (hI) (hj) (hnt) q616 hl.1 ⟨by decide, by decide⟩ ⟨by decide, by decide⟩ (Nat.le_of_ble_eq_true rfl) dX0_digestOf_52 (fun H locs hR hS => ?_)
          refine lv_i2l hx hb dX0_digestOf_55 rfl ?_
          refine lv_ladd hx hb dX0_digestOf_56 ?_
          refine lv_lstore_n (lv' := [(3, .long (x_digestOf_v57 S x1 y3_35 y5_35)), (5, .int y5_35), (0, .ref (ad (40, x1))), (1, .long x2)]) hx hb dX0_digestOf_57 rfl hl (by decide) rfl (fun ls hl => ?_)
          refine lv_iinc (v := (y5_35 + 1)) (lv' := [(5, .int (y5_35 + 1)), (3, .long (x_digestOf_v57 S x1 y3_35 y5_35)), (0, .ref (ad (40, x1))), (1, .long x2)]) hx hb dX0_digestOf_58 hl (k := 1) rfl rfl (by decide) rfl (fun ls hl => ?_)
          refine lv_goto (tgt := 35) hx hb dX0_digestOf_61 (by decide) ?_
          exact ih (x_digestOf_v57 S x1 y3_35 y5_35) (y5_35 + 1) _ _  _ (Nat.lt_of_lt_of_le (up_ hi5 (x_digestOf_o9 S x1 y5_35 hI hj hi5 c2 hnt)) (Nat.le_of_lt_succ hf)) (x_digestOf_o8 S x1 y5_35 hI hj hi5 c2 hnt) (Eq.trans (Eq.symm (Eq.trans (x_digestOf_L35_s _ _ _ _ _) (if_neg c2))) hE) hR hS (lv_sub hl [0, 1, 2, 3] rfl)
    exact L35 _ (x_digestOf_R5 S x1 x2).1 0 _ _  _ (fz_lt _) (by decide) rfl hR hS (lv_sub hl [0, 1, 2, 3] rfl)
  have L5 : ∀ (f5 : Nat) (y3_5 : Int64) (y5_5 : Int32) (H : Heap) (locs : List Loc) (ls : Array Slot), (8 - y5_5 : Int32).toNatClampNeg < f5 → 0 ≤ y5_5 → x_digestOf_L5 S x1 (f5) y3_5 y5_5 = (x_digestOf_R5 S x1 x2) → XR D d A ad S H → va_S A s.heap H locs → lv_has ls 7 [(5, .int y5_5), (3, .long y3_5), (0, .ref (ad (40, x1))), (1, .long x2)] → W p l e (rm_ 4) s m av below meth c H locs 0 0 Q (F0 m 5 ls []) := by
    intro f5
    induction f5 with
    | zero => intro y3_5 y5_5 H locs ls hf; exact absurd hf (Nat.not_lt_zero _)
    | succ f5 ih =>
      intro y3_5 y5_5 H locs ls hf hi5 hE hR hS hl
      refine lv_iload hx hb dX0_digestOf_5 (lv_at hl 0 rfl) ?_
      refine lv_bipush (v := 8) hx hb dX0_digestOf_7 (by decide) ?_
      refine lv_icmp_ge (tgt := 32) hx hb dX0_digestOf_9 (by decide) (fun c1 => ?_) (fun c1 => ?_)
      · have e0 : (x_digestOf_R5 S x1 x2) = (y3_5, y5_5) := Eq.trans (Eq.symm hE) (Eq.trans (x_digestOf_L5_s _ _ _ _ _) (if_pos c1))
        exact K5 _ _ _ hR hS (by rw [e0]; exact lv_sub hl [0, 1, 2, 3] rfl)
      · refine lv_ldc2 hx hb hown (hts _ q1127) dX0_digestOf_12 ?_
        refine lv_lload_n hx hb dX0_digestOf_15 rfl (lv_at hl 1 rfl) ?_
        refine lv_lmul hx hb dX0_digestOf_16 ?_
        refine lv_aload_n hx hb dX0_digestOf_17 rfl (lv_at hl 2 rfl) ?_
        refine lv_iload hx hb dX0_digestOf_18 (lv_at hl 0 rfl) ?_
        refine x_bi hS (xr_S X hR (xt_toldOf l D d A ad S x1 y5_5 (hI) (hj)) 2 (lw_S q535 q536 q58 q537) ⟨rfl, rfl⟩ (by decide +kernel) ⟨by decide, by decide⟩ ⟨by decide, by decide⟩ rfl hl.1 rfl (Nat.le_of_ble_eq_true rfl) dX0_digestOf_20) (fun H locs hR hS => ?_)
        refine lv_i2l hx hb dX0_digestOf_23 rfl ?_
        refine lv_ladd hx hb dX0_digestOf_24 ?_
        refine lv_lstore_n (lv' := [(3, .long (x_digestOf_v25 S x1 y3_5 y5_5)), (5, .int y5_5), (0, .ref (ad (40, x1))), (1, .long x2)]) hx hb dX0_digestOf_25 rfl hl (by decide) rfl (fun ls hl => ?_)
        refine lv_iinc (v := (y5_5 + 1)) (lv' := [(5, .int (y5_5 + 1)), (3, .long (x_digestOf_v25 S x1 y3_5 y5_5)), (0, .ref (ad (40, x1))), (1, .long x2)]) hx hb dX0_digestOf_26 hl (k := 1) rfl rfl (by decide) rfl (fun ls hl => ?_)
        refine lv_goto (tgt := 5) hx hb dX0_digestOf_29 (by decide) ?_
        exact ih (x_digestOf_v25 S x1 y3_5 y5_5) (y5_5 + 1) _ _  _ (Nat.lt_of_lt_of_le (up_ hi5 (x_digestOf_o11 S x1 y5_5 hI hj hi5 c1)) (Nat.le_of_lt_succ hf)) (x_digestOf_o10 S x1 y5_5 hI hj hi5 c1) (Eq.trans (Eq.symm (Eq.trans (x_digestOf_L5_s _ _ _ _ _) (if_neg c1))) hE) hR hS (lv_sub hl [0, 1, 2, 3] rfl)
  exact L5 _ x2 0 _ _  _ (fz_lt _) (by decide) rfl hR hS (lv_sub hl [0, 1, 2, 3] rfl)
def x_digestW_v37 (S : XS) (x1 : Nat) (y3_17 : Int64) (y5_17 : Int32) : Int64 := ((31 * y3_17) + (Int32.toInt64 (x_tellsOf S x1 y5_17)))
def x_digestW_L17 (S : XS) (x1 : Nat) : Nat → Int64 → Int32 → Int64 × Int32
  | 0, y3_17, y5_17 => (y3_17, y5_17)
  | f17 + 1, y3_17, y5_17 => (if 9 ≤ y5_17 then (y3_17, y5_17) else (x_digestW_L17 S x1 f17 (x_digestW_v37 S x1 y3_17 y5_17) (y5_17 + 1)))
theorem x_digestW_L17_s (S : XS) (x1 : Nat) (f17 : Nat) (y3_17 : Int64) (y5_17 : Int32) : x_digestW_L17 S x1 (f17 + 1) y3_17 y5_17 = (if 9 ≤ y5_17 then (y3_17, y5_17) else (x_digestW_L17 S x1 f17 (x_digestW_v37 S x1 y3_17 y5_17) (y5_17 + 1))) := rfl
def x_digestW_R17 (S : XS) (x1 : Nat) (x2 : Int64) : Int64 × Int32 := x_digestW_L17 S x1 (fz ((9 - 0 : Int32).toNatClampNeg + 1)) x2 0
def x_digestW_v55 (S : XS) (x1 : Nat) (x2 : Int64) : Int64 := ((31 * (x_digestW_R17 S x1 x2).1) + (Int32.toInt64 (S.1 69 x1)))
theorem x_digestW_o4 (S : XS) (x1 : Nat) (y5_59 : Int32) (hI : XInv S) (ht : x1 < 4) (h5 : ¬ S.2.2.2 5 x1 = 0) (hL : 0 ≤ S.1 69 x1 ∧ S.1 69 x1 ≤ 60) (hi5 : 0 ≤ y5_59) (c2 : ¬ 4 ≤ y5_59) (c3 : ¬ (S.1 69 x1) = 0) : 0 ≤ (((4 * (S.1 69 x1)) - 4) + y5_59) ∧ (((4 * (S.1 69 x1)) - 4) + y5_59) < 240 := by 
  have bl_y5_59 := Int32.toInt_lt y5_59
  try simp only [i_le, i_lt, i_eq, Int32.reduceToInt] at *
  first | (have e_0 := m32 (x := 4) (y := (S.1 69 x1)) (by (try simp only [Int32.reduceToInt]); omega); (try simp only [Int32.reduceToInt] at e_0)) | skip
  first | (have e_1 := s32 (x := (4 * (S.1 69 x1))) (y := 4) (by (try simp only [Int32.reduceToInt]); omega); (try simp only [Int32.reduceToInt] at e_1)) | skip
  first | (have e_2 := a32 (x := ((4 * (S.1 69 x1)) - 4)) (y := y5_59) (by (try simp only [Int32.reduceToInt]); omega); (try simp only [Int32.reduceToInt] at e_2)) | skip
  try simp only [Int32.reduceToInt] at *
  omega
def x_digestW_j97_s0 (S : XS) (x1 : Nat) (y5_59 : Int32) : Int32 := (if (S.1 69 x1) = 0 then 0 else (S.2.2.1 2 x1 (Int32.toNatClampNeg (((4 * (S.1 69 x1)) - 4) + y5_59))))
def x_digestW_v99 (S : XS) (x1 : Nat) (y3_59 : Int64) (y5_59 : Int32) : Int64 := ((31 * y3_59) + (Int32.toInt64 (x_digestW_j97_s0 S x1 y5_59)))
def x_digestW_L59 (S : XS) (x1 : Nat) : Nat → Int64 → Int32 → Int64 × Int32
  | 0, y3_59, y5_59 => (y3_59, y5_59)
  | f59 + 1, y3_59, y5_59 => (if 4 ≤ y5_59 then (y3_59, y5_59) else (x_digestW_L59 S x1 f59 (x_digestW_v99 S x1 y3_59 y5_59) (y5_59 + 1)))
theorem x_digestW_L59_s (S : XS) (x1 : Nat) (f59 : Nat) (y3_59 : Int64) (y5_59 : Int32) : x_digestW_L59 S x1 (f59 + 1) y3_59 y5_59 = (if 4 ≤ y5_59 then (y3_59, y5_59) else (x_digestW_L59 S x1 f59 (x_digestW_v99 S x1 y3_59 y5_59) (y5_59 + 1))) := rfl
def x_digestW_R59 (S : XS) (x1 : Nat) (x2 : Int64) : Int64 × Int32 := x_digestW_L59 S x1 (fz ((4 - 0 : Int32).toNatClampNeg + 1)) (x_digestW_v55 S x1 x2) 0
theorem x_digestW_o7 (S : XS) (x1 : Nat) (y5_59 : Int32) (hI : XInv S) (ht : x1 < 4) (h5 : ¬ S.2.2.2 5 x1 = 0) (hL : 0 ≤ S.1 69 x1 ∧ S.1 69 x1 ≤ 60) (hi5 : 0 ≤ y5_59) (c2 : ¬ 4 ≤ y5_59) : 0 ≤ (y5_59 + 1) := by 
  have bl_y5_59 := Int32.toInt_lt y5_59
  try simp only [i_le, i_lt, i_eq, Int32.reduceToInt] at *
  first | (have e_0 := a32 (x := y5_59) (y := 1) (by (try simp only [Int32.reduceToInt]); omega); (try simp only [Int32.reduceToInt] at e_0)) | skip
  try simp only [Int32.reduceToInt] at *
  omega
theorem x_digestW_o8 (S : XS) (x1 : Nat) (y5_59 : Int32) (hI : XInv S) (ht : x1 < 4) (h5 : ¬ S.2.2.2 5 x1 = 0) (hL : 0 ≤ S.1 69 x1 ∧ S.1 69 x1 ≤ 60) (hi5 : 0 ≤ y5_59) (c2 : ¬ 4 ≤ y5_59) : y5_59 < 4 := by 
  have bl_y5_59 := Int32.toInt_lt y5_59
  try simp only [i_le, i_lt, i_eq, Int32.reduceToInt] at *
  try simp only [Int32.reduceToInt] at *
  omega
theorem x_digestW_o9 (S : XS) (x1 : Nat) (y5_17 : Int32) (hI : XInv S) (ht : x1 < 4) (h5 : ¬ S.2.2.2 5 x1 = 0) (hL : 0 ≤ S.1 69 x1 ∧ S.1 69 x1 ≤ 60) (hi5 : 0 ≤ y5_17) (c1 : ¬ 9 ≤ y5_17) : 0 ≤ (y5_17 + 1) := by 
  have bl_y5_17 := Int32.toInt_lt y5_17
  try simp only [i_le, i_lt, i_eq, Int32.reduceToInt] at *
  first | (have e_0 := a32 (x := y5_17) (y := 1) (by (try simp only [Int32.reduceToInt]); omega); (try simp only [Int32.reduceToInt] at e_0)) | skip
  try simp only [Int32.reduceToInt] at *
  omega
theorem x_digestW_o10 (S : XS) (x1 : Nat) (y5_17 : Int32) (hI : XInv S) (ht : x1 < 4) (h5 : ¬ S.2.2.2 5 x1 = 0) (hL : 0 ≤ S.1 69 x1 ∧ S.1 69 x1 ≤ 60) (hi5 : 0 ≤ y5_17) (c1 : ¬ 9 ≤ y5_17) : y5_17 < 9 := by 
  have bl_y5_17 := Int32.toInt_lt y5_17
  try simp only [i_le, i_lt, i_eq, Int32.reduceToInt] at *
  try simp only [Int32.reduceToInt] at *
  omega
def x_digestW (S : XS) (x1 : Nat) (x2 : Int64) : Int64 := (x_digestW_R59 S x1 x2).1
set_option maxHeartbeats 4000000 in
theorem xt_digestW (l : Launch) (D : va_G) (d : Nat → ClassId) (A : Nat → Prop) (ad : XK → Nat) (S : XS) (x1 : Nat) (x2 : Int64) (hI : XInv S) (ht : x1 < 4) (h5 : ¬ S.2.2.2 5 x1 = 0) : XL l yX0_digestOf_2 cX0_digestOf_2 6 (rm_ 3) D d A ad S [.ref (ad (70, x1)), .long x2] ((x_digestW S x1 x2), S) := by
  refine x_startL RX0 rfl (by decide) (Nat.le_of_ble_eq_true rfl) ?_
  intro p e s m av below meth c ls Q X hrt hlk hl hR hQ
  have hx := X.1.1.1
  have hb := X.1.1.2.1
  have hown := X.1.1.2.2.2.1
  have hts := X.1.1.2.2.2.2
  have hS : va_S A s.heap s.heap [] := va_S.rf
  have hl : lv_has ls 6 [(0, .ref (ad (70, x1))), (1, .long x2)] := hl
  have hL : 0 ≤ S.1 69 x1 ∧ S.1 69 x1 ≤ 60 := (xi_t hI ht h5).2.1
  refine lv_lload_n hx hb dX0_digestOf_2_0 rfl (lv_at hl 1 rfl) ?_
  refine lv_lstore_n (lv' := [(3, .long x2), (0, .ref (ad (70, x1))), (1, .long x2)]) hx hb dX0_digestOf_2_1 rfl hl (by decide) rfl (fun ls hl => ?_)
  refine lv_aload_n hx hb dX0_digestOf_2_2 rfl (lv_at hl 1 rfl) ?_
  refine lv_ifnonnull (tgt := 14) hx hb dX0_digestOf_2_3 (by decide) ?_
  refine lv_iconst (v := 0) hx hb dX0_digestOf_2_14 (by decide) ?_
  refine lv_istore (lv' := [(5, .int 0), (3, .long x2), (0, .ref (ad (70, x1))), (1, .long x2)]) hx hb dX0_digestOf_2_15 hl (by decide) rfl (fun ls hl => ?_)
  have K17 : ∀ (H : Heap) (locs : List Loc) (ls : Array Slot), XR D d A ad S H → va_S A s.heap H locs → lv_has ls 6 [(5, .int (x_digestW_R17 S x1 x2).2), (3, .long (x_digestW_R17 S x1 x2).1), (0, .ref (ad (70, x1))), (1, .long x2)] → W p l e (rm_ 3) s m av below meth c H locs 0 0 Q (F0 m 44 ls []) := by
    intro H locs ls hR hS hl
    refine lv_ldc2 hx hb hown (hts _ q1127) dX0_digestOf_2_44 ?_
    refine lv_lload_n hx hb dX0_digestOf_2_47 rfl (lv_at hl 1 rfl) ?_
    refine lv_lmul hx hb dX0_digestOf_2_48 ?_
    refine lv_aload_n hx hb dX0_digestOf_2_49 rfl (lv_at hl 2 rfl) ?_
    refine xgw X hR (x_lvw (ht) (h5)) 9 (Or.inr (by decide)) (Or.inr q714) rfl dX0_digestOf_2_50 ?_
    refine lv_i2l hx hb dX0_digestOf_2_53 rfl ?_
    refine lv_ladd hx hb dX0_digestOf_2_54 ?_
    refine lv_lstore_n (lv' := [(3, .long (x_digestW_v55 S x1 x2)), (5, .int (x_digestW_R17 S x1 x2).2), (0, .ref (ad (70, x1))), (1, .long x2)]) hx hb dX0_digestOf_2_55 rfl hl (by decide) rfl (fun ls hl => ?_)
    refine lv_iconst (v := 0) hx hb dX0_digestOf_2_56 (by decide) ?_
    refine lv_istore (lv' := [(5, .int 0), (3, .long (x_digestW_v55 S x1 x2)), (0, .ref (ad (70, x1))), (1, .long x2)]) hx hb dX0_digestOf_2_57 hl (by decide) rfl (fun ls hl => ?_)
    have K59 : ∀ (H : Heap) (locs : List Loc) (ls : Array Slot), XR D d A ad S H → va_S A s.heap H locs → lv_has ls 6 [(5, .int (x_digestW_R59 S x1 x2).2), (3, .long (x_digestW_R59 S x1 x2).1), (0, .ref (ad (70, x1))), (1, .long x2)] → W p l e (rm_ 3) s m av below meth c H locs 0 0 Q (F0 m 106 ls []) := by
      intro H locs ls hR hS hl
      refine lv_lload_n hx hb dX0_digestOf_2_106 rfl (lv_at hl 1 rfl) ?_
      exact x_rl hx hb hrt hlk hR hS hQ (hF1 rfl) dX0_digestOf_2_107
    have L59 : ∀ (f59 : Nat) (y3_59 : Int64) (y5_59 : Int32) (H : Heap) (locs : List Loc) (ls : Array Slot), (4 - y5_59 : Int32).toNatClampNeg < f59 → 0 ≤ y5_59 → x_digestW_L59 S x1 (f59) y3_59 y5_59 = (x_digestW_R59 S x1 x2) → XR D d A ad S H → va_S A s.heap H locs → lv_has ls 6 [(5, .int y5_59), (3, .long y3_59), (0, .ref (ad (70, x1))), (1, .long x2)] → W p l e (rm_ 3) s m av below meth c H locs 0 0 Q (F0 m 59 ls []) := by
      intro f59
      induction f59 with
      | zero => intro y3_59 y5_59 H locs ls hf; exact absurd hf (Nat.not_lt_zero _)
      | succ f59 ih =>
        intro y3_59 y5_59 H locs ls hf hi5 hE hR hS hl
        refine lv_iload hx hb dX0_digestOf_2_59 (lv_at hl 0 rfl) ?_
        refine lv_iconst (v := 4) hx hb dX0_digestOf_2_61 (by decide) ?_
        refine lv_icmp_ge (tgt := 106) hx hb dX0_digestOf_2_62 (by decide) (fun c2 => ?_) (fun c2 => ?_)
        · have e0 : (x_digestW_R59 S x1 x2) = (y3_59, y5_59) := Eq.trans (Eq.symm hE) (Eq.trans (x_digestW_L59_s _ _ _ _ _) (if_pos c2))
          exact K59 _ _ _ hR hS (by rw [e0]; exact lv_sub hl [0, 1, 2, 3] rfl)
        · refine lv_ldc2 hx hb hown (hts _ q1127) dX0_digestOf_2_65 ?_
          refine lv_lload_n hx hb dX0_digestOf_2_68 rfl (lv_at hl 1 rfl) ?_
          refine lv_lmul hx hb dX0_digestOf_2_69 ?_
          refine lv_aload_n hx hb dX0_digestOf_2_70 rfl (lv_at hl 2 rfl) ?_
          refine xgw X hR (x_lvw (ht) (h5)) 9 (Or.inr (by decide)) (Or.inr q714) rfl dX0_digestOf_2_71 ?_
          have J6 : ∀ (w5 : Int32) (H : Heap) (locs : List Loc) (ls : Array Slot), w5 = (x_digestW_j97_s0 S x1 y5_59) → XR D d A ad S H → va_S A s.heap H locs → lv_has ls 6 [(5, .int y5_59), (3, .long y3_59), (0, .ref (ad (70, x1))), (1, .long x2)] → W p l e (rm_ 3) s m av below meth c H locs 0 0 Q (F0 m 97 ls [.int w5, .long (31 * y3_59)]) := by
            intro w5 H locs ls ew5 hR hS hl
            subst ew5
            refine lv_i2l hx hb dX0_digestOf_2_97 rfl ?_
            refine lv_ladd hx hb dX0_digestOf_2_98 ?_
            refine lv_lstore_n (lv' := [(3, .long (x_digestW_v99 S x1 y3_59 y5_59)), (5, .int y5_59), (0, .ref (ad (70, x1))), (1, .long x2)]) hx hb dX0_digestOf_2_99 rfl hl (by decide) rfl (fun ls hl => ?_)
            refine lv_iinc (v := (y5_59 + 1)) (lv' := [(5, .int (y5_59 + 1)), (3, .long (x_digestW_v99 S x1 y3_59 y5_59)), (0, .ref (ad (70, x1))), (1, .long x2)]) hx hb dX0_digestOf_2_100 hl (k := 1) rfl rfl (by decide) rfl (fun ls hl => ?_)
            refine lv_goto (tgt := 59) hx hb dX0_digestOf_2_103 (by decide) ?_
            exact ih (x_digestW_v99 S x1 y3_59 y5_59) (y5_59 + 1) _ _  _ (Nat.lt_of_lt_of_le (up_ hi5 (x_digestW_o8 S x1 y5_59 hI ht h5 hL hi5 c2)) (Nat.le_of_lt_succ hf)) (x_digestW_o7 S x1 y5_59 hI ht h5 hL hi5 c2) (Eq.trans (Eq.symm (Eq.trans (x_digestW_L59_s _ _ _ _ _) (if_neg c2))) hE) hR hS (lv_sub hl [0, 1, 2, 3] rfl)
          refine lv_if_ne (tgt := 81) hx hb dX0_digestOf_2_74 (by decide) (fun c3 => ?_) (fun c3 => ?_)
          · refine lv_aload_n hx hb dX0_digestOf_2_81 rfl (lv_at hl 2 rfl) ?_
            refine xgwl X hR (x_lvw (ht) (h5)) (Or.inr q716) dX0_digestOf_2_82 ?_
            refine lv_iconst (v := 4) hx hb dX0_digestOf_2_85 (by decide) ?_
            refine lv_aload_n hx hb dX0_digestOf_2_86 rfl (lv_at hl 2 rfl) ?_
            refine xgw X hR (x_lvw (ht) (h5)) 9 (Or.inr (by decide)) (Or.inr q714) rfl dX0_digestOf_2_87 ?_
            refine lv_imul hx hb dX0_digestOf_2_90 ?_
            refine lv_iconst (v := 4) hx hb dX0_digestOf_2_91 (by decide) ?_
            refine lv_isub hx hb dX0_digestOf_2_92 ?_
            refine lv_iload hx hb dX0_digestOf_2_93 (lv_at hl 0 rfl) ?_
            refine lv_iadd hx hb dX0_digestOf_2_95 ?_
            refine x_ldg X hR (x_lvl (ht) (h5)) (ixl 240 240 (by decide) rfl (x_digestW_o4 S x1 y5_59 hI ht h5 hL hi5 c2 c3)) (v := S.2.2.1 2 x1 (Int32.toNatClampNeg (((4 * (S.1 69 x1)) - 4) + y5_59))) rfl dX0_digestOf_2_96 ?_
            exact J6 _ _ _  _ (Eq.symm (if_neg c3)) hR hS  (lv_sub hl [0, 1, 2, 3] rfl)
          · refine lv_iconst (v := 0) hx hb dX0_digestOf_2_77 (by decide) ?_
            refine lv_goto (tgt := 97) hx hb dX0_digestOf_2_78 (by decide) ?_
            exact J6 _ _ _  _ (Eq.symm (if_pos c3)) hR hS  (lv_sub hl [0, 1, 2, 3] rfl)
    exact L59 _ (x_digestW_v55 S x1 x2) 0 _ _  _ (fz_lt _) (by decide) rfl hR hS (lv_sub hl [0, 1, 2, 3] rfl)
  have L17 : ∀ (f17 : Nat) (y3_17 : Int64) (y5_17 : Int32) (H : Heap) (locs : List Loc) (ls : Array Slot), (9 - y5_17 : Int32).toNatClampNeg < f17 → 0 ≤ y5_17 → x_digestW_L17 S x1 (f17) y3_17 y5_17 = (x_digestW_R17 S x1 x2) → XR D d A ad S H → va_S A s.heap H locs → lv_has ls 6 [(5, .int y5_17), (3, .long y3_17), (0, .ref (ad (70, x1))), (1, .long x2)] → W p l e (rm_ 3) s m av below meth c H locs 0 0 Q (F0 m 17 ls []) := by
    intro f17
    induction f17 with
    | zero => intro y3_17 y5_17 H locs ls hf; exact absurd hf (Nat.not_lt_zero _)
    | succ f17 ih =>
      intro y3_17 y5_17 H locs ls hf hi5 hE hR hS hl
      refine lv_iload hx hb dX0_digestOf_2_17 (lv_at hl 0 rfl) ?_
      refine lv_bipush (v := 9) hx hb dX0_digestOf_2_19 (by decide) ?_
      refine lv_icmp_ge (tgt := 44) hx hb dX0_digestOf_2_21 (by decide) (fun c1 => ?_) (fun c1 => ?_)
      · have e0 : (x_digestW_R17 S x1 x2) = (y3_17, y5_17) := Eq.trans (Eq.symm hE) (Eq.trans (x_digestW_L17_s _ _ _ _ _) (if_pos c1))
        exact K17 _ _ _ hR hS (by rw [e0]; exact lv_sub hl [0, 1, 2, 3] rfl)
      · refine lv_ldc2 hx hb hown (hts _ q1127) dX0_digestOf_2_24 ?_
        refine lv_lload_n hx hb dX0_digestOf_2_27 rfl (lv_at hl 1 rfl) ?_
        refine lv_lmul hx hb dX0_digestOf_2_28 ?_
        refine lv_aload_n hx hb dX0_digestOf_2_29 rfl (lv_at hl 2 rfl) ?_
        refine lv_iload hx hb dX0_digestOf_2_30 (lv_at hl 0 rfl) ?_
        refine x_bi hS (xr_S X hR (xt_tellsOf l D d A ad S x1 y5_17 (hI) (ht) (h5)) 2 (lw_S q905 q906 q58 q907) ⟨rfl, rfl⟩ (by decide +kernel) ⟨by decide, by decide⟩ ⟨by decide, by decide⟩ rfl hl.1 rfl (Nat.le_of_ble_eq_true rfl) dX0_digestOf_2_32) (fun H locs hR hS => ?_)
        refine lv_i2l hx hb dX0_digestOf_2_35 rfl ?_
        refine lv_ladd hx hb dX0_digestOf_2_36 ?_
        refine lv_lstore_n (lv' := [(3, .long (x_digestW_v37 S x1 y3_17 y5_17)), (5, .int y5_17), (0, .ref (ad (70, x1))), (1, .long x2)]) hx hb dX0_digestOf_2_37 rfl hl (by decide) rfl (fun ls hl => ?_)
        refine lv_iinc (v := (y5_17 + 1)) (lv' := [(5, .int (y5_17 + 1)), (3, .long (x_digestW_v37 S x1 y3_17 y5_17)), (0, .ref (ad (70, x1))), (1, .long x2)]) hx hb dX0_digestOf_2_38 hl (k := 1) rfl rfl (by decide) rfl (fun ls hl => ?_)
        refine lv_goto (tgt := 17) hx hb dX0_digestOf_2_41 (by decide) ?_
        exact ih (x_digestW_v37 S x1 y3_17 y5_17) (y5_17 + 1) _ _  _ (Nat.lt_of_lt_of_le (up_ hi5 (x_digestW_o10 S x1 y5_17 hI ht h5 hL hi5 c1)) (Nat.le_of_lt_succ hf)) (x_digestW_o9 S x1 y5_17 hI ht h5 hL hi5 c1) (Eq.trans (Eq.symm (Eq.trans (x_digestW_L17_s _ _ _ _ _) (if_neg c1))) hE) hR hS (lv_sub hl [0, 1, 2, 3] rfl)
  exact L17 _ x2 0 _ _  _ (fz_lt _) (by decide) rfl hR hS (lv_sub hl [0, 1, 2, 3] rfl)
def x_digestW0 (S : XS) (x2 : Int64) : Int64 := ((31 * x2) - 1)
set_option maxHeartbeats 4000000 in
theorem xt_digestW0 (l : Launch) (D : va_G) (d : Nat → ClassId) (A : Nat → Prop) (ad : XK → Nat) (S : XS) (x2 : Int64) : XL l yX0_digestOf_2 cX0_digestOf_2 6 (rm_ 0) D d A ad S [.null, .long x2] ((x_digestW0 S x2), S) := by
  refine x_startL RX0 rfl (by decide) (Nat.le_of_ble_eq_true rfl) ?_
  intro p e s m av below meth c ls Q X hrt hlk hl hR hQ
  have hx := X.1.1.1
  have hb := X.1.1.2.1
  have hown := X.1.1.2.2.2.1
  have hts := X.1.1.2.2.2.2
  have hS : va_S A s.heap s.heap [] := va_S.rf
  have hl : lv_has ls 6 [(0, .null), (1, .long x2)] := hl
  refine lv_lload_n hx hb dX0_digestOf_2_0 rfl (lv_at hl 1 rfl) ?_
  refine lv_lstore_n (lv' := [(3, .long x2), (0, .null), (1, .long x2)]) hx hb dX0_digestOf_2_1 rfl hl (by decide) rfl (fun ls hl => ?_)
  refine lv_aload_nN hx hb dX0_digestOf_2_2 rfl (lv_at hl 1 rfl) ?_
  refine lv_ifnonnullN hx hb dX0_digestOf_2_3 ?_
  refine lv_ldc2 hx hb hown (hts _ q1127) dX0_digestOf_2_6 ?_
  refine lv_lload_n hx hb dX0_digestOf_2_9 rfl (lv_at hl 0 rfl) ?_
  refine lv_lmul hx hb dX0_digestOf_2_10 ?_
  refine lv_lconst (v := 1) hx hb dX0_digestOf_2_11 (by decide) ?_
  refine lv_lsub hx hb dX0_digestOf_2_12 ?_
  exact x_rl hx hb hrt hlk hR hS hQ (hF1 rfl) dX0_digestOf_2_13
def x_digest_v9 (S : XS) : Int64 := (527 + (Int32.toInt64 (S.1 6 0)))
theorem x_digest_o2 (S : XS) (y3_12 : Int32) (hI : XInv S) (hTm : 0 ≤ S.1 5 0 ∧ S.1 5 0 ≤ 16) (hi3 : 0 ≤ y3_12) (c1 : ¬ (S.1 5 0) ≤ y3_12) (hj : (Int32.toNatClampNeg y3_12) < S.2.2.2 7 0) : 0 ≤ y3_12 ∧ y3_12 < 16 := by 
  have bl_y3_12 := Int32.toInt_lt y3_12
  try (have bu_0 := Int32.toInt_lt (S.1 5 0))
  try simp only [i_le, i_lt, i_eq, Int32.reduceToInt] at *
  try simp only [Int32.reduceToInt] at *
  omega
def x_digest_v30 (S : XS) (y1_12 : Int64) (y3_12 : Int32) : Int64 := (x_digestOf S (Int32.toNatClampNeg y3_12) y1_12)
def x_digest_L12 (S : XS) : Nat → Int64 → Int32 → Int64 × Int32
  | 0, y1_12, y3_12 => (y1_12, y3_12)
  | f12 + 1, y1_12, y3_12 => (if (S.1 5 0) ≤ y3_12 then (y1_12, y3_12) else (x_digest_L12 S f12 (x_digest_v30 S y1_12 y3_12) (y3_12 + 1)))
theorem x_digest_L12_s (S : XS) (f12 : Nat) (y1_12 : Int64) (y3_12 : Int32) : x_digest_L12 S (f12 + 1) y1_12 y3_12 = (if (S.1 5 0) ≤ y3_12 then (y1_12, y3_12) else (x_digest_L12 S f12 (x_digest_v30 S y1_12 y3_12) (y3_12 + 1))) := rfl
def x_digest_R12 (S : XS) : Int64 × Int32 := x_digest_L12 S (fz (((S.1 5 0) - 0 : Int32).toNatClampNeg + 1)) (x_digest_v9 S) 0
theorem x_digest_o5 (S : XS) (y3_39 : Int32) (hI : XInv S) (hTm : 0 ≤ S.1 5 0 ∧ S.1 5 0 ≤ 16) (hi3 : 0 ≤ y3_39) (c3 : ¬ 4 ≤ y3_39) : 0 ≤ y3_39 ∧ y3_39 < 4 := by 
  have bl_y3_39 := Int32.toInt_lt y3_39
  try simp only [i_le, i_lt, i_eq, Int32.reduceToInt] at *
  try simp only [Int32.reduceToInt] at *
  omega
theorem x_digest_o6 (S : XS) (y3_39 : Int32) (hI : XInv S) (hTm : 0 ≤ S.1 5 0 ∧ S.1 5 0 ≤ 16) (hi3 : 0 ≤ y3_39) (c3 : ¬ 4 ≤ y3_39) (c4 : ¬ S.2.2.2 5 (Int32.toNatClampNeg y3_39) = 0) : 0 ≤ y3_39 ∧ y3_39 < 4 := by 
  have bl_y3_39 := Int32.toInt_lt y3_39
  try simp only [i_le, i_lt, i_eq, Int32.reduceToInt] at *
  try simp only [Int32.reduceToInt] at *
  omega
def x_digest_v54 (S : XS) (y1_39 : Int64) (y3_39 : Int32) : Int64 := (x_digestW S (Int32.toNatClampNeg y3_39) y1_39)
def x_digest_L39 (S : XS) : Nat → Int64 → Int32 → Int64 × Int32
  | 0, y1_39, y3_39 => (y1_39, y3_39)
  | f39 + 1, y1_39, y3_39 => (if 4 ≤ y3_39 then (y1_39, y3_39) else (if S.2.2.2 5 (Int32.toNatClampNeg y3_39) = 0 then (x_digest_L39 S f39 (x_digestW0 S y1_39) (y3_39 + 1)) else (x_digest_L39 S f39 (x_digest_v54 S y1_39 y3_39) (y3_39 + 1))))
theorem x_digest_L39_s (S : XS) (f39 : Nat) (y1_39 : Int64) (y3_39 : Int32) : x_digest_L39 S (f39 + 1) y1_39 y3_39 = (if 4 ≤ y3_39 then (y1_39, y3_39) else (if S.2.2.2 5 (Int32.toNatClampNeg y3_39) = 0 then (x_digest_L39 S f39 (x_digestW0 S y1_39) (y3_39 + 1)) else (x_digest_L39 S f39 (x_digest_v54 S y1_39 y3_39) (y3_39 + 1)))) := rfl
def x_digest_R39 (S : XS) : Int64 × Int32 := x_digest_L39 S (fz ((4 - 0 : Int32).toNatClampNeg + 1)) (x_digest_R12 S).1 0
theorem x_digest_o9 (S : XS) (y3_63 : Int32) (hI : XInv S) (hTm : 0 ≤ S.1 5 0 ∧ S.1 5 0 ≤ 16) (hi3 : 0 ≤ y3_63) (c7 : ¬ 8 ≤ y3_63) : 0 ≤ y3_63 ∧ y3_63 < 8 := by 
  have bl_y3_63 := Int32.toInt_lt y3_63
  try simp only [i_le, i_lt, i_eq, Int32.reduceToInt] at *
  try simp only [Int32.reduceToInt] at *
  omega
def x_digest_v96 (y1_63 : Int64) : Int64 := ((31 * y1_63) + (Int32.toInt64 (-1)))
def x_digest_L100 : Nat → Int64 → Int32 → Int64 × Int32
  | 0, y1_100, y5_100 => (y1_100, y5_100)
  | f100 + 1, y1_100, y5_100 => (y1_100, y5_100)
theorem x_digest_L100_s (f100 : Nat) (y1_100 : Int64) (y5_100 : Int32) : x_digest_L100 (f100 + 1) y1_100 y5_100 = (y1_100, y5_100) := rfl
def x_digest_R100 (S : XS) (y1_63 : Int64) (y3_63 : Int32) : Int64 × Int32 := x_digest_L100 (fz ((nI (S.2.2.2 3 (Int32.toNatClampNeg y3_63) - 1) - 0 : Int32).toNatClampNeg + 1)) (x_digest_v96 y1_63) 0
theorem x_digest_o10 (S : XS) (y3_63 : Int32) (hI : XInv S) (hTm : 0 ≤ S.1 5 0 ∧ S.1 5 0 ≤ 16) (hi3 : 0 ≤ y3_63) (c7 : ¬ 8 ≤ y3_63) (c8 : ¬ S.2.2.2 3 (Int32.toNatClampNeg y3_63) = 0) : 0 ≤ y3_63 ∧ y3_63 < 8 := by 
  have bl_y3_63 := Int32.toInt_lt y3_63
  try simp only [i_le, i_lt, i_eq, Int32.reduceToInt] at *
  try simp only [Int32.reduceToInt] at *
  omega
def x_digest_v96a (S : XS) (y1_63 : Int64) (y3_63 : Int32) : Int64 := ((31 * y1_63) + (Int32.toInt64 (nI (S.2.2.2 3 (Int32.toNatClampNeg y3_63) - 1))))
theorem x_digest_o11 (S : XS) (y3_63 : Int32) (y5_100x : Int32) (hI : XInv S) (hTm : 0 ≤ S.1 5 0 ∧ S.1 5 0 ≤ 16) (hi3 : 0 ≤ y3_63) (c7 : ¬ 8 ≤ y3_63) (c8 : ¬ S.2.2.2 3 (Int32.toNatClampNeg y3_63) = 0) (hi5 : 0 ≤ y5_100x) : 0 ≤ y3_63 ∧ y3_63 < 8 := by 
  have bl_y3_63 := Int32.toInt_lt y3_63
  have bl_y5_100x := Int32.toInt_lt y5_100x
  try simp only [i_le, i_lt, i_eq, Int32.reduceToInt] at *
  try simp only [Int32.reduceToInt] at *
  omega
theorem x_digest_o13 (S : XS) (y3_63 : Int32) (y5_100x : Int32) (hI : XInv S) (hTm : 0 ≤ S.1 5 0 ∧ S.1 5 0 ≤ 16) (hi3 : 0 ≤ y3_63) (c7 : ¬ 8 ≤ y3_63) (c8 : ¬ S.2.2.2 3 (Int32.toNatClampNeg y3_63) = 0) (hi5 : 0 ≤ y5_100x) (c12 : ¬ (nI (S.2.2.2 3 (Int32.toNatClampNeg y3_63) - 1)) ≤ y5_100x) : 0 ≤ y3_63 ∧ y3_63 < 8 := by 
  have bl_y3_63 := Int32.toInt_lt y3_63
  have bl_y5_100x := Int32.toInt_lt y5_100x
  try (have bu_0 := Int32.toInt_lt (nI (S.2.2.2 3 (Int32.toNatClampNeg y3_63) - 1)))
  try simp only [i_le, i_lt, i_eq, Int32.reduceToInt] at *
  first | (have e_0 := s32 (x := (S.2.2.2 3 (Int32.toNatClampNeg y3_63))) (y := 1) (by (try simp only [Int32.reduceToInt]); omega); (try simp only [Int32.reduceToInt] at e_0)) | skip
  try simp only [Int32.reduceToInt] at *
  omega
theorem x_digest_o14 (S : XS) (y3_63 : Int32) (y5_100x : Int32) (hI : XInv S) (hTm : 0 ≤ S.1 5 0 ∧ S.1 5 0 ≤ 16) (hi3 : 0 ≤ y3_63) (c7 : ¬ 8 ≤ y3_63) (c8 : ¬ S.2.2.2 3 (Int32.toNatClampNeg y3_63) = 0) (hi5 : 0 ≤ y5_100x) (c12 : ¬ (nI (S.2.2.2 3 (Int32.toNatClampNeg y3_63) - 1)) ≤ y5_100x) : 0 ≤ y5_100x ∧ y5_100x < nI (S.2.2.2 3 (Int32.toNatClampNeg y3_63) - 1) := by 
  have bl_y3_63 := Int32.toInt_lt y3_63
  have bl_y5_100x := Int32.toInt_lt y5_100x
  try (have bu_0 := Int32.toInt_lt (nI (S.2.2.2 3 (Int32.toNatClampNeg y3_63) - 1)))
  try simp only [i_le, i_lt, i_eq, Int32.reduceToInt] at *
  first | (have e_0 := s32 (x := (S.2.2.2 3 (Int32.toNatClampNeg y3_63))) (y := 1) (by (try simp only [Int32.reduceToInt]); omega); (try simp only [Int32.reduceToInt] at e_0)) | skip
  try simp only [Int32.reduceToInt] at *
  omega
def x_digest_v125 (S : XS) (y3_63 : Int32) (y1_100x : Int64) (y5_100x : Int32) : Int64 := ((31 * y1_100x) + (Int32.toInt64 (S.2.2.1 3 (Int32.toNatClampNeg y3_63) (Int32.toNatClampNeg y5_100x))))
def x_digest_L100x (S : XS) (y3_63 : Int32) : Nat → Int64 → Int32 → Int64 × Int32
  | 0, y1_100x, y5_100x => (y1_100x, y5_100x)
  | f100x + 1, y1_100x, y5_100x => (if (nI (S.2.2.2 3 (Int32.toNatClampNeg y3_63) - 1)) ≤ y5_100x then (y1_100x, y5_100x) else (x_digest_L100x S y3_63 f100x (x_digest_v125 S y3_63 y1_100x y5_100x) (y5_100x + 1)))
theorem x_digest_L100x_s (S : XS) (y3_63 : Int32) (f100x : Nat) (y1_100x : Int64) (y5_100x : Int32) : x_digest_L100x S y3_63 (f100x + 1) y1_100x y5_100x = (if (nI (S.2.2.2 3 (Int32.toNatClampNeg y3_63) - 1)) ≤ y5_100x then (y1_100x, y5_100x) else (x_digest_L100x S y3_63 f100x (x_digest_v125 S y3_63 y1_100x y5_100x) (y5_100x + 1))) := rfl
def x_digest_R100x (S : XS) (y1_63 : Int64) (y3_63 : Int32) : Int64 × Int32 := x_digest_L100x S y3_63 (fz ((nI (S.2.2.2 3 (Int32.toNatClampNeg y3_63) - 1) - 0 : Int32).toNatClampNeg + 1)) (x_digest_v96a S y1_63 y3_63) 0
def x_digest_L63 (S : XS) : Nat → Int64 → Int32 → Int64 × Int32
  | 0, y1_63, y3_63 => (y1_63, y3_63)
  | f63 + 1, y1_63, y3_63 => (if 8 ≤ y3_63 then (y1_63, y3_63) else (if S.2.2.2 3 (Int32.toNatClampNeg y3_63) = 0 then (x_digest_L63 S f63 (x_digest_R100 S y1_63 y3_63).1 (y3_63 + 1)) else (x_digest_L63 S f63 (x_digest_R100x S y1_63 y3_63).1 (y3_63 + 1))))
theorem x_digest_L63_s (S : XS) (f63 : Nat) (y1_63 : Int64) (y3_63 : Int32) : x_digest_L63 S (f63 + 1) y1_63 y3_63 = (if 8 ≤ y3_63 then (y1_63, y3_63) else (if S.2.2.2 3 (Int32.toNatClampNeg y3_63) = 0 then (x_digest_L63 S f63 (x_digest_R100 S y1_63 y3_63).1 (y3_63 + 1)) else (x_digest_L63 S f63 (x_digest_R100x S y1_63 y3_63).1 (y3_63 + 1)))) := rfl
def x_digest_R63 (S : XS) : Int64 × Int32 := x_digest_L63 S (fz ((8 - 0 : Int32).toNatClampNeg + 1)) (x_digest_R39 S).1 0
theorem x_digest_o15 (S : XS) (y3_63 : Int32) (hI : XInv S) (hTm : 0 ≤ S.1 5 0 ∧ S.1 5 0 ≤ 16) (hi3 : 0 ≤ y3_63) (c7 : ¬ 8 ≤ y3_63) (c8 : S.2.2.2 3 (Int32.toNatClampNeg y3_63) = 0) : 0 ≤ (y3_63 + 1) := by 
  have bl_y3_63 := Int32.toInt_lt y3_63
  try simp only [i_le, i_lt, i_eq, Int32.reduceToInt] at *
  first | (have e_0 := a32 (x := y3_63) (y := 1) (by (try simp only [Int32.reduceToInt]); omega); (try simp only [Int32.reduceToInt] at e_0)) | skip
  try simp only [Int32.reduceToInt] at *
  omega
theorem x_digest_o16 (S : XS) (y3_63 : Int32) (hI : XInv S) (hTm : 0 ≤ S.1 5 0 ∧ S.1 5 0 ≤ 16) (hi3 : 0 ≤ y3_63) (c7 : ¬ 8 ≤ y3_63) (c8 : S.2.2.2 3 (Int32.toNatClampNeg y3_63) = 0) : y3_63 < 8 := by 
  have bl_y3_63 := Int32.toInt_lt y3_63
  try simp only [i_le, i_lt, i_eq, Int32.reduceToInt] at *
  try simp only [Int32.reduceToInt] at *
  omega
theorem x_digest_o17 (S : XS) (y3_63 : Int32) (hI : XInv S) (hTm : 0 ≤ S.1 5 0 ∧ S.1 5 0 ≤ 16) (hi3 : 0 ≤ y3_63) (c7 : ¬ 8 ≤ y3_63) (c8 : ¬ S.2.2.2 3 (Int32.toNatClampNeg y3_63) = 0) : 0 ≤ (y3_63 + 1) := by 
  have bl_y3_63 := Int32.toInt_lt y3_63
  try simp only [i_le, i_lt, i_eq, Int32.reduceToInt] at *
  first | (have e_0 := a32 (x := y3_63) (y := 1) (by (try simp only [Int32.reduceToInt]); omega); (try simp only [Int32.reduceToInt] at e_0)) | skip
  try simp only [Int32.reduceToInt] at *
  omega
theorem x_digest_o18 (S : XS) (y3_63 : Int32) (hI : XInv S) (hTm : 0 ≤ S.1 5 0 ∧ S.1 5 0 ≤ 16) (hi3 : 0 ≤ y3_63) (c7 : ¬ 8 ≤ y3_63) (c8 : ¬ S.2.2.2 3 (Int32.toNatClampNeg y3_63) = 0) : y3_63 < 8 := by 
  have bl_y3_63 := Int32.toInt_lt y3_63
  try simp only [i_le, i_lt, i_eq, Int32.reduceToInt] at *
  try simp only [Int32.reduceToInt] at *
  omega
theorem x_digest_o19 (S : XS) (y3_63 : Int32) (y5_100x : Int32) (hI : XInv S) (hTm : 0 ≤ S.1 5 0 ∧ S.1 5 0 ≤ 16) (hi3 : 0 ≤ y3_63) (c7 : ¬ 8 ≤ y3_63) (c8 : ¬ S.2.2.2 3 (Int32.toNatClampNeg y3_63) = 0) (hi5 : 0 ≤ y5_100x) (c12 : ¬ (nI (S.2.2.2 3 (Int32.toNatClampNeg y3_63) - 1)) ≤ y5_100x) : 0 ≤ (y5_100x + 1) := by 
  have bl_y3_63 := Int32.toInt_lt y3_63
  have bl_y5_100x := Int32.toInt_lt y5_100x
  try (have bu_0 := Int32.toInt_lt (nI (S.2.2.2 3 (Int32.toNatClampNeg y3_63) - 1)))
  try simp only [i_le, i_lt, i_eq, Int32.reduceToInt] at *
  first | (have e_0 := s32 (x := (S.2.2.2 3 (Int32.toNatClampNeg y3_63))) (y := 1) (by (try simp only [Int32.reduceToInt]); omega); (try simp only [Int32.reduceToInt] at e_0)) | skip
  first | (have e_1 := a32 (x := y5_100x) (y := 1) (by (try simp only [Int32.reduceToInt]); omega); (try simp only [Int32.reduceToInt] at e_1)) | skip
  try simp only [Int32.reduceToInt] at *
  omega
theorem x_digest_o20 (S : XS) (y3_63 : Int32) (y5_100x : Int32) (hI : XInv S) (hTm : 0 ≤ S.1 5 0 ∧ S.1 5 0 ≤ 16) (hi3 : 0 ≤ y3_63) (c7 : ¬ 8 ≤ y3_63) (c8 : ¬ S.2.2.2 3 (Int32.toNatClampNeg y3_63) = 0) (hi5 : 0 ≤ y5_100x) (c12 : ¬ (nI (S.2.2.2 3 (Int32.toNatClampNeg y3_63) - 1)) ≤ y5_100x) : y5_100x < nI (S.2.2.2 3 (Int32.toNatClampNeg y3_63) - 1) := by 
  have bl_y3_63 := Int32.toInt_lt y3_63
  have bl_y5_100x := Int32.toInt_lt y5_100x
  try (have bu_0 := Int32.toInt_lt (nI (S.2.2.2 3 (Int32.toNatClampNeg y3_63) - 1)))
  try simp only [i_le, i_lt, i_eq, Int32.reduceToInt] at *
  first | (have e_0 := s32 (x := (S.2.2.2 3 (Int32.toNatClampNeg y3_63))) (y := 1) (by (try simp only [Int32.reduceToInt]); omega); (try simp only [Int32.reduceToInt] at e_0)) | skip
  try simp only [Int32.reduceToInt] at *
  omega
theorem x_digest_o21 (S : XS) (y3_39 : Int32) (hI : XInv S) (hTm : 0 ≤ S.1 5 0 ∧ S.1 5 0 ≤ 16) (hi3 : 0 ≤ y3_39) (c3 : ¬ 4 ≤ y3_39) (c4 : S.2.2.2 5 (Int32.toNatClampNeg y3_39) = 0) : 0 ≤ (y3_39 + 1) := by 
  have bl_y3_39 := Int32.toInt_lt y3_39
  try simp only [i_le, i_lt, i_eq, Int32.reduceToInt] at *
  first | (have e_0 := a32 (x := y3_39) (y := 1) (by (try simp only [Int32.reduceToInt]); omega); (try simp only [Int32.reduceToInt] at e_0)) | skip
  try simp only [Int32.reduceToInt] at *
  omega
theorem x_digest_o22 (S : XS) (y3_39 : Int32) (hI : XInv S) (hTm : 0 ≤ S.1 5 0 ∧ S.1 5 0 ≤ 16) (hi3 : 0 ≤ y3_39) (c3 : ¬ 4 ≤ y3_39) (c4 : S.2.2.2 5 (Int32.toNatClampNeg y3_39) = 0) : y3_39 < 4 := by 
  have bl_y3_39 := Int32.toInt_lt y3_39
  try simp only [i_le, i_lt, i_eq, Int32.reduceToInt] at *
  try simp only [Int32.reduceToInt] at *
  omega
theorem x_digest_o23 (S : XS) (y3_39 : Int32) (hI : XInv S) (hTm : 0 ≤ S.1 5 0 ∧ S.1 5 0 ≤ 16) (hi3 : 0 ≤ y3_39) (c3 : ¬ 4 ≤ y3_39) (c4 : ¬ S.2.2.2 5 (Int32.toNatClampNeg y3_39) = 0) : 0 ≤ (y3_39 + 1) := by 
  have bl_y3_39 := Int32.toInt_lt y3_39
  try simp only [i_le, i_lt, i_eq, Int32.reduceToInt] at *
  first | (have e_0 := a32 (x := y3_39) (y := 1) (by (try simp only [Int32.reduceToInt]); omega); (try simp only [Int32.reduceToInt] at e_0)) | skip
  try simp only [Int32.reduceToInt] at *
  omega
theorem x_digest_o24 (S : XS) (y3_39 : Int32) (hI : XInv S) (hTm : 0 ≤ S.1 5 0 ∧ S.1 5 0 ≤ 16) (hi3 : 0 ≤ y3_39) (c3 : ¬ 4 ≤ y3_39) (c4 : ¬ S.2.2.2 5 (Int32.toNatClampNeg y3_39) = 0) : y3_39 < 4 := by 
  have bl_y3_39 := Int32.toInt_lt y3_39
  try simp only [i_le, i_lt, i_eq, Int32.reduceToInt] at *
  try simp only [Int32.reduceToInt] at *
  omega
theorem x_digest_o25 (S : XS) (y3_12 : Int32) (hI : XInv S) (hTm : 0 ≤ S.1 5 0 ∧ S.1 5 0 ≤ 16) (hi3 : 0 ≤ y3_12) (c1 : ¬ (S.1 5 0) ≤ y3_12) (hj : (Int32.toNatClampNeg y3_12) < S.2.2.2 7 0) : 0 ≤ (y3_12 + 1) := by 
  have bl_y3_12 := Int32.toInt_lt y3_12
  try (have bu_0 := Int32.toInt_lt (S.1 5 0))
  try simp only [i_le, i_lt, i_eq, Int32.reduceToInt] at *
  first | (have e_0 := a32 (x := y3_12) (y := 1) (by (try simp only [Int32.reduceToInt]); omega); (try simp only [Int32.reduceToInt] at e_0)) | skip
  try simp only [Int32.reduceToInt] at *
  omega
theorem x_digest_o26 (S : XS) (y3_12 : Int32) (hI : XInv S) (hTm : 0 ≤ S.1 5 0 ∧ S.1 5 0 ≤ 16) (hi3 : 0 ≤ y3_12) (c1 : ¬ (S.1 5 0) ≤ y3_12) (hj : (Int32.toNatClampNeg y3_12) < S.2.2.2 7 0) : y3_12 < (S.1 5 0) := by 
  have bl_y3_12 := Int32.toInt_lt y3_12
  try (have bu_0 := Int32.toInt_lt (S.1 5 0))
  try simp only [i_le, i_lt, i_eq, Int32.reduceToInt] at *
  try simp only [Int32.reduceToInt] at *
  omega
def x_digest (S : XS) : Int64 := (x_digest_R63 S).1
set_option maxHeartbeats 4000000 in
theorem xt_digest (l : Launch) (D : va_G) (d : Nat → ClassId) (A : Nat → Prop) (ad : XK → Nat) (S : XS) (hI : XInv S) : XL l yX0_digest cX0_digest 6 (rm_ 5) D d A ad S [.ref (ad (0, 0))] ((x_digest S), S) := by
  refine x_startL RX0 rfl (by decide) (Nat.le_of_ble_eq_true rfl) ?_
  intro p e s m av below meth c ls Q X hrt hlk hl hR hQ
  have hx := X.1.1.1
  have hb := X.1.1.2.1
  have hown := X.1.1.2.2.2.1
  have hts := X.1.1.2.2.2.2
  have hS : va_S A s.heap s.heap [] := va_S.rf
  have hl : lv_has ls 6 [(0, .ref (ad (0, 0)))] := hl
  have hTm : 0 ≤ S.1 5 0 ∧ S.1 5 0 ≤ 16 := xi_tm hI
  refine lv_ldc2 hx hb hown (hts _ q1123) dX0_digest_0 ?_
  refine lv_aload_n hx hb dX0_digest_3 rfl (lv_at hl 0 rfl) ?_
  refine xg_i X.1 hR 6 (by decide) rfl q103 rfl dX0_digest_4 ?_
  refine lv_i2l hx hb dX0_digest_7 rfl ?_
  refine lv_ladd hx hb dX0_digest_8 ?_
  refine lv_lstore_n (lv' := [(1, .long (x_digest_v9 S)), (0, .ref (ad (0, 0)))]) hx hb dX0_digest_9 rfl hl (by decide) rfl (fun ls hl => ?_)
  refine lv_iconst (v := 0) hx hb dX0_digest_10 (by decide) ?_
  refine lv_istore_n (lv' := [(3, .int 0), (1, .long (x_digest_v9 S)), (0, .ref (ad (0, 0)))]) hx hb dX0_digest_11 rfl hl (by decide) rfl (fun ls hl => ?_)
  have K12 : ∀ (H : Heap) (locs : List Loc) (ls : Array Slot), XR D d A ad S H → va_S A s.heap H locs → lv_has ls 6 [(3, .int (x_digest_R12 S).2), (1, .long (x_digest_R12 S).1), (0, .ref (ad (0, 0)))] → W p l e (rm_ 5) s m av below meth c H locs 0 0 Q (F0 m 37 ls []) := by
    intro H locs ls hR hS hl
    refine lv_iconst (v := 0) hx hb dX0_digest_37 (by decide) ?_
    refine lv_istore_n (lv' := [(3, .int 0), (1, .long (x_digest_R12 S).1), (0, .ref (ad (0, 0)))]) hx hb dX0_digest_38 rfl hl (by decide) rfl (fun ls hl => ?_)
    have K39 : ∀ (H : Heap) (locs : List Loc) (ls : Array Slot), XR D d A ad S H → va_S A s.heap H locs → lv_has ls 6 [(3, .int (x_digest_R39 S).2), (1, .long (x_digest_R39 S).1), (0, .ref (ad (0, 0)))] → W p l e (rm_ 5) s m av below meth c H locs 0 0 Q (F0 m 61 ls []) := by
      intro H locs ls hR hS hl
      refine lv_iconst (v := 0) hx hb dX0_digest_61 (by decide) ?_
      refine lv_istore_n (lv' := [(3, .int 0), (1, .long (x_digest_R39 S).1), (0, .ref (ad (0, 0)))]) hx hb dX0_digest_62 rfl hl (by decide) rfl (fun ls hl => ?_)
      have K63 : ∀ (H : Heap) (locs : List Loc) (ls : Array Slot), XR D d A ad S H → va_S A s.heap H locs → lv_has ls 6 [(3, .int (x_digest_R63 S).2), (1, .long (x_digest_R63 S).1), (0, .ref (ad (0, 0)))] → W p l e (rm_ 5) s m av below meth c H locs 0 0 Q (F0 m 138 ls []) := by
        intro H locs ls hR hS hl
        refine lv_lload_n hx hb dX0_digest_138 rfl (lv_at hl 1 rfl) ?_
        exact x_rl hx hb hrt hlk hR hS hQ (hF1 rfl) dX0_digest_139
      have L63 : ∀ (f63 : Nat) (y1_63 : Int64) (y3_63 : Int32) (H : Heap) (locs : List Loc) (ls : Array Slot), (8 - y3_63 : Int32).toNatClampNeg < f63 → 0 ≤ y3_63 → x_digest_L63 S (f63) y1_63 y3_63 = (x_digest_R63 S) → XR D d A ad S H → va_S A s.heap H locs → lv_has ls 6 [(3, .int y3_63), (1, .long y1_63), (0, .ref (ad (0, 0)))] → W p l e (rm_ 5) s m av below meth c H locs 0 0 Q (F0 m 63 ls []) := by
        intro f63
        induction f63 with
        | zero => intro y1_63 y3_63 H locs ls hf; exact absurd hf (Nat.not_lt_zero _)
        | succ f63 ih =>
          intro y1_63 y3_63 H locs ls hf hi3 hE hR hS hl
          refine lv_iload_n hx hb dX0_digest_63 rfl (lv_at hl 0 rfl) ?_
          refine lv_bipush (v := 8) hx hb dX0_digest_64 (by decide) ?_
          refine lv_icmp_ge (tgt := 138) hx hb dX0_digest_66 (by decide) (fun c7 => ?_) (fun c7 => ?_)
          · have e0 : (x_digest_R63 S) = (y1_63, y3_63) := Eq.trans (Eq.symm hE) (Eq.trans (x_digest_L63_s _ _ _ _) (if_pos c7))
            exact K63 _ _ _ hR hS (by rw [e0]; exact lv_sub hl [0, 1, 2] rfl)
          · refine lv_aload_n hx hb dX0_digest_69 rfl (lv_at hl 2 rfl) ?_
            refine xg_a X.1 hR 3 (by decide) (by decide) q99 dX0_digest_70 ?_
            refine lv_iload_n hx hb dX0_digest_73 rfl (lv_at hl 0 rfl) ?_
            refine x_ldRB X hR (ixl 8 8 (by decide) rfl (x_digest_o9 S y3_63 hI hTm hi3 c7)) dX0_digest_74 (fun c8 => ?_) (fun c8 => ?_)
            · refine lv_astoreN (lv' := [(4, .null), (3, .int y3_63), (1, .long y1_63), (0, .ref (ad (0, 0)))]) hx hb dX0_digest_75 hl (by decide) rfl (fun ls hl => ?_)
              refine lv_ldc2 hx hb hown (hts _ q1127) dX0_digest_77 ?_
              refine lv_lload_n hx hb dX0_digest_80 rfl (lv_at hl 2 rfl) ?_
              refine lv_lmul hx hb dX0_digest_81 ?_
              refine lv_aloadN hx hb dX0_digest_82 (lv_at hl 0 rfl) ?_
              refine lv_ifnonnullN hx hb dX0_digest_84 ?_
              refine lv_iconst (v := (-1)) hx hb dX0_digest_87 (by decide) ?_
              refine lv_goto (tgt := 94) hx hb dX0_digest_88 (by decide) ?_
              refine lv_i2l hx hb dX0_digest_94 rfl ?_
              refine lv_ladd hx hb dX0_digest_95 ?_
              refine lv_lstore_n (lv' := [(1, .long (x_digest_v96 y1_63)), (4, .null), (3, .int y3_63), (0, .ref (ad (0, 0)))]) hx hb dX0_digest_96 rfl hl (by decide) rfl (fun ls hl => ?_)
              refine lv_iconst (v := 0) hx hb dX0_digest_97 (by decide) ?_
              refine lv_istore (lv' := [(5, .int 0), (1, .long (x_digest_v96 y1_63)), (4, .null), (3, .int y3_63), (0, .ref (ad (0, 0)))]) hx hb dX0_digest_98 hl (by decide) rfl (fun ls hl => ?_)
              have K100 : ∀ (H : Heap) (locs : List Loc) (ls : Array Slot), XR D d A ad S H → va_S A s.heap H locs → lv_has ls 6 [(5, .int (x_digest_R100 S y1_63 y3_63).2), (1, .long (x_digest_R100 S y1_63 y3_63).1), (4, .null), (3, .int y3_63), (0, .ref (ad (0, 0)))] → W p l e (rm_ 5) s m av below meth c H locs 0 0 Q (F0 m 132 ls []) := by
                intro H locs ls hR hS hl
                refine lv_iinc (v := (y3_63 + 1)) (lv' := [(3, .int (y3_63 + 1)), (5, .int (x_digest_R100 S y1_63 y3_63).2), (1, .long (x_digest_R100 S y1_63 y3_63).1), (4, .null), (0, .ref (ad (0, 0)))]) hx hb dX0_digest_132 hl (k := 3) rfl rfl (by decide) rfl (fun ls hl => ?_)
                refine lv_goto (tgt := 63) hx hb dX0_digest_135 (by decide) ?_
                exact ih (x_digest_R100 S y1_63 y3_63).1 (y3_63 + 1) _ _  _ (Nat.lt_of_lt_of_le (up_ hi3 (x_digest_o16 S y3_63 hI hTm hi3 c7 c8)) (Nat.le_of_lt_succ hf)) (x_digest_o15 S y3_63 hI hTm hi3 c7 c8) (Eq.trans (Eq.symm (Eq.trans (x_digest_L63_s _ _ _ _) (Eq.trans (if_neg c7) (if_pos c8)))) hE) hR hS (lv_sub hl [0, 2, 4] rfl)
              have L100 : ∀ (f100 : Nat) (y1_100 : Int64) (y5_100 : Int32) (H : Heap) (locs : List Loc) (ls : Array Slot), (nI (S.2.2.2 3 (Int32.toNatClampNeg y3_63) - 1) - y5_100 : Int32).toNatClampNeg < f100 → 0 ≤ y5_100 → x_digest_L100 (f100) y1_100 y5_100 = (x_digest_R100 S y1_63 y3_63) → XR D d A ad S H → va_S A s.heap H locs → lv_has ls 6 [(5, .int y5_100), (1, .long y1_100), (4, .null), (3, .int y3_63), (0, .ref (ad (0, 0)))] → W p l e (rm_ 5) s m av below meth c H locs 0 0 Q (F0 m 100 ls []) := by
                intro f100
                induction f100 with
                | zero => intro y1_100 y5_100 H locs ls hf; exact absurd hf (Nat.not_lt_zero _)
                | succ f100 ih =>
                  intro y1_100 y5_100 H locs ls hf hi5 hE hR hS hl
                  refine lv_aloadN hx hb dX0_digest_100 (lv_at hl 2 rfl) ?_
                  refine lv_ifnullN (tgt := 132) hx hb dX0_digest_102 (by decide) ?_
                  have e0 : (x_digest_R100 S y1_63 y3_63) = (y1_100, y5_100) := Eq.trans (Eq.symm hE) (x_digest_L100_s _ _ _)
                  exact K100 _ _ _ hR hS (by rw [e0]; exact lv_sub hl [0, 1, 2, 3, 4] rfl)
              exact L100 _ (x_digest_v96 y1_63) 0 _ _  _ (fz_lt _) (by decide) rfl hR hS (lv_sub hl [0, 1, 2, 3, 4] rfl)
            · refine lv_astore (lv' := [(4, .ref (ad (30, (Int32.toNatClampNeg y3_63)))), (3, .int y3_63), (1, .long y1_63), (0, .ref (ad (0, 0)))]) hx hb dX0_digest_75 hl (by decide) rfl (fun ls hl => ?_)
              refine lv_ldc2 hx hb hown (hts _ q1127) dX0_digest_77 ?_
              refine lv_lload_n hx hb dX0_digest_80 rfl (lv_at hl 2 rfl) ?_
              refine lv_lmul hx hb dX0_digest_81 ?_
              refine lv_aload hx hb dX0_digest_82 (lv_at hl 0 rfl) ?_
              refine lv_ifnonnull (tgt := 91) hx hb dX0_digest_84 (by decide) ?_
              refine lv_aload hx hb dX0_digest_91 (lv_at hl 0 rfl) ?_
              refine x_lnr X hR (x_lvr (tn8 (x_digest_o10 S y3_63 hI hTm hi3 c7 c8)) (c8)) (v := nI (S.2.2.2 3 (Int32.toNatClampNeg y3_63) - 1)) rfl dX0_digest_93 ?_
              refine lv_i2l hx hb dX0_digest_94 rfl ?_
              refine lv_ladd hx hb dX0_digest_95 ?_
              refine lv_lstore_n (lv' := [(1, .long (x_digest_v96a S y1_63 y3_63)), (4, .ref (ad (30, (Int32.toNatClampNeg y3_63)))), (3, .int y3_63), (0, .ref (ad (0, 0)))]) hx hb dX0_digest_96 rfl hl (by decide) rfl (fun ls hl => ?_)
              refine lv_iconst (v := 0) hx hb dX0_digest_97 (by decide) ?_
              refine lv_istore (lv' := [(5, .int 0), (1, .long (x_digest_v96a S y1_63 y3_63)), (4, .ref (ad (30, (Int32.toNatClampNeg y3_63)))), (3, .int y3_63), (0, .ref (ad (0, 0)))]) hx hb dX0_digest_98 hl (by decide) rfl (fun ls hl => ?_)
              have K100x : ∀ (H : Heap) (locs : List Loc) (ls : Array Slot), XR D d A ad S H → va_S A s.heap H locs → lv_has ls 6 [(5, .int (x_digest_R100x S y1_63 y3_63).2), (1, .long (x_digest_R100x S y1_63 y3_63).1), (4, .ref (ad (30, (Int32.toNatClampNeg y3_63)))), (3, .int y3_63), (0, .ref (ad (0, 0)))] → W p l e (rm_ 5) s m av below meth c H locs 0 0 Q (F0 m 132 ls []) := by
                intro H locs ls hR hS hl
                refine lv_iinc (v := (y3_63 + 1)) (lv' := [(3, .int (y3_63 + 1)), (5, .int (x_digest_R100x S y1_63 y3_63).2), (1, .long (x_digest_R100x S y1_63 y3_63).1), (4, .ref (ad (30, (Int32.toNatClampNeg y3_63)))), (0, .ref (ad (0, 0)))]) hx hb dX0_digest_132 hl (k := 3) rfl rfl (by decide) rfl (fun ls hl => ?_)
                refine lv_goto (tgt := 63) hx hb dX0_digest_135 (by decide) ?_
                exact ih (x_digest_R100x S y1_63 y3_63).1 (y3_63 + 1) _ _  _ (Nat.lt_of_lt_of_le (up_ hi3 (x_digest_o18 S y3_63 hI hTm hi3 c7 c8)) (Nat.le_of_lt_succ hf)) (x_digest_o17 S y3_63 hI hTm hi3 c7 c8) (Eq.trans (Eq.symm (Eq.trans (x_digest_L63_s _ _ _ _) (Eq.trans (if_neg c7) (if_neg c8)))) hE) hR hS (lv_sub hl [0, 2, 4] rfl)
              have L100x : ∀ (f100x : Nat) (y1_100x : Int64) (y5_100x : Int32) (H : Heap) (locs : List Loc) (ls : Array Slot), (nI (S.2.2.2 3 (Int32.toNatClampNeg y3_63) - 1) - y5_100x : Int32).toNatClampNeg < f100x → 0 ≤ y5_100x → x_digest_L100x S y3_63 (f100x) y1_100x y5_100x = (x_digest_R100x S y1_63 y3_63) → XR D d A ad S H → va_S A s.heap H locs → lv_has ls 6 [(5, .int y5_100x), (1, .long y1_100x), (4, .ref (ad (30, (Int32.toNatClampNeg y3_63)))), (3, .int y3_63), (0, .ref (ad (0, 0)))] → W p l e (rm_ 5) s m av below meth c H locs 0 0 Q (F0 m 100 ls []) := by
                intro f100x
                induction f100x with
                | zero => intro y1_100x y5_100x H locs ls hf; exact absurd hf (Nat.not_lt_zero _)
                | succ f100x ih =>
                  intro y1_100x y5_100x H locs ls hf hi5 hE hR hS hl
                  refine lv_aload hx hb dX0_digest_100 (lv_at hl 2 rfl) ?_
                  refine lv_ifnull hx hb dX0_digest_102 ?_
                  refine lv_iload hx hb dX0_digest_105 (lv_at hl 0 rfl) ?_
                  refine lv_aload hx hb dX0_digest_107 (lv_at hl 2 rfl) ?_
                  refine x_lnr X hR (x_lvr (tn8 (x_digest_o11 S y3_63 y5_100x hI hTm hi3 c7 c8 hi5)) (c8)) (v := nI (S.2.2.2 3 (Int32.toNatClampNeg y3_63) - 1)) rfl dX0_digest_109 ?_
                  refine lv_icmp_ge (tgt := 132) hx hb dX0_digest_110 (by decide) (fun c12 => ?_) (fun c12 => ?_)
                  · have e0 : (x_digest_R100x S y1_63 y3_63) = (y1_100x, y5_100x) := Eq.trans (Eq.symm hE) (Eq.trans (x_digest_L100x_s _ _ _ _ _) (if_pos c12))
                    exact K100x _ _ _ hR hS (by rw [e0]; exact lv_sub hl [0, 1, 2, 3, 4] rfl)
                  · refine lv_ldc2 hx hb hown (hts _ q1127) dX0_digest_113 ?_
                    refine lv_lload_n hx hb dX0_digest_116 rfl (lv_at hl 1 rfl) ?_
                    refine lv_lmul hx hb dX0_digest_117 ?_
                    refine lv_aload hx hb dX0_digest_118 (lv_at hl 2 rfl) ?_
                    refine lv_iload hx hb dX0_digest_120 (lv_at hl 0 rfl) ?_
                    refine x_ldr X hR (x_lvr (tn8 (x_digest_o13 S y3_63 y5_100x hI hTm hi3 c7 c8 hi5 c12)) (c8)) (ix_ (xi_rl (X := S) hI (tn8 (x_digest_o13 S y3_63 y5_100x hI hTm hi3 c7 c8 hi5 c12))) (x_digest_o14 S y3_63 y5_100x hI hTm hi3 c7 c8 hi5 c12)) (v := S.2.2.1 3 (Int32.toNatClampNeg y3_63) (Int32.toNatClampNeg y5_100x)) rfl dX0_digest_122 ?_
                    refine lv_i2l hx hb dX0_digest_123 rfl ?_
                    refine lv_ladd hx hb dX0_digest_124 ?_
                    refine lv_lstore_n (lv' := [(1, .long (x_digest_v125 S y3_63 y1_100x y5_100x)), (5, .int y5_100x), (4, .ref (ad (30, (Int32.toNatClampNeg y3_63)))), (3, .int y3_63), (0, .ref (ad (0, 0)))]) hx hb dX0_digest_125 rfl hl (by decide) rfl (fun ls hl => ?_)
                    refine lv_iinc (v := (y5_100x + 1)) (lv' := [(5, .int (y5_100x + 1)), (1, .long (x_digest_v125 S y3_63 y1_100x y5_100x)), (4, .ref (ad (30, (Int32.toNatClampNeg y3_63)))), (3, .int y3_63), (0, .ref (ad (0, 0)))]) hx hb dX0_digest_126 hl (k := 1) rfl rfl (by decide) rfl (fun ls hl => ?_)
                    refine lv_goto (tgt := 100) hx hb dX0_digest_129 (by decide) ?_
                    exact ih (x_digest_v125 S y3_63 y1_100x y5_100x) (y5_100x + 1) _ _  _ (Nat.lt_of_lt_of_le (up_ hi5 (x_digest_o20 S y3_63 y5_100x hI hTm hi3 c7 c8 hi5 c12)) (Nat.le_of_lt_succ hf)) (x_digest_o19 S y3_63 y5_100x hI hTm hi3 c7 c8 hi5 c12) (Eq.trans (Eq.symm (Eq.trans (x_digest_L100x_s _ _ _ _ _) (if_neg c12))) hE) hR hS (lv_sub hl [0, 1, 2, 3, 4] rfl)
              exact L100x _ (x_digest_v96a S y1_63 y3_63) 0 _ _  _ (fz_lt _) (by decide) rfl hR hS (lv_sub hl [0, 1, 2, 3, 4] rfl)
      exact L63 _ (x_digest_R39 S).1 0 _ _  _ (fz_lt _) (by decide) rfl hR hS (lv_sub hl [0, 1, 2] rfl)
    have L39 : ∀ (f39 : Nat) (y1_39 : Int64) (y3_39 : Int32) (H : Heap) (locs : List Loc) (ls : Array Slot), (4 - y3_39 : Int32).toNatClampNeg < f39 → 0 ≤ y3_39 → x_digest_L39 S (f39) y1_39 y3_39 = (x_digest_R39 S) → XR D d A ad S H → va_S A s.heap H locs → lv_has ls 6 [(3, .int y3_39), (1, .long y1_39), (0, .ref (ad (0, 0)))] → W p l e (rm_ 5) s m av below meth c H locs 0 0 Q (F0 m 39 ls []) := by
      intro f39
      induction f39 with
      | zero => intro y1_39 y3_39 H locs ls hf; exact absurd hf (Nat.not_lt_zero _)
      | succ f39 ih =>
        intro y1_39 y3_39 H locs ls hf hi3 hE hR hS hl
        refine lv_iload_n hx hb dX0_digest_39 rfl (lv_at hl 0 rfl) ?_
        refine lv_iconst (v := 4) hx hb dX0_digest_40 (by decide) ?_
        refine lv_icmp_ge (tgt := 61) hx hb dX0_digest_41 (by decide) (fun c3 => ?_) (fun c3 => ?_)
        · have e0 : (x_digest_R39 S) = (y1_39, y3_39) := Eq.trans (Eq.symm hE) (Eq.trans (x_digest_L39_s _ _ _ _) (if_pos c3))
          exact K39 _ _ _ hR hS (by rw [e0]; exact lv_sub hl [0, 1, 2] rfl)
        · refine lv_aload_n hx hb dX0_digest_44 rfl (lv_at hl 2 rfl) ?_
          refine xg_a X.1 hR 7 (by decide) (by decide) q104 dX0_digest_45 ?_
          refine lv_iload_n hx hb dX0_digest_48 rfl (lv_at hl 0 rfl) ?_
          refine x_ldwB X hR (ixl 4 4 (by decide) rfl (x_digest_o5 S y3_39 hI hTm hi3 c3)) dX0_digest_49 (fun c4 => ?_) (fun c4 => ?_)
          · refine lv_lload_n hx hb dX0_digest_50 rfl (lv_at hl 1 rfl) ?_
            refine x_bl hS (xr_S X hR (xt_digestW0 l D d A ad S y1_39) 2 (lw_S q1128 q1129 q58 q1130) ⟨rfl, rfl⟩ (by decide +kernel) ⟨by decide, by decide⟩ ⟨by decide, by decide⟩ rfl hl.1 rfl (Nat.le_of_ble_eq_true rfl) dX0_digest_51) (fun H locs hR hS => ?_)
            refine lv_lstore_n (lv' := [(1, .long (x_digestW0 S y1_39)), (3, .int y3_39), (0, .ref (ad (0, 0)))]) hx hb dX0_digest_54 rfl hl (by decide) rfl (fun ls hl => ?_)
            refine lv_iinc (v := (y3_39 + 1)) (lv' := [(3, .int (y3_39 + 1)), (1, .long (x_digestW0 S y1_39)), (0, .ref (ad (0, 0)))]) hx hb dX0_digest_55 hl (k := 1) rfl rfl (by decide) rfl (fun ls hl => ?_)
            refine lv_goto (tgt := 39) hx hb dX0_digest_58 (by decide) ?_
            exact ih (x_digestW0 S y1_39) (y3_39 + 1) _ _  _ (Nat.lt_of_lt_of_le (up_ hi3 (x_digest_o22 S y3_39 hI hTm hi3 c3 c4)) (Nat.le_of_lt_succ hf)) (x_digest_o21 S y3_39 hI hTm hi3 c3 c4) (Eq.trans (Eq.symm (Eq.trans (x_digest_L39_s _ _ _ _) (Eq.trans (if_neg c3) (if_pos c4)))) hE) hR hS (lv_sub hl [0, 1, 2] rfl)
          · refine lv_lload_n hx hb dX0_digest_50 rfl (lv_at hl 1 rfl) ?_
            refine x_bl hS (xr_S X hR (xt_digestW l D d A ad S (Int32.toNatClampNeg y3_39) y1_39 (hI) (tn4 (x_digest_o6 S y3_39 hI hTm hi3 c3 c4)) (c4)) 2 (lw_S q1128 q1129 q58 q1130) ⟨rfl, rfl⟩ (by decide +kernel) ⟨by decide, by decide⟩ ⟨by decide, by decide⟩ rfl hl.1 rfl (Nat.le_of_ble_eq_true rfl) dX0_digest_51) (fun H locs hR hS => ?_)
            refine lv_lstore_n (lv' := [(1, .long (x_digest_v54 S y1_39 y3_39)), (3, .int y3_39), (0, .ref (ad (0, 0)))]) hx hb dX0_digest_54 rfl hl (by decide) rfl (fun ls hl => ?_)
            refine lv_iinc (v := (y3_39 + 1)) (lv' := [(3, .int (y3_39 + 1)), (1, .long (x_digest_v54 S y1_39 y3_39)), (0, .ref (ad (0, 0)))]) hx hb dX0_digest_55 hl (k := 1) rfl rfl (by decide) rfl (fun ls hl => ?_)
            refine lv_goto (tgt := 39) hx hb dX0_digest_58 (by decide) ?_
            exact ih (x_digest_v54 S y1_39 y3_39) (y3_39 + 1) _ _  _ (Nat.lt_of_lt_of_le (up_ hi3 (x_digest_o24 S y3_39 hI hTm hi3 c3 c4)) (Nat.le_of_lt_succ hf)) (x_digest_o23 S y3_39 hI hTm hi3 c3 c4) (Eq.trans (Eq.symm (Eq.trans (x_digest_L39_s _ _ _ _) (Eq.trans (if_neg c3) (if_neg c4)))) hE) hR hS (lv_sub hl [0, 1, 2] rfl)
    exact L39 _ (x_digest_R12 S).1 0 _ _  _ (fz_lt _) (by decide) rfl hR hS (lv_sub hl [0, 1, 2] rfl)
  have L12 : ∀ (f12 : Nat) (y1_12 : Int64) (y3_12 : Int32) (H : Heap) (locs : List Loc) (ls : Array Slot), ((S.1 5 0) - y3_12 : Int32).toNatClampNeg < f12 → 0 ≤ y3_12 → x_digest_L12 S (f12) y1_12 y3_12 = (x_digest_R12 S) → XR D d A ad S H → va_S A s.heap H locs → lv_has ls 6 [(3, .int y3_12), (1, .long y1_12), (0, .ref (ad (0, 0)))] → W p l e (rm_ 5) s m av below meth c H locs 0 0 Q (F0 m 12 ls []) := by
    intro f12
    induction f12 with
    | zero => intro y1_12 y3_12 H locs ls hf; exact absurd hf (Nat.not_lt_zero _)
    | succ f12 ih =>
      intro y1_12 y3_12 H locs ls hf hi3 hE hR hS hl
      refine lv_iload_n hx hb dX0_digest_12 rfl (lv_at hl 0 rfl) ?_
      refine lv_aload_n hx hb dX0_digest_13 rfl (lv_at hl 2 rfl) ?_
      refine xg_i X.1 hR 5 (by decide) rfl q101 rfl dX0_digest_14 ?_
      refine lv_icmp_ge (tgt := 37) hx hb dX0_digest_17 (by decide) (fun c1 => ?_) (fun c1 => ?_)
      · have e0 : (x_digest_R12 S) = (y1_12, y3_12) := Eq.trans (Eq.symm hE) (Eq.trans (x_digest_L12_s _ _ _ _) (if_pos c1))
        exact K12 _ _ _ hR hS (by rw [e0]; exact lv_sub hl [0, 1, 2] rfl)
      · have hj : (Int32.toNatClampNeg y3_12) < S.2.2.2 7 0 := xi_trn hI ⟨hi3, le_pred (Int32.not_le.mp (by assumption))⟩
        refine lv_aload_n hx hb dX0_digest_20 rfl (lv_at hl 2 rfl) ?_
        refine xg_a X.1 hR 4 (by decide) (by decide) q100 dX0_digest_21 ?_
        refine lv_iload_n hx hb dX0_digest_24 rfl (lv_at hl 0 rfl) ?_
        refine x_ldt X hR (ixl 16 16 (by decide) rfl (x_digest_o2 S y3_12 hI hTm hi3 c1 hj)) (hj) dX0_digest_25 ?_
        refine lv_lload_n hx hb dX0_digest_26 rfl (lv_at hl 1 rfl) ?_
        refine x_bl hS (xr_S X hR (xt_digestOf l D d A ad S (Int32.toNatClampNeg y3_12) y1_12 (hI) (hj)) 2 (lw_S q1124 q1125 q58 q1126) ⟨rfl, rfl⟩ (by decide +kernel) ⟨by decide, by decide⟩ ⟨by decide, by decide⟩ rfl hl.1 rfl (Nat.le_of_ble_eq_true rfl) dX0_digest_27) (fun H locs hR hS => ?_)
        refine lv_lstore_n (lv' := [(1, .long (x_digest_v30 S y1_12 y3_12)), (3, .int y3_12), (0, .ref (ad (0, 0)))]) hx hb dX0_digest_30 rfl hl (by decide) rfl (fun ls hl => ?_)
        refine lv_iinc (v := (y3_12 + 1)) (lv' := [(3, .int (y3_12 + 1)), (1, .long (x_digest_v30 S y1_12 y3_12)), (0, .ref (ad (0, 0)))]) hx hb dX0_digest_31 hl (k := 1) rfl rfl (by decide) rfl (fun ls hl => ?_)
        refine lv_goto (tgt := 12) hx hb dX0_digest_34 (by decide) ?_
        exact ih (x_digest_v30 S y1_12 y3_12) (y3_12 + 1) _ _  _ (Nat.lt_of_lt_of_le (up_ hi3 (x_digest_o26 S y3_12 hI hTm hi3 c1 hj)) (Nat.le_of_lt_succ hf)) (x_digest_o25 S y3_12 hI hTm hi3 c1 hj) (Eq.trans (Eq.symm (Eq.trans (x_digest_L12_s _ _ _ _) (if_neg c1))) hE) hR hS (lv_sub hl [0, 1, 2] rfl)
  exact L12 _ (x_digest_v9 S) 0 _ _  _ (fz_lt _) (by decide) rfl hR hS (lv_sub hl [0, 1, 2] rfl)
