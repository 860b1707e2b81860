/-! PRINTED by gen/run_x2.py -/
set_option maxRecDepth 100000
def x_t2_kind (S : XS) (j : Nat) : Int32 := 0
set_option maxHeartbeats 4000000 in
theorem xt_t2_kind (l : Launch) (D : va_G) (d : Nat → ClassId) (A : Nat → Prop) (ad : XK → Nat) (S : XS) (j : Nat) : XI l yX2_kind cX2_kind 1 .int (rm_ 0) D d A ad S [.ref (ad (40, j))] ((x_t2_kind S j), S) := by
  refine x_startI RX2 rfl (by decide) (Nat.le_of_ble_eq_true rfl) ?_
  intro p e s m av below meth c ls Q X hrt hlk hl hR hQ
  have hx := X.1.1.1
  have hb := X.1.1.2.1
  have hown := X.1.1.2.2.2.1
  have hts := X.1.1.2.2.2.2
  have hS : va_S A s.heap s.heap [] := va_S.rf
  have hl : lv_has ls 1 [(0, .ref (ad (40, j)))] := hl
  refine lv_iconst (v := 0) hx hb dX2_kind_0 (by decide) ?_
  exact x_ri hx hb hrt (rfl) hlk hR hS hQ (hF1 rfl) dX2_kind_1
def x_t2_many (S : XS) (j : Nat) : Int32 := 0
set_option maxHeartbeats 4000000 in
theorem xt_t2_many (l : Launch) (D : va_G) (d : Nat → ClassId) (A : Nat → Prop) (ad : XK → Nat) (S : XS) (j : Nat) : XI l yX2_many cX2_many 1 .int (rm_ 0) D d A ad S [.ref (ad (40, j))] ((x_t2_many S j), S) := by
  refine x_startI RX2 rfl (by decide) (Nat.le_of_ble_eq_true rfl) ?_
  intro p e s m av below meth c ls Q X hrt hlk hl hR hQ
  have hx := X.1.1.1
  have hb := X.1.1.2.1
  have hown := X.1.1.2.2.2.1
  have hts := X.1.1.2.2.2.2
  have hS : va_S A s.heap s.heap [] := va_S.rf
  have hl : lv_has ls 1 [(0, .ref (ad (40, j)))] := hl
  refine lv_iconst (v := 0) hx hb dX2_many_0 (by decide) ?_
  exact x_ri hx hb hrt (rfl) hlk hR hS hQ (hF1 rfl) dX2_many_1
def x_t2_at (S : XS) (j : Nat) : Int32 := (-9)
set_option maxHeartbeats 4000000 in
theorem xt_t2_at (l : Launch) (D : va_G) (d : Nat → ClassId) (A : Nat → Prop) (ad : XK → Nat) (S : XS) (j : Nat) : XI l yX2_at cX2_at 1 .int (rm_ 0) D d A ad S [.ref (ad (40, j))] ((x_t2_at S j), S) := by
  refine x_startI RX2 rfl (by decide) (Nat.le_of_ble_eq_true rfl) ?_
  intro p e s m av below meth c ls Q X hrt hlk hl hR hQ
  have hx := X.1.1.1
  have hb := X.1.1.2.1
  have hown := X.1.1.2.2.2.1
  have hts := X.1.1.2.2.2.2
  have hS : va_S A s.heap s.heap [] := va_S.rf
  have hl : lv_has ls 1 [(0, .ref (ad (40, j)))] := hl
  refine lv_bipush (v := (-9)) hx hb dX2_at_0 (by decide) ?_
  exact x_ri hx hb hrt (rfl) hlk hR hS hQ (hF1 rfl) dX2_at_2
def x_t2_notch (S : XS) (j : Nat) (x1 : Int32) : Int32 := 1
set_option maxHeartbeats 4000000 in
theorem xt_t2_notch (l : Launch) (D : va_G) (d : Nat → ClassId) (A : Nat → Prop) (ad : XK → Nat) (S : XS) (j : Nat) (x1 : Int32) : XI l yX2_notch cX2_notch 2 .int (rm_ 0) D d A ad S [.ref (ad (40, j)), .int x1] ((x_t2_notch S j x1), S) := by
  refine x_startI RX2 rfl (by decide) (Nat.le_of_ble_eq_true rfl) ?_
  intro p e s m av below meth c ls Q X hrt hlk hl hR hQ
  have hx := X.1.1.1
  have hb := X.1.1.2.1
  have hown := X.1.1.2.2.2.1
  have hts := X.1.1.2.2.2.2
  have hS : va_S A s.heap s.heap [] := va_S.rf
  have hl : lv_has ls 2 [(0, .ref (ad (40, j))), (1, .int x1)] := hl
  refine lv_iconst (v := 1) hx hb dX2_notch_0 (by decide) ?_
  exact x_ri hx hb hrt (rfl) hlk hR hS hQ (hF1 rfl) dX2_notch_1
def x_t2_lets (S : XS) (j : Nat) (x1 : Int32) (x2 : Int32) : Int32 := 1
set_option maxHeartbeats 4000000 in
theorem xt_t2_lets (l : Launch) (D : va_G) (d : Nat → ClassId) (A : Nat → Prop) (ad : XK → Nat) (S : XS) (j : Nat) (x1 : Int32) (x2 : Int32) : XI l yX2_lets cX2_lets 3 .int (rm_ 0) D d A ad S [.ref (ad (40, j)), .int x1, .int x2] ((x_t2_lets S j x1 x2), S) := by
  refine x_startI RX2 rfl (by decide) (Nat.le_of_ble_eq_true rfl) ?_
  intro p e s m av below meth c ls Q X hrt hlk hl hR hQ
  have hx := X.1.1.1
  have hb := X.1.1.2.1
  have hown := X.1.1.2.2.2.1
  have hts := X.1.1.2.2.2.2
  have hS : va_S A s.heap s.heap [] := va_S.rf
  have hl : lv_has ls 3 [(0, .ref (ad (40, j))), (1, .int x1), (2, .int x2)] := hl
  refine lv_iconst (v := 1) hx hb dX2_lets_0 (by decide) ?_
  exact x_ri hx hb hrt (rfl) hlk hR hS hQ (hF1 rfl) dX2_lets_1
def x_t2_letOff (S : XS) (j : Nat) (x1 : Int32) (x2 : Int32) : XS := (xu (xu S 45 j ((S.1 45 j) + 1)) 49 j x2)
theorem x_t2_letOff_N (S : XS) (j : Nat) (x1 : Int32) (x2 : Int32) : (x_t2_letOff S j x1 x2).2.2.2 = S.2.2.2 := by
  unfold x_t2_letOff
  exact rfl
theorem x_t2_letOff_inv (S : XS) (j : Nat) (x1 : Int32) (x2 : Int32) (hz_x2 : x2 = 0 ∨ x2 = 1) (hI : XInv S) (hj : j < S.2.2.2 7 0) : XInv (x_t2_letOff S j x1 x2) := by
  unfold x_t2_letOff
  exact (XInv_xu (XInv_xu hI _ _ _ (by decide)) _ _ _ (by decide))
set_option maxHeartbeats 4000000 in
theorem xt_t2_letOff (l : Launch) (D : va_G) (d : Nat → ClassId) (A : Nat → Prop) (ad : XK → Nat) (S : XS) (j : Nat) (x1 : Int32) (x2 : Int32) (hz_x2 : x2 = 0 ∨ x2 = 1) (hI : XInv S) (hj : j < S.2.2.2 7 0) : XV l yX2_letOff cX2_letOff 3 (rm_ 0) D d A ad S [.ref (ad (40, j)), .int x1, .int x2] (x_t2_letOff S j x1 x2) := by
  refine x_startV RX2 rfl (by decide) (Nat.le_of_ble_eq_true rfl) ?_
  intro p e s m av below meth c ls Q X hrt hlk hl hR hQ
  have hx := X.1.1.1
  have hb := X.1.1.2.1
  have hown := X.1.1.2.2.2.1
  have hts := X.1.1.2.2.2.2
  have hS : va_S A s.heap s.heap [] := va_S.rf
  have hl : lv_has ls 3 [(0, .ref (ad (40, j))), (1, .int x1), (2, .int x2)] := hl
  refine lv_aload_n hx hb dX2_letOff_0 rfl (lv_at hl 0 rfl) ?_
  refine lv_dup hx hb dX2_letOff_1 rfl ?_
  refine xgt X hR (x_lvt (hj)) (xi_kd (X := S) hI (hj)) 5 (by decide) q370 (Or.inl rfl) rfl dX2_letOff_2 ?_
  refine lv_iconst (v := 1) hx hb dX2_letOff_5 (by decide) ?_
  refine lv_iadd hx hb dX2_letOff_6 ?_
  refine xpt X hR hS (x_lvt (hj)) (xi_kd (X := S) hI (hj)) 5 (by decide) rfl q370 (Or.inl rfl) rfl dX2_letOff_7 (fun H locs hR hS => ?_)
  refine lv_aload_n hx hb dX2_letOff_10 rfl (lv_at hl 0 rfl) ?_
  refine lv_iload_n hx hb dX2_letOff_11 rfl (lv_at hl 2 rfl) ?_
  refine xptz X hR hS (x_lvt (hj)) (xi_kd (X := S) hI (hj)) 9 (by decide) rfl q383 (Or.inl rfl) rfl (hz_x2) dX2_letOff_12 (fun H locs hR hS => ?_)
  exact x_rv hx hb hrt hlk hR hS hQ rfl dX2_letOff_15
def x_t3_kind (S : XS) (j : Nat) : Int32 := ((x_t2_kind S j) + 1)
set_option maxHeartbeats 4000000 in
theorem xt_t3_kind (l : Launch) (D : va_G) (d : Nat → ClassId) (A : Nat → Prop) (ad : XK → Nat) (S : XS) (j : Nat) (hI : XInv S) (hj : j < S.2.2.2 7 0) (hk : S.2.2.2 0 j = 1 ∨ S.2.2.2 0 j = 3) : XI l yX3_kind cX3_kind 1 .int (rm_ 1) D d A ad S [.ref (ad (40, j))] ((x_t3_kind S j), S) := by
  refine x_startI RX3 rfl (by decide) (Nat.le_of_ble_eq_true rfl) ?_
  intro p e s m av below meth c ls Q X hrt hlk hl hR hQ
  have hx := X.1.1.1
  have hb := X.1.1.2.1
  have hown := X.1.1.2.2.2.1
  have hts := X.1.1.2.2.2.2
  have hS : va_S A s.heap s.heap [] := va_S.rf
  have hl : lv_has ls 1 [(0, .ref (ad (40, j)))] := hl
  refine lv_aload_n hx hb dX3_kind_0 rfl (lv_at hl 0 rfl) ?_
  obtain ⟨q_, hq_⟩ := x_clq (xi_kd (X := S) hI (hj))
  refine x_bi hS (xr_U X hR (x_lvt (hj)) (x_C40 j) hq_ (xt_t2_kind l D d A ad S j) 0 q548 q541 q450 q539 q69 q553 ⟨rfl, rfl⟩ (by decide +kernel) ⟨by decide, by decide⟩ ⟨by decide, by decide⟩ rfl hl.1 rfl (Nat.le_of_ble_eq_true rfl) dX3_kind_1) (fun H locs hR hS => ?_)
  refine lv_iconst (v := 1) hx hb dX3_kind_4 (by decide) ?_
  refine lv_iadd hx hb dX3_kind_5 ?_
  exact x_ri hx hb hrt (rfl) hlk hR hS hQ (hF1 rfl) dX3_kind_6
def x_t3_many (S : XS) (j : Nat) : Int32 := (nI (S.2.2.2 1 j))
set_option maxHeartbeats 4000000 in
theorem xt_t3_many (l : Launch) (D : va_G) (d : Nat → ClassId) (A : Nat → Prop) (ad : XK → Nat) (S : XS) (j : Nat) (hI : XInv S) (hj : j < S.2.2.2 7 0) (hk : S.2.2.2 0 j = 1 ∨ S.2.2.2 0 j = 3) : XI l yX3_many cX3_many 1 .int (rm_ 0) D d A ad S [.ref (ad (40, j))] ((x_t3_many S j), S) := by
  refine x_startI RX3 rfl (by decide) (Nat.le_of_ble_eq_true rfl) ?_
  intro p e s m av below meth c ls Q X hrt hlk hl hR hQ
  have hx := X.1.1.1
  have hb := X.1.1.2.1
  have hown := X.1.1.2.2.2.1
  have hts := X.1.1.2.2.2.2
  have hS : va_S A s.heap s.heap [] := va_S.rf
  have hl : lv_has ls 1 [(0, .ref (ad (40, j)))] := hl
  refine lv_aload_n hx hb dX3_many_0 rfl (lv_at hl 0 rfl) ?_
  refine xg_no X hR (x_lvt (hj)) (hk) q429 dX3_many_1 ?_
  refine x_lnn X hR (x_lvn (hj) (k13 hk)) (v := nI (S.2.2.2 1 j)) rfl dX3_many_4 ?_
  exact x_ri hx hb hrt (rfl) hlk hR hS hQ (hF1 rfl) dX3_many_5
def x_t3_at (S : XS) (j : Nat) : Int32 := (S.1 50 j)
set_option maxHeartbeats 4000000 in
theorem xt_t3_at (l : Launch) (D : va_G) (d : Nat → ClassId) (A : Nat → Prop) (ad : XK → Nat) (S : XS) (j : Nat) (hI : XInv S) (hj : j < S.2.2.2 7 0) (hk : S.2.2.2 0 j = 1 ∨ S.2.2.2 0 j = 3) : XI l yX3_at cX3_at 1 .int (rm_ 0) D d A ad S [.ref (ad (40, j))] ((x_t3_at S j), S) := by
  refine x_startI RX3 rfl (by decide) (Nat.le_of_ble_eq_true rfl) ?_
  intro p e s m av below meth c ls Q X hrt hlk hl hR hQ
  have hx := X.1.1.1
  have hb := X.1.1.2.1
  have hown := X.1.1.2.2.2.1
  have hts := X.1.1.2.2.2.2
  have hS : va_S A s.heap s.heap [] := va_S.rf
  have hl : lv_has ls 1 [(0, .ref (ad (40, j)))] := hl
  refine lv_aload_n hx hb dX3_at_0 rfl (lv_at hl 0 rfl) ?_
  refine xg_at X hR (x_lvt (hj)) (hk) q430 rfl dX3_at_1 ?_
  exact x_ri hx hb hrt (rfl) hlk hR hS hQ (hF1 rfl) dX3_at_4
theorem x_t3_mark_o2 (S : XS) (j : Nat) (y2_4 : Int32) (hI : XInv S) (hj : j < S.2.2.2 7 0) (hk : S.2.2.2 0 j = 1 ∨ S.2.2.2 0 j = 3) (hnb : 1 ≤ nI (S.2.2.2 1 j) ∧ nI (S.2.2.2 1 j) ≤ 24) (hi2 : 0 ≤ y2_4) (c1 : ¬ (nI (S.2.2.2 1 j)) ≤ y2_4) : 0 ≤ y2_4 ∧ y2_4 < nI (S.2.2.2 1 j) := by 
  have bl_y2_4 := Int32.toInt_lt y2_4
  try simp only [i_le, i_lt, i_eq, Int32.reduceToInt] at *
  try simp only [Int32.reduceToInt] at *
  omega
def x_t3_mark_v21 (S : XS) (j : Nat) (y1_4 : Int32) (y2_4 : Int32) : Int32 := (y1_4 + (S.2.2.1 0 j (Int32.toNatClampNeg y2_4)))
def x_t3_mark_L4 (S : XS) (j : Nat) : Nat → Int32 → Int32 → Int32 × Int32
  | 0, y1_4, y2_4 => (y1_4, y2_4)
  | f4 + 1, y1_4, y2_4 => (if (nI (S.2.2.2 1 j)) ≤ y2_4 then (y1_4, y2_4) else (x_t3_mark_L4 S j f4 (x_t3_mark_v21 S j y1_4 y2_4) (y2_4 + 1)))
theorem x_t3_mark_L4_s (S : XS) (j : Nat) (f4 : Nat) (y1_4 : Int32) (y2_4 : Int32) : x_t3_mark_L4 S j (f4 + 1) y1_4 y2_4 = (if (nI (S.2.2.2 1 j)) ≤ y2_4 then (y1_4, y2_4) else (x_t3_mark_L4 S j f4 (x_t3_mark_v21 S j y1_4 y2_4) (y2_4 + 1))) := rfl
def x_t3_mark_R4 (S : XS) (j : Nat) : Int32 × Int32 := x_t3_mark_L4 S j (fz ((nI (S.2.2.2 1 j) - 0 : Int32).toNatClampNeg + 1)) 0 0
theorem x_t3_mark_o3 (S : XS) (j : Nat) (y2_4 : Int32) (hI : XInv S) (hj : j < S.2.2.2 7 0) (hk : S.2.2.2 0 j = 1 ∨ S.2.2.2 0 j = 3) (hnb : 1 ≤ nI (S.2.2.2 1 j) ∧ nI (S.2.2.2 1 j) ≤ 24) (hi2 : 0 ≤ y2_4) (c1 : ¬ (nI (S.2.2.2 1 j)) ≤ y2_4) : 0 ≤ (y2_4 + 1) := by 
  have bl_y2_4 := Int32.toInt_lt y2_4
  try simp only [i_le, i_lt, i_eq, Int32.reduceToInt] at *
  first | (have e_0 := a32 (x := y2_4) (y := 1) (by (try simp only [Int32.reduceToInt]); omega); (try simp only [Int32.reduceToInt] at e_0)) | skip
  try simp only [Int32.reduceToInt] at *
  omega
theorem x_t3_mark_o4 (S : XS) (j : Nat) (y2_4 : Int32) (hI : XInv S) (hj : j < S.2.2.2 7 0) (hk : S.2.2.2 0 j = 1 ∨ S.2.2.2 0 j = 3) (hnb : 1 ≤ nI (S.2.2.2 1 j) ∧ nI (S.2.2.2 1 j) ≤ 24) (hi2 : 0 ≤ y2_4) (c1 : ¬ (nI (S.2.2.2 1 j)) ≤ y2_4) : y2_4 < nI (S.2.2.2 1 j) := by 
  have bl_y2_4 := Int32.toInt_lt y2_4
  try simp only [i_le, i_lt, i_eq, Int32.reduceToInt] at *
  try simp only [Int32.reduceToInt] at *
  omega
def x_t3_mark (S : XS) (j : Nat) : Int32 := (x_t3_mark_R4 S j).1
set_option maxHeartbeats 4000000 in
theorem xt_t3_mark (l : Launch) (D : va_G) (d : Nat → ClassId) (A : Nat → Prop) (ad : XK → Nat) (S : XS) (j : Nat) (hI : XInv S) (hj : j < S.2.2.2 7 0) (hk : S.2.2.2 0 j = 1 ∨ S.2.2.2 0 j = 3) : XI l yX3_mark cX3_mark 3 .int (rm_ 0) D d A ad S [.ref (ad (40, j))] ((x_t3_mark S j), S) := by
  refine x_startI RX3 rfl (by decide) (Nat.le_of_ble_eq_true rfl) ?_
  intro p e s m av below meth c ls Q X hrt hlk hl hR hQ
  have hx := X.1.1.1
  have hb := X.1.1.2.1
  have hown := X.1.1.2.2.2.1
  have hts := X.1.1.2.2.2.2
  have hS : va_S A s.heap s.heap [] := va_S.rf
  have hl : lv_has ls 3 [(0, .ref (ad (40, j)))] := hl
  have hnb : 1 ≤ nI (S.2.2.2 1 j) ∧ nI (S.2.2.2 1 j) ≤ 24 := xi_nb hI hj (k13 hk)
  refine lv_iconst (v := 0) hx hb dX3_mark_0 (by decide) ?_
  refine lv_istore_n (lv' := [(1, .int 0), (0, .ref (ad (40, j)))]) hx hb dX3_mark_1 rfl hl (by decide) rfl (fun ls hl => ?_)
  refine lv_iconst (v := 0) hx hb dX3_mark_2 (by decide) ?_
  refine lv_istore_n (lv' := [(2, .int 0), (1, .int 0), (0, .ref (ad (40, j)))]) hx hb dX3_mark_3 rfl hl (by decide) rfl (fun ls hl => ?_)
  have K4 : ∀ (H : Heap) (locs : List Loc) (ls : Array Slot), XR D d A ad S H → va_S A s.heap H locs → lv_has ls 3 [(2, .int (x_t3_mark_R4 S j).2), (1, .int (x_t3_mark_R4 S j).1), (0, .ref (ad (40, j)))] → W p l e (rm_ 0) s m av below meth c H locs 0 0 Q (F0 m 28 ls []) := by
    intro H locs ls hR hS hl
    refine lv_iload_n hx hb dX3_mark_28 rfl (lv_at hl 1 rfl) ?_
    exact x_ri hx hb hrt (rfl) hlk hR hS hQ (hF1 rfl) dX3_mark_29
  have L4 : ∀ (f4 : Nat) (y1_4 : Int32) (y2_4 : Int32) (H : Heap) (locs : List Loc) (ls : Array Slot), (nI (S.2.2.2 1 j) - y2_4 : Int32).toNatClampNeg < f4 → 0 ≤ y2_4 → x_t3_mark_L4 S j (f4) y1_4 y2_4 = (x_t3_mark_R4 S j) → XR D d A ad S H → va_S A s.heap H locs → lv_has ls 3 [(2, .int y2_4), (1, .int y1_4), (0, .ref (ad (40, j)))] → W p l e (rm_ 0) s m av below meth c H locs 0 0 Q (F0 m 4 ls []) := by
    intro f4
    induction f4 with
    | zero => intro y1_4 y2_4 H locs ls hf; exact absurd hf (Nat.not_lt_zero _)
    | succ f4 ih =>
      intro y1_4 y2_4 H locs ls hf hi2 hE hR hS hl
      refine lv_iload_n hx hb dX3_mark_4 rfl (lv_at hl 0 rfl) ?_
      refine lv_aload_n hx hb dX3_mark_5 rfl (lv_at hl 2 rfl) ?_
      refine xg_no X hR (x_lvt (hj)) (hk) q429 dX3_mark_6 ?_
      refine x_lnn X hR (x_lvn (hj) (k13 hk)) (v := nI (S.2.2.2 1 j)) rfl dX3_mark_9 ?_
      refine lv_icmp_ge (tgt := 28) hx hb dX3_mark_10 (by decide) (fun c1 => ?_) (fun c1 => ?_)
      · have e0 : (x_t3_mark_R4 S j) = (y1_4, y2_4) := Eq.trans (Eq.symm hE) (Eq.trans (x_t3_mark_L4_s _ _ _ _ _) (if_pos c1))
        exact K4 _ _ _ hR hS (by rw [e0]; exact lv_sub hl [0, 1, 2] rfl)
      · refine lv_iload_n hx hb dX3_mark_13 rfl (lv_at hl 1 rfl) ?_
        refine lv_aload_n hx hb dX3_mark_14 rfl (lv_at hl 2 rfl) ?_
        refine xg_no X hR (x_lvt (hj)) (hk) q429 dX3_mark_15 ?_
        refine lv_iload_n hx hb dX3_mark_18 rfl (lv_at hl 0 rfl) ?_
        refine x_ldn X hR (x_lvn (hj) (k13 hk)) (ix_ (xi_nl (X := S) hI (hj) (k13 hk)) (x_t3_mark_o2 S j y2_4 hI hj hk hnb hi2 c1)) (v := S.2.2.1 0 j (Int32.toNatClampNeg y2_4)) rfl dX3_mark_19 ?_
        refine lv_iadd hx hb dX3_mark_20 ?_
        refine lv_istore_n (lv' := [(1, .int (x_t3_mark_v21 S j y1_4 y2_4)), (2, .int y2_4), (0, .ref (ad (40, j)))]) hx hb dX3_mark_21 rfl hl (by decide) rfl (fun ls hl => ?_)
        refine lv_iinc (v := (y2_4 + 1)) (lv' := [(2, .int (y2_4 + 1)), (1, .int (x_t3_mark_v21 S j y1_4 y2_4)), (0, .ref (ad (40, j)))]) hx hb dX3_mark_22 hl (k := 1) rfl rfl (by decide) rfl (fun ls hl => ?_)
        refine lv_goto (tgt := 4) hx hb dX3_mark_25 (by decide) ?_
        exact ih (x_t3_mark_v21 S j y1_4 y2_4) (y2_4 + 1) _ _  _ (Nat.lt_of_lt_of_le (up_ hi2 (x_t3_mark_o4 S j y2_4 hI hj hk hnb hi2 c1)) (Nat.le_of_lt_succ hf)) (x_t3_mark_o3 S j y2_4 hI hj hk hnb hi2 c1) (Eq.trans (Eq.symm (Eq.trans (x_t3_mark_L4_s _ _ _ _ _) (if_neg c1))) hE) hR hS (lv_sub hl [0, 1, 2] rfl)
  exact L4 _ 0 0 _ _  _ (fz_lt _) (by decide) rfl hR hS (lv_sub hl [0, 1, 2] rfl)
def x_t3_notch (S : XS) (j : Nat) (x1 : Int32) : Int32 := (S.2.2.1 0 j (Int32.toNatClampNeg x1))
set_option maxHeartbeats 4000000 in
theorem xt_t3_notch (l : Launch) (D : va_G) (d : Nat → ClassId) (A : Nat → Prop) (ad : XK → Nat) (S : XS) (j : Nat) (x1 : Int32) (hI : XInv S) (hj : j < S.2.2.2 7 0) (hk : S.2.2.2 0 j = 1 ∨ S.2.2.2 0 j = 3) (hi : 0 ≤ x1 ∧ x1 < nI (S.2.2.2 1 j)) : XI l yX3_notch cX3_notch 2 .int (rm_ 0) D d A ad S [.ref (ad (40, j)), .int x1] ((x_t3_notch S j x1), S) := by
  refine x_startI RX3 rfl (by decide) (Nat.le_of_ble_eq_true rfl) ?_
  intro p e s m av below meth c ls Q X hrt hlk hl hR hQ
  have hx := X.1.1.1
  have hb := X.1.1.2.1
  have hown := X.1.1.2.2.2.1
  have hts := X.1.1.2.2.2.2
  have hS : va_S A s.heap s.heap [] := va_S.rf
  have hl : lv_has ls 2 [(0, .ref (ad (40, j))), (1, .int x1)] := hl
  refine lv_aload_n hx hb dX3_notch_0 rfl (lv_at hl 0 rfl) ?_
  refine xg_no X hR (x_lvt (hj)) (hk) q429 dX3_notch_1 ?_
  refine lv_iload_n hx hb dX3_notch_4 rfl (lv_at hl 1 rfl) ?_
  refine x_ldn X hR (x_lvn (hj) (k13 hk)) (ix_ (xi_nl (X := S) hI (hj) (k13 hk)) (hi)) (v := S.2.2.1 0 j (Int32.toNatClampNeg x1)) rfl dX3_notch_5 ?_
  exact x_ri hx hb hrt (rfl) hlk hR hS hQ (hF1 rfl) dX3_notch_6
def x_t3_cut (S : XS) (j : Nat) (x1 : Int32) (x2 : Int32) : XS := (xb S 0 j (Int32.toNatClampNeg x1) x2)
theorem x_t3_cut_N (S : XS) (j : Nat) (x1 : Int32) (x2 : Int32) : (x_t3_cut S j x1 x2).2.2.2 = S.2.2.2 := by
  unfold x_t3_cut
  exact rfl
theorem x_t3_cut_inv (S : XS) (j : Nat) (x1 : Int32) (x2 : Int32) (hI : XInv S) (hj : j < S.2.2.2 7 0) (hk : S.2.2.2 0 j = 1 ∨ S.2.2.2 0 j = 3) (hi : 0 ≤ x1 ∧ x1 < nI (S.2.2.2 1 j)) (hv : 1 ≤ x2 ∧ x2 ≤ 24) : XInv (x_t3_cut S j x1 x2) := by
  unfold x_t3_cut
  exact (XInv_xb0 hI _ _ _ (hv))
set_option maxHeartbeats 4000000 in
theorem xt_t3_cut (l : Launch) (D : va_G) (d : Nat → ClassId) (A : Nat → Prop) (ad : XK → Nat) (S : XS) (j : Nat) (x1 : Int32) (x2 : Int32) (hI : XInv S) (hj : j < S.2.2.2 7 0) (hk : S.2.2.2 0 j = 1 ∨ S.2.2.2 0 j = 3) (hi : 0 ≤ x1 ∧ x1 < nI (S.2.2.2 1 j)) (hv : 1 ≤ x2 ∧ x2 ≤ 24) : XV l yX3_cut cX3_cut 3 (rm_ 0) D d A ad S [.ref (ad (40, j)), .int x1, .int x2] (x_t3_cut S j x1 x2) := by
  refine x_startV RX3 rfl (by decide) (Nat.le_of_ble_eq_true rfl) ?_
  intro p e s m av below meth c ls Q X hrt hlk hl hR hQ
  have hx := X.1.1.1
  have hb := X.1.1.2.1
  have hown := X.1.1.2.2.2.1
  have hts := X.1.1.2.2.2.2
  have hS : va_S A s.heap s.heap [] := va_S.rf
  have hl : lv_has ls 3 [(0, .ref (ad (40, j))), (1, .int x1), (2, .int x2)] := hl
  refine lv_aload_n hx hb dX3_cut_0 rfl (lv_at hl 0 rfl) ?_
  refine xg_no X hR (x_lvt (hj)) (hk) q429 dX3_cut_1 ?_
  refine lv_iload_n hx hb dX3_cut_4 rfl (lv_at hl 1 rfl) ?_
  refine lv_iload_n hx hb dX3_cut_5 rfl (lv_at hl 2 rfl) ?_
  refine x_stn X hR hS (x_lvn (hj) (k13 hk)) (ix_ (xi_nl (X := S) hI (hj) (k13 hk)) (hi)) dX3_cut_6 (fun H locs hR hS => ?_)
  exact x_rv hx hb hrt hlk hR hS hQ rfl dX3_cut_7
theorem x_t3_lets_o1 (S : XS) (j : Nat) (x2 : Int32) (hI : XInv S) (hj : j < S.2.2.2 7 0) (hk : S.2.2.2 0 j = 1 ∨ S.2.2.2 0 j = 3) (hi : 0 ≤ x2 ∧ x2 ≤ 100000000) (hnb : 1 ≤ nI (S.2.2.2 1 j) ∧ nI (S.2.2.2 1 j) ≤ 24) (hat : 0 ≤ S.1 50 j ∧ S.1 50 j < nI (S.2.2.2 1 j)) : 0 ≤ ((S.1 50 j) + x2) := by 
  have bl_x2 := Int32.toInt_lt x2
  try simp only [i_le, i_lt, i_eq, Int32.reduceToInt] at *
  first | (have e_0 := a32 (x := (S.1 50 j)) (y := x2) (by (try simp only [Int32.reduceToInt]); omega); (try simp only [Int32.reduceToInt] at e_0)) | skip
  try simp only [Int32.reduceToInt] at *
  omega
theorem x_t3_lets_o2 (S : XS) (j : Nat) (x2 : Int32) (hI : XInv S) (hj : j < S.2.2.2 7 0) (hk : S.2.2.2 0 j = 1 ∨ S.2.2.2 0 j = 3) (hi : 0 ≤ x2 ∧ x2 ≤ 100000000) (hnb : 1 ≤ nI (S.2.2.2 1 j) ∧ nI (S.2.2.2 1 j) ≤ 24) (hat : 0 ≤ S.1 50 j ∧ S.1 50 j < nI (S.2.2.2 1 j)) (hs1 : 0 ≤ ((S.1 50 j) + x2)) : 0 < (nI (S.2.2.2 1 j)) := by 
  have bl_x2 := Int32.toInt_lt x2
  try simp only [i_le, i_lt, i_eq, Int32.reduceToInt] at *
  first | (have e_0 := a32 (x := (S.1 50 j)) (y := x2) (by (try simp only [Int32.reduceToInt]); omega); (try simp only [Int32.reduceToInt] at e_0)) | skip
  try simp only [Int32.reduceToInt] at *
  omega
theorem x_t3_lets_o3 (S : XS) (j : Nat) (x2 : Int32) (hI : XInv S) (hj : j < S.2.2.2 7 0) (hk : S.2.2.2 0 j = 1 ∨ S.2.2.2 0 j = 3) (hi : 0 ≤ x2 ∧ x2 ≤ 100000000) (hnb : 1 ≤ nI (S.2.2.2 1 j) ∧ nI (S.2.2.2 1 j) ≤ 24) (hat : 0 ≤ S.1 50 j ∧ S.1 50 j < nI (S.2.2.2 1 j)) (hs1 : 0 ≤ ((S.1 50 j) + x2)) (hs0 : 0 < (nI (S.2.2.2 1 j))) (hrem : 0 ≤ (((S.1 50 j) + x2) - ((S.1 50 j) + x2) / (nI (S.2.2.2 1 j)) * (nI (S.2.2.2 1 j))) ∧ (((S.1 50 j) + x2) - ((S.1 50 j) + x2) / (nI (S.2.2.2 1 j)) * (nI (S.2.2.2 1 j))) < (nI (S.2.2.2 1 j))) : ¬ (nI (S.2.2.2 1 j)) = 0 := by 
  have bl_x2 := Int32.toInt_lt x2
  try simp only [i_le, i_lt, i_eq, Int32.reduceToInt] at *
  first | (have e_0 := a32 (x := (S.1 50 j)) (y := x2) (by (try simp only [Int32.reduceToInt]); omega); (try simp only [Int32.reduceToInt] at e_0)) | skip
  first | (have e_1 := d32 (x := ((S.1 50 j) + x2)) (y := (nI (S.2.2.2 1 j))) (by (try simp only [Int32.reduceToInt]); omega); (try simp only [Int32.reduceToInt] at e_1)) | skip
  first | (have e_2 := m32 (x := (((S.1 50 j) + x2) / (nI (S.2.2.2 1 j)))) (y := (nI (S.2.2.2 1 j))) (by (try simp only [Int32.reduceToInt]); omega); (try simp only [Int32.reduceToInt] at e_2)) | skip
  first | (have e_3 := s32 (x := ((S.1 50 j) + x2)) (y := (((S.1 50 j) + x2) / (nI (S.2.2.2 1 j)) * (nI (S.2.2.2 1 j)))) (by (try simp only [Int32.reduceToInt]); omega); (try simp only [Int32.reduceToInt] at e_3)) | skip
  try simp only [Int32.reduceToInt] at *
  omega
def x_t3_lets (S : XS) (j : Nat) (x1 : Int32) (x2 : Int32) : Int32 := (S.2.2.1 0 j (Int32.toNatClampNeg (((S.1 50 j) + x2) - ((S.1 50 j) + x2) / (nI (S.2.2.2 1 j)) * (nI (S.2.2.2 1 j)))))
set_option maxHeartbeats 4000000 in
theorem xt_t3_lets (l : Launch) (D : va_G) (d : Nat → ClassId) (A : Nat → Prop) (ad : XK → Nat) (S : XS) (j : Nat) (x1 : Int32) (x2 : Int32) (hI : XInv S) (hj : j < S.2.2.2 7 0) (hk : S.2.2.2 0 j = 1 ∨ S.2.2.2 0 j = 3) (hi : 0 ≤ x2 ∧ x2 ≤ 100000000) : XI l yX3_lets cX3_lets 3 .int (rm_ 0) D d A ad S [.ref (ad (40, j)), .int x1, .int x2] ((x_t3_lets S j x1 x2), S) := by
  refine x_startI RX3 rfl (by decide) (Nat.le_of_ble_eq_true rfl) ?_
  intro p e s m av below meth c ls Q X hrt hlk hl hR hQ
  have hx := X.1.1.1
  have hb := X.1.1.2.1
  have hown := X.1.1.2.2.2.1
  have hts := X.1.1.2.2.2.2
  have hS : va_S A s.heap s.heap [] := va_S.rf
  have hl : lv_has ls 3 [(0, .ref (ad (40, j))), (1, .int x1), (2, .int x2)] := hl
  have hnb : 1 ≤ nI (S.2.2.2 1 j) ∧ nI (S.2.2.2 1 j) ≤ 24 := xi_nb hI hj (k13 hk)
  have hat : 0 ≤ S.1 50 j ∧ S.1 50 j < nI (S.2.2.2 1 j) := xi_at hI hj hk
  refine lv_aload_n hx hb dX3_lets_0 rfl (lv_at hl 0 rfl) ?_
  refine xg_no X hR (x_lvt (hj)) (hk) q429 dX3_lets_1 ?_
  refine lv_aload_n hx hb dX3_lets_4 rfl (lv_at hl 0 rfl) ?_
  refine xg_at X hR (x_lvt (hj)) (hk) q430 rfl dX3_lets_5 ?_
  refine lv_iload_n hx hb dX3_lets_8 rfl (lv_at hl 2 rfl) ?_
  refine lv_iadd hx hb dX3_lets_9 ?_
  refine lv_aload_n hx hb dX3_lets_10 rfl (lv_at hl 0 rfl) ?_
  refine xg_no X hR (x_lvt (hj)) (hk) q429 dX3_lets_11 ?_
  refine x_lnn X hR (x_lvn (hj) (k13 hk)) (v := nI (S.2.2.2 1 j)) rfl dX3_lets_14 ?_
  have hs1 : 0 ≤ ((S.1 50 j) + x2) := x_t3_lets_o1 S j x2 hI hj hk hi hnb hat
  have hs0 : 0 < (nI (S.2.2.2 1 j)) := x_t3_lets_o2 S j x2 hI hj hk hi hnb hat hs1
  have hrem : 0 ≤ (((S.1 50 j) + x2) - ((S.1 50 j) + x2) / (nI (S.2.2.2 1 j)) * (nI (S.2.2.2 1 j))) ∧ (((S.1 50 j) + x2) - ((S.1 50 j) + x2) / (nI (S.2.2.2 1 j)) * (nI (S.2.2.2 1 j))) < (nI (S.2.2.2 1 j)) := (dv_ hs1 hs0).2.2
  refine lv_irem hx hb dX3_lets_15 (x_t3_lets_o3 S j x2 hI hj hk hi hnb hat hs1 hs0 hrem) ?_
  refine x_ldn X hR (x_lvn (hj) (k13 hk)) (ix_ (xi_nl (X := S) hI (hj) (k13 hk)) (hrem)) (v := S.2.2.1 0 j (Int32.toNatClampNeg (((S.1 50 j) + x2) - ((S.1 50 j) + x2) / (nI (S.2.2.2 1 j)) * (nI (S.2.2.2 1 j))))) rfl dX3_lets_16 ?_
  exact x_ri hx hb hrt (rfl) hlk hR hS hQ (hF1 rfl) dX3_lets_17
theorem x_t3_letOff_o1 (S : XS) (j : Nat) (hI : XInv S) (hj : j < S.2.2.2 7 0) (hk : S.2.2.2 0 j = 1 ∨ S.2.2.2 0 j = 3) (hnb : 1 ≤ nI (S.2.2.2 1 j) ∧ nI (S.2.2.2 1 j) ≤ 24) (hat : 0 ≤ S.1 50 j ∧ S.1 50 j < nI (S.2.2.2 1 j)) : 0 ≤ ((S.1 50 j) + 1) := by 
  try simp only [i_le, i_lt, i_eq, Int32.reduceToInt] at *
  first | (have e_0 := a32 (x := (S.1 50 j)) (y := 1) (by (try simp only [Int32.reduceToInt]); omega); (try simp only [Int32.reduceToInt] at e_0)) | skip
  try simp only [Int32.reduceToInt] at *
  omega
theorem x_t3_letOff_o2 (S : XS) (j : Nat) (hI : XInv S) (hj : j < S.2.2.2 7 0) (hk : S.2.2.2 0 j = 1 ∨ S.2.2.2 0 j = 3) (hnb : 1 ≤ nI (S.2.2.2 1 j) ∧ nI (S.2.2.2 1 j) ≤ 24) (hat : 0 ≤ S.1 50 j ∧ S.1 50 j < nI (S.2.2.2 1 j)) (hs1 : 0 ≤ ((S.1 50 j) + 1)) : 0 < (nI (S.2.2.2 1 j)) := by 
  try simp only [i_le, i_lt, i_eq, Int32.reduceToInt] at *
  first | (have e_0 := a32 (x := (S.1 50 j)) (y := 1) (by (try simp only [Int32.reduceToInt]); omega); (try simp only [Int32.reduceToInt] at e_0)) | skip
  try simp only [Int32.reduceToInt] at *
  omega
theorem x_t3_letOff_o3 (S : XS) (j : Nat) (hI : XInv S) (hj : j < S.2.2.2 7 0) (hk : S.2.2.2 0 j = 1 ∨ S.2.2.2 0 j = 3) (hnb : 1 ≤ nI (S.2.2.2 1 j) ∧ nI (S.2.2.2 1 j) ≤ 24) (hat : 0 ≤ S.1 50 j ∧ S.1 50 j < nI (S.2.2.2 1 j)) (hs1 : 0 ≤ ((S.1 50 j) + 1)) (hs0 : 0 < (nI (S.2.2.2 1 j))) (hrem : 0 ≤ (((S.1 50 j) + 1) - ((S.1 50 j) + 1) / (nI (S.2.2.2 1 j)) * (nI (S.2.2.2 1 j))) ∧ (((S.1 50 j) + 1) - ((S.1 50 j) + 1) / (nI (S.2.2.2 1 j)) * (nI (S.2.2.2 1 j))) < (nI (S.2.2.2 1 j))) : ¬ (nI (S.2.2.2 1 j)) = 0 := by 
  try simp only [i_le, i_lt, i_eq, Int32.reduceToInt] at *
  first | (have e_0 := a32 (x := (S.1 50 j)) (y := 1) (by (try simp only [Int32.reduceToInt]); omega); (try simp only [Int32.reduceToInt] at e_0)) | skip
  first | (have e_1 := d32 (x := ((S.1 50 j) + 1)) (y := (nI (S.2.2.2 1 j))) (by (try simp only [Int32.reduceToInt]); omega); (try simp only [Int32.reduceToInt] at e_1)) | skip
  first | (have e_2 := m32 (x := (((S.1 50 j) + 1) / (nI (S.2.2.2 1 j)))) (y := (nI (S.2.2.2 1 j))) (by (try simp only [Int32.reduceToInt]); omega); (try simp only [Int32.reduceToInt] at e_2)) | skip
  first | (have e_3 := s32 (x := ((S.1 50 j) + 1)) (y := (((S.1 50 j) + 1) / (nI (S.2.2.2 1 j)) * (nI (S.2.2.2 1 j)))) (by (try simp only [Int32.reduceToInt]); omega); (try simp only [Int32.reduceToInt] at e_3)) | skip
  try simp only [Int32.reduceToInt] at *
  omega
def x_t3_letOff (S : XS) (j : Nat) (x1 : Int32) (x2 : Int32) : XS := (if (((S.1 50 j) + 1) - ((S.1 50 j) + 1) / (nI (S.2.2.2 1 j)) * (nI (S.2.2.2 1 j))) = 0 then (xu (xu (xu S 45 j ((S.1 45 j) + (S.2.2.1 0 j (Int32.toNatClampNeg (S.1 50 j))))) 50 j (((S.1 50 j) + 1) - ((S.1 50 j) + 1) / (nI (S.2.2.2 1 j)) * (nI (S.2.2.2 1 j)))) 49 j 1) else (xu (xu (xu S 45 j ((S.1 45 j) + (S.2.2.1 0 j (Int32.toNatClampNeg (S.1 50 j))))) 50 j (((S.1 50 j) + 1) - ((S.1 50 j) + 1) / (nI (S.2.2.2 1 j)) * (nI (S.2.2.2 1 j)))) 49 j 0))
theorem x_t3_letOff_N (S : XS) (j : Nat) (x1 : Int32) (x2 : Int32) : (x_t3_letOff S j x1 x2).2.2.2 = S.2.2.2 := by
  unfold x_t3_letOff
  refine ifI (P := fun (z : XS) => z.2.2.2 = S.2.2.2) (fun c4 => ?_) (fun c4 => ?_)
  · exact rfl
  · exact rfl
theorem x_t3_letOff_inv (S : XS) (j : Nat) (x1 : Int32) (x2 : Int32) (hI : XInv S) (hj : j < S.2.2.2 7 0) (hk : S.2.2.2 0 j = 1 ∨ S.2.2.2 0 j = 3) : XInv (x_t3_letOff S j x1 x2) := by
  have hnb : 1 ≤ nI (S.2.2.2 1 j) ∧ nI (S.2.2.2 1 j) ≤ 24 := xi_nb hI hj (k13 hk)
  have hat : 0 ≤ S.1 50 j ∧ S.1 50 j < nI (S.2.2.2 1 j) := xi_at hI hj hk
  unfold x_t3_letOff
  refine ifI (P := fun (z : XS) => XInv z) (fun c4 => ?_) (fun c4 => ?_)
  · have hs1 : 0 ≤ ((S.1 50 j) + 1) := x_t3_letOff_o1 S j hI hj hk hnb hat
    have hs0 : 0 < (nI (S.2.2.2 1 j)) := x_t3_letOff_o2 S j hI hj hk hnb hat hs1
    have hrem : 0 ≤ (((S.1 50 j) + 1) - ((S.1 50 j) + 1) / (nI (S.2.2.2 1 j)) * (nI (S.2.2.2 1 j))) ∧ (((S.1 50 j) + 1) - ((S.1 50 j) + 1) / (nI (S.2.2.2 1 j)) * (nI (S.2.2.2 1 j))) < (nI (S.2.2.2 1 j)) := (dv_ hs1 hs0).2.2
    exact (XInv_xu (XInv_50 (XInv_xu hI _ _ _ (by decide)) _ _ (fun _ _ => hrem)) _ _ _ (by decide))
  · have hs1 : 0 ≤ ((S.1 50 j) + 1) := x_t3_letOff_o1 S j hI hj hk hnb hat
    have hs0 : 0 < (nI (S.2.2.2 1 j)) := x_t3_letOff_o2 S j hI hj hk hnb hat hs1
    have hrem : 0 ≤ (((S.1 50 j) + 1) - ((S.1 50 j) + 1) / (nI (S.2.2.2 1 j)) * (nI (S.2.2.2 1 j))) ∧ (((S.1 50 j) + 1) - ((S.1 50 j) + 1) / (nI (S.2.2.2 1 j)) * (nI (S.2.2.2 1 j))) < (nI (S.2.2.2 1 j)) := (dv_ hs1 hs0).2.2
    exact (XInv_xu (XInv_50 (XInv_xu hI _ _ _ (by decide)) _ _ (fun _ _ => hrem)) _ _ _ (by decide))
set_option maxHeartbeats 4000000 in
theorem xt_t3_letOff (l : Launch) (D : va_G) (d : Nat → ClassId) (A : Nat → Prop) (ad : XK → Nat) (S : XS) (j : Nat) (x1 : Int32) (x2 : Int32) (hI : XInv S) (hj : j < S.2.2.2 7 0) (hk : S.2.2.2 0 j = 1 ∨ S.2.2.2 0 j = 3) : XV l yX3_letOff cX3_letOff 3 (rm_ 0) D d A ad S [.ref (ad (40, j)), .int x1, .int x2] (x_t3_letOff S j x1 x2) := by
  refine x_startV RX3 rfl (by decide) (Nat.le_of_ble_eq_true rfl) ?_
  intro p e s m av below meth c ls Q X hrt hlk hl hR hQ
  have hx := X.1.1.1
  have hb := X.1.1.2.1
  have hown := X.1.1.2.2.2.1
  have hts := X.1.1.2.2.2.2
  have hS : va_S A s.heap s.heap [] := va_S.rf
  have hl : lv_has ls 3 [(0, .ref (ad (40, j))), (1, .int x1), (2, .int x2)] := hl
  have hnb : 1 ≤ nI (S.2.2.2 1 j) ∧ nI (S.2.2.2 1 j) ≤ 24 := xi_nb hI hj (k13 hk)
  have hat : 0 ≤ S.1 50 j ∧ S.1 50 j < nI (S.2.2.2 1 j) := xi_at hI hj hk
  refine lv_aload_n hx hb dX3_letOff_0 rfl (lv_at hl 0 rfl) ?_
  refine lv_dup hx hb dX3_letOff_1 rfl ?_
  refine xgt X hR (x_lvt (hj)) (xi_kd (X := S) hI (hj)) 5 (by decide) q371 (Or.inr q372) rfl dX3_letOff_2 ?_
  refine lv_aload_n hx hb dX3_letOff_5 rfl (lv_at hl 0 rfl) ?_
  refine xg_no X hR (x_lvt (hj)) (hk) q429 dX3_letOff_6 ?_
  refine lv_aload_n hx hb dX3_letOff_9 rfl (lv_at hl 0 rfl) ?_
  refine xg_at X hR (x_lvt (hj)) (hk) q430 rfl dX3_letOff_10 ?_
  refine x_ldn X hR (x_lvn (hj) (k13 hk)) (ix_ (xi_nl (X := S) hI (hj) (k13 hk)) (hat)) (v := S.2.2.1 0 j (Int32.toNatClampNeg (S.1 50 j))) rfl dX3_letOff_13 ?_
  refine lv_iadd hx hb dX3_letOff_14 ?_
  refine xpt X hR hS (x_lvt (hj)) (xi_kd (X := S) hI (hj)) 5 (by decide) rfl q371 (Or.inr q372) rfl dX3_letOff_15 (fun H locs hR hS => ?_)
  refine lv_aload_n hx hb dX3_letOff_18 rfl (lv_at hl 0 rfl) ?_
  refine lv_aload_n hx hb dX3_letOff_19 rfl (lv_at hl 0 rfl) ?_
  refine xg_at X hR (x_lvt (hj)) (hk) q430 ((xu_k _ (by decide) _ _ _).trans rfl) dX3_letOff_20 ?_
  refine lv_iconst (v := 1) hx hb dX3_letOff_23 (by decide) ?_
  refine lv_iadd hx hb dX3_letOff_24 ?_
  refine lv_aload_n hx hb dX3_letOff_25 rfl (lv_at hl 0 rfl) ?_
  refine xg_no X hR (x_lvt (hj)) (hk) q429 dX3_letOff_26 ?_
  refine x_lnn X hR (x_lvn (hj) (k13 hk)) (v := nI (S.2.2.2 1 j)) rfl dX3_letOff_29 ?_
  have hs1 : 0 ≤ ((S.1 50 j) + 1) := x_t3_letOff_o1 S j hI hj hk hnb hat
  have hs0 : 0 < (nI (S.2.2.2 1 j)) := x_t3_letOff_o2 S j hI hj hk hnb hat hs1
  have hrem : 0 ≤ (((S.1 50 j) + 1) - ((S.1 50 j) + 1) / (nI (S.2.2.2 1 j)) * (nI (S.2.2.2 1 j))) ∧ (((S.1 50 j) + 1) - ((S.1 50 j) + 1) / (nI (S.2.2.2 1 j)) * (nI (S.2.2.2 1 j))) < (nI (S.2.2.2 1 j)) := (dv_ hs1 hs0).2.2
  refine lv_irem hx hb dX3_letOff_30 (x_t3_letOff_o3 S j hI hj hk hnb hat hs1 hs0 hrem) ?_
  refine xp_at X hR hS (x_lvt (hj)) (hk) q430 dX3_letOff_31 (fun H locs hR hS => ?_)
  refine lv_aload_n hx hb dX3_letOff_34 rfl (lv_at hl 0 rfl) ?_
  refine lv_aload_n hx hb dX3_letOff_35 rfl (lv_at hl 0 rfl) ?_
  refine xg_at X hR (x_lvt (hj)) (hk) q430 (xu_self _ _ _ _) dX3_letOff_36 ?_
  refine lv_if_ne (tgt := 46) hx hb dX3_letOff_39 (by decide) (fun c4 => ?_) (fun c4 => ?_)
  · refine lv_iconst (v := 0) hx hb dX3_letOff_46 (by decide) ?_
    refine xptz X hR hS (x_lvt (hj)) (xi_kd (X := S) hI (hj)) 9 (by decide) rfl q384 (Or.inr q385) rfl (Or.inl rfl) dX3_letOff_47 (fun H locs hR hS => ?_)
    exact x_rv hx hb hrt hlk hR hS hQ (if_neg c4) dX3_letOff_50
  · refine lv_iconst (v := 1) hx hb dX3_letOff_42 (by decide) ?_
    refine lv_goto (tgt := 47) hx hb dX3_letOff_43 (by decide) ?_
    refine xptz X hR hS (x_lvt (hj)) (xi_kd (X := S) hI (hj)) 9 (by decide) rfl q384 (Or.inr q385) rfl (Or.inr rfl) dX3_letOff_47 (fun H locs hR hS => ?_)
    exact x_rv hx hb hrt hlk hR hS hQ (if_pos c4) dX3_letOff_50
def x_t4_kind (S : XS) (j : Nat) : Int32 := 2
set_option maxHeartbeats 4000000 in
theorem xt_t4_kind (l : Launch) (D : va_G) (d : Nat → ClassId) (A : Nat → Prop) (ad : XK → Nat) (S : XS) (j : Nat) : XI l yX4_kind cX4_kind 1 .int (rm_ 0) D d A ad S [.ref (ad (40, j))] ((x_t4_kind S j), S) := by
  refine x_startI RX4 rfl (by decide) (Nat.le_of_ble_eq_true rfl) ?_
  intro p e s m av below meth c ls Q X hrt hlk hl hR hQ
  have hx := X.1.1.1
  have hb := X.1.1.2.1
  have hown := X.1.1.2.2.2.1
  have hts := X.1.1.2.2.2.2
  have hS : va_S A s.heap s.heap [] := va_S.rf
  have hl : lv_has ls 1 [(0, .ref (ad (40, j)))] := hl
  refine lv_iconst (v := 2) hx hb dX4_kind_0 (by decide) ?_
  exact x_ri hx hb hrt (rfl) hlk hR hS hQ (hF1 rfl) dX4_kind_1
def x_t4_many (S : XS) (j : Nat) : Int32 := (nI (S.2.2.2 1 j))
set_option maxHeartbeats 4000000 in
theorem xt_t4_many (l : Launch) (D : va_G) (d : Nat → ClassId) (A : Nat → Prop) (ad : XK → Nat) (S : XS) (j : Nat) (hI : XInv S) (hj : j < S.2.2.2 7 0) (hk : S.2.2.2 0 j = 2) : XI l yX4_many cX4_many 1 .int (rm_ 0) D d A ad S [.ref (ad (40, j))] ((x_t4_many S j), S) := by
  refine x_startI RX4 rfl (by decide) (Nat.le_of_ble_eq_true rfl) ?_
  intro p e s m av below meth c ls Q X hrt hlk hl hR hQ
  have hx := X.1.1.1
  have hb := X.1.1.2.1
  have hown := X.1.1.2.2.2.1
  have hts := X.1.1.2.2.2.2
  have hS : va_S A s.heap s.heap [] := va_S.rf
  have hl : lv_has ls 1 [(0, .ref (ad (40, j)))] := hl
  refine lv_aload_n hx hb dX4_many_0 rfl (lv_at hl 0 rfl) ?_
  refine xg_st X hR (x_lvt (hj)) (hk) q461 dX4_many_1 ?_
  refine x_lnn X hR (x_lvn (hj) (by rw [hk]; decide)) (v := nI (S.2.2.2 1 j)) rfl dX4_many_4 ?_
  exact x_ri hx hb hrt (rfl) hlk hR hS hQ (hF1 rfl) dX4_many_5
theorem x_t4_mark_o2 (S : XS) (j : Nat) (y2_4 : Int32) (hI : XInv S) (hj : j < S.2.2.2 7 0) (hk : S.2.2.2 0 j = 2) (hnb : 1 ≤ nI (S.2.2.2 1 j) ∧ nI (S.2.2.2 1 j) ≤ 24) (hi2 : 0 ≤ y2_4) (c1 : ¬ (nI (S.2.2.2 1 j)) ≤ y2_4) : 0 ≤ y2_4 ∧ y2_4 < nI (S.2.2.2 1 j) := by 
  have bl_y2_4 := Int32.toInt_lt y2_4
  try simp only [i_le, i_lt, i_eq, Int32.reduceToInt] at *
  try simp only [Int32.reduceToInt] at *
  omega
def x_t4_mark_v23 (S : XS) (j : Nat) (y1_4 : Int32) (y2_4 : Int32) : Int32 := (x_max y1_4 (S.2.2.1 0 j (Int32.toNatClampNeg y2_4)))
def x_t4_mark_L4 (S : XS) (j : Nat) : Nat → Int32 → Int32 → Int32 × Int32
  | 0, y1_4, y2_4 => (y1_4, y2_4)
  | f4 + 1, y1_4, y2_4 => (if (nI (S.2.2.2 1 j)) ≤ y2_4 then (y1_4, y2_4) else (x_t4_mark_L4 S j f4 (x_t4_mark_v23 S j y1_4 y2_4) (y2_4 + 1)))
theorem x_t4_mark_L4_s (S : XS) (j : Nat) (f4 : Nat) (y1_4 : Int32) (y2_4 : Int32) : x_t4_mark_L4 S j (f4 + 1) y1_4 y2_4 = (if (nI (S.2.2.2 1 j)) ≤ y2_4 then (y1_4, y2_4) else (x_t4_mark_L4 S j f4 (x_t4_mark_v23 S j y1_4 y2_4) (y2_4 + 1))) := rfl
def x_t4_mark_R4 (S : XS) (j : Nat) : Int32 × Int32 := x_t4_mark_L4 S j (fz ((nI (S.2.2.2 1 j) - 0 : Int32).toNatClampNeg + 1)) 0 0
theorem x_t4_mark_o3 (S : XS) (j : Nat) (y2_4 : Int32) (hI : XInv S) (hj : j < S.2.2.2 7 0) (hk : S.2.2.2 0 j = 2) (hnb : 1 ≤ nI (S.2.2.2 1 j) ∧ nI (S.2.2.2 1 j) ≤ 24) (hi2 : 0 ≤ y2_4) (c1 : ¬ (nI (S.2.2.2 1 j)) ≤ y2_4) : 0 ≤ (y2_4 + 1) := by 
  have bl_y2_4 := Int32.toInt_lt y2_4
  try simp only [i_le, i_lt, i_eq, Int32.reduceToInt] at *
  first | (have e_0 := a32 (x := y2_4) (y := 1) (by (try simp only [Int32.reduceToInt]); omega); (try simp only [Int32.reduceToInt] at e_0)) | skip
  try simp only [Int32.reduceToInt] at *
  omega
theorem x_t4_mark_o4 (S : XS) (j : Nat) (y2_4 : Int32) (hI : XInv S) (hj : j < S.2.2.2 7 0) (hk : S.2.2.2 0 j = 2) (hnb : 1 ≤ nI (S.2.2.2 1 j) ∧ nI (S.2.2.2 1 j) ≤ 24) (hi2 : 0 ≤ y2_4) (c1 : ¬ (nI (S.2.2.2 1 j)) ≤ y2_4) : y2_4 < nI (S.2.2.2 1 j) := by 
  have bl_y2_4 := Int32.toInt_lt y2_4
  try simp only [i_le, i_lt, i_eq, Int32.reduceToInt] at *
  try simp only [Int32.reduceToInt] at *
  omega
def x_t4_mark (S : XS) (j : Nat) : Int32 := (x_t4_mark_R4 S j).1
set_option maxHeartbeats 4000000 in
theorem xt_t4_mark (l : Launch) (D : va_G) (d : Nat → ClassId) (A : Nat → Prop) (ad : XK → Nat) (S : XS) (j : Nat) (hI : XInv S) (hj : j < S.2.2.2 7 0) (hk : S.2.2.2 0 j = 2) : XI l yX4_mark cX4_mark 3 .int (rm_ 1) D d A ad S [.ref (ad (40, j))] ((x_t4_mark S j), S) := by
  refine x_startI RX4 rfl (by decide) (Nat.le_of_ble_eq_true rfl) ?_
  intro p e s m av below meth c ls Q X hrt hlk hl hR hQ
  have hx := X.1.1.1
  have hb := X.1.1.2.1
  have hown := X.1.1.2.2.2.1
  have hts := X.1.1.2.2.2.2
  have hS : va_S A s.heap s.heap [] := va_S.rf
  have hl : lv_has ls 3 [(0, .ref (ad (40, j)))] := hl
  have hnb : 1 ≤ nI (S.2.2.2 1 j) ∧ nI (S.2.2.2 1 j) ≤ 24 := xi_nb hI hj (by rw [hk]; decide)
  refine lv_iconst (v := 0) hx hb dX4_mark_0 (by decide) ?_
  refine lv_istore_n (lv' := [(1, .int 0), (0, .ref (ad (40, j)))]) hx hb dX4_mark_1 rfl hl (by decide) rfl (fun ls hl => ?_)
  refine lv_iconst (v := 0) hx hb dX4_mark_2 (by decide) ?_
  refine lv_istore_n (lv' := [(2, .int 0), (1, .int 0), (0, .ref (ad (40, j)))]) hx hb dX4_mark_3 rfl hl (by decide) rfl (fun ls hl => ?_)
  have K4 : ∀ (H : Heap) (locs : List Loc) (ls : Array Slot), XR D d A ad S H → va_S A s.heap H locs → lv_has ls 3 [(2, .int (x_t4_mark_R4 S j).2), (1, .int (x_t4_mark_R4 S j).1), (0, .ref (ad (40, j)))] → W p l e (rm_ 1) s m av below meth c H locs 0 0 Q (F0 m 30 ls []) := by
    intro H locs ls hR hS hl
    refine lv_iload_n hx hb dX4_mark_30 rfl (lv_at hl 1 rfl) ?_
    exact x_ri hx hb hrt (rfl) hlk hR hS hQ (hF1 rfl) dX4_mark_31
  have L4 : ∀ (f4 : Nat) (y1_4 : Int32) (y2_4 : Int32) (H : Heap) (locs : List Loc) (ls : Array Slot), (nI (S.2.2.2 1 j) - y2_4 : Int32).toNatClampNeg < f4 → 0 ≤ y2_4 → x_t4_mark_L4 S j (f4) y1_4 y2_4 = (x_t4_mark_R4 S j) → XR D d A ad S H → va_S A s.heap H locs → lv_has ls 3 [(2, .int y2_4), (1, .int y1_4), (0, .ref (ad (40, j)))] → W p l e (rm_ 1) s m av below meth c H locs 0 0 Q (F0 m 4 ls []) := by
    intro f4
    induction f4 with
    | zero => intro y1_4 y2_4 H locs ls hf; exact absurd hf (Nat.not_lt_zero _)
    | succ f4 ih =>
      intro y1_4 y2_4 H locs ls hf hi2 hE hR hS hl
      refine lv_iload_n hx hb dX4_mark_4 rfl (lv_at hl 0 rfl) ?_
      refine lv_aload_n hx hb dX4_mark_5 rfl (lv_at hl 2 rfl) ?_
      refine xg_st X hR (x_lvt (hj)) (hk) q461 dX4_mark_6 ?_
      refine x_lnn X hR (x_lvn (hj) (by rw [hk]; decide)) (v := nI (S.2.2.2 1 j)) rfl dX4_mark_9 ?_
      refine lv_icmp_ge (tgt := 30) hx hb dX4_mark_10 (by decide) (fun c1 => ?_) (fun c1 => ?_)
      · have e0 : (x_t4_mark_R4 S j) = (y1_4, y2_4) := Eq.trans (Eq.symm hE) (Eq.trans (x_t4_mark_L4_s _ _ _ _ _) (if_pos c1))
        exact K4 _ _ _ hR hS (by rw [e0]; exact lv_sub hl [0, 1, 2] rfl)
      · refine lv_iload_n hx hb dX4_mark_13 rfl (lv_at hl 1 rfl) ?_
        refine lv_aload_n hx hb dX4_mark_14 rfl (lv_at hl 2 rfl) ?_
        refine xg_st X hR (x_lvt (hj)) (hk) q461 dX4_mark_15 ?_
        refine lv_iload_n hx hb dX4_mark_18 rfl (lv_at hl 0 rfl) ?_
        refine x_ldn X hR (x_lvn (hj) (by rw [hk]; decide)) (ix_ (xi_nl (X := S) hI (hj) (by rw [hk]; decide)) (x_t4_mark_o2 S j y2_4 hI hj hk hnb hi2 c1)) (v := S.2.2.1 0 j (Int32.toNatClampNeg y2_4)) rfl dX4_mark_19 ?_
        refine s_ci X.1.1 (st_x_max l y1_4 (S.2.2.1 0 j (Int32.toNatClampNeg y2_4))) 2 (lw_S q608 q609 q74 q610) ⟨rfl, rfl⟩ (by decide +kernel) ⟨by decide, by decide⟩ ⟨by decide, by decide⟩ rfl hl.1 rfl (Nat.le_of_ble_eq_true rfl) dX4_mark_20 ?_
        refine lv_istore_n (lv' := [(1, .int (x_t4_mark_v23 S j y1_4 y2_4)), (2, .int y2_4), (0, .ref (ad (40, j)))]) hx hb dX4_mark_23 rfl hl (by decide) rfl (fun ls hl => ?_)
        refine lv_iinc (v := (y2_4 + 1)) (lv' := [(2, .int (y2_4 + 1)), (1, .int (x_t4_mark_v23 S j y1_4 y2_4)), (0, .ref (ad (40, j)))]) hx hb dX4_mark_24 hl (k := 1) rfl rfl (by decide) rfl (fun ls hl => ?_)
        refine lv_goto (tgt := 4) hx hb dX4_mark_27 (by decide) ?_
        exact ih (x_t4_mark_v23 S j y1_4 y2_4) (y2_4 + 1) _ _  _ (Nat.lt_of_lt_of_le (up_ hi2 (x_t4_mark_o4 S j y2_4 hI hj hk hnb hi2 c1)) (Nat.le_of_lt_succ hf)) (x_t4_mark_o3 S j y2_4 hI hj hk hnb hi2 c1) (Eq.trans (Eq.symm (Eq.trans (x_t4_mark_L4_s _ _ _ _ _) (if_neg c1))) hE) hR hS (lv_sub hl [0, 1, 2] rfl)
  exact L4 _ 0 0 _ _  _ (fz_lt _) (by decide) rfl hR hS (lv_sub hl [0, 1, 2] rfl)
def x_t4_notch (S : XS) (j : Nat) (x1 : Int32) : Int32 := (S.2.2.1 0 j (Int32.toNatClampNeg x1))
set_option maxHeartbeats 4000000 in
theorem xt_t4_notch (l : Launch) (D : va_G) (d : Nat → ClassId) (A : Nat → Prop) (ad : XK → Nat) (S : XS) (j : Nat) (x1 : Int32) (hI : XInv S) (hj : j < S.2.2.2 7 0) (hk : S.2.2.2 0 j = 2) (hi : 0 ≤ x1 ∧ x1 < nI (S.2.2.2 1 j)) : XI l yX4_notch cX4_notch 2 .int (rm_ 0) D d A ad S [.ref (ad (40, j)), .int x1] ((x_t4_notch S j x1), S) := by
  refine x_startI RX4 rfl (by decide) (Nat.le_of_ble_eq_true rfl) ?_
  intro p e s m av below meth c ls Q X hrt hlk hl hR hQ
  have hx := X.1.1.1
  have hb := X.1.1.2.1
  have hown := X.1.1.2.2.2.1
  have hts := X.1.1.2.2.2.2
  have hS : va_S A s.heap s.heap [] := va_S.rf
  have hl : lv_has ls 2 [(0, .ref (ad (40, j))), (1, .int x1)] := hl
  refine lv_aload_n hx hb dX4_notch_0 rfl (lv_at hl 0 rfl) ?_
  refine xg_st X hR (x_lvt (hj)) (hk) q461 dX4_notch_1 ?_
  refine lv_iload_n hx hb dX4_notch_4 rfl (lv_at hl 1 rfl) ?_
  refine x_ldn X hR (x_lvn (hj) (by rw [hk]; decide)) (ix_ (xi_nl (X := S) hI (hj) (by rw [hk]; decide)) (hi)) (v := S.2.2.1 0 j (Int32.toNatClampNeg x1)) rfl dX4_notch_5 ?_
  exact x_ri hx hb hrt (rfl) hlk hR hS hQ (hF1 rfl) dX4_notch_6
def x_t4_cut (S : XS) (j : Nat) (x1 : Int32) (x2 : Int32) : XS := (xb S 0 j (Int32.toNatClampNeg x1) x2)
theorem x_t4_cut_N (S : XS) (j : Nat) (x1 : Int32) (x2 : Int32) : (x_t4_cut S j x1 x2).2.2.2 = S.2.2.2 := by
  unfold x_t4_cut
  exact rfl
theorem x_t4_cut_inv (S : XS) (j : Nat) (x1 : Int32) (x2 : Int32) (hI : XInv S) (hj : j < S.2.2.2 7 0) (hk : S.2.2.2 0 j = 2) (hi : 0 ≤ x1 ∧ x1 < nI (S.2.2.2 1 j)) (hv : 1 ≤ x2 ∧ x2 ≤ 24) : XInv (x_t4_cut S j x1 x2) := by
  unfold x_t4_cut
  exact (XInv_xb0 hI _ _ _ (hv))
set_option maxHeartbeats 4000000 in
theorem xt_t4_cut (l : Launch) (D : va_G) (d : Nat → ClassId) (A : Nat → Prop) (ad : XK → Nat) (S : XS) (j : Nat) (x1 : Int32) (x2 : Int32) (hI : XInv S) (hj : j < S.2.2.2 7 0) (hk : S.2.2.2 0 j = 2) (hi : 0 ≤ x1 ∧ x1 < nI (S.2.2.2 1 j)) (hv : 1 ≤ x2 ∧ x2 ≤ 24) : XV l yX4_cut cX4_cut 3 (rm_ 0) D d A ad S [.ref (ad (40, j)), .int x1, .int x2] (x_t4_cut S j x1 x2) := by
  refine x_startV RX4 rfl (by decide) (Nat.le_of_ble_eq_true rfl) ?_
  intro p e s m av below meth c ls Q X hrt hlk hl hR hQ
  have hx := X.1.1.1
  have hb := X.1.1.2.1
  have hown := X.1.1.2.2.2.1
  have hts := X.1.1.2.2.2.2
  have hS : va_S A s.heap s.heap [] := va_S.rf
  have hl : lv_has ls 3 [(0, .ref (ad (40, j))), (1, .int x1), (2, .int x2)] := hl
  refine lv_aload_n hx hb dX4_cut_0 rfl (lv_at hl 0 rfl) ?_
  refine xg_st X hR (x_lvt (hj)) (hk) q461 dX4_cut_1 ?_
  refine lv_iload_n hx hb dX4_cut_4 rfl (lv_at hl 1 rfl) ?_
  refine lv_iload_n hx hb dX4_cut_5 rfl (lv_at hl 2 rfl) ?_
  refine x_stn X hR hS (x_lvn (hj) (by rw [hk]; decide)) (ix_ (xi_nl (X := S) hI (hj) (by rw [hk]; decide)) (hi)) dX4_cut_6 (fun H locs hR hS => ?_)
  exact x_rv hx hb hrt hlk hR hS hQ rfl dX4_cut_7
theorem x_t4_lets_o1 (S : XS) (j : Nat) (x1 : Int32) (hI : XInv S) (hj : j < S.2.2.2 7 0) (hk : S.2.2.2 0 j = 2) (hi : 0 ≤ x1 ∧ x1 ≤ 100000000) (hnb : 1 ≤ nI (S.2.2.2 1 j) ∧ nI (S.2.2.2 1 j) ≤ 24) : 0 ≤ x1 := by 
  have bl_x1 := Int32.toInt_lt x1
  try simp only [i_le, i_lt, i_eq, Int32.reduceToInt] at *
  try simp only [Int32.reduceToInt] at *
  omega
theorem x_t4_lets_o2 (S : XS) (j : Nat) (x1 : Int32) (hI : XInv S) (hj : j < S.2.2.2 7 0) (hk : S.2.2.2 0 j = 2) (hi : 0 ≤ x1 ∧ x1 ≤ 100000000) (hnb : 1 ≤ nI (S.2.2.2 1 j) ∧ nI (S.2.2.2 1 j) ≤ 24) (hs1 : 0 ≤ x1) : 0 < (nI (S.2.2.2 1 j)) := by 
  have bl_x1 := Int32.toInt_lt x1
  try simp only [i_le, i_lt, i_eq, Int32.reduceToInt] at *
  try simp only [Int32.reduceToInt] at *
  omega
theorem x_t4_lets_o3 (S : XS) (j : Nat) (x1 : Int32) (hI : XInv S) (hj : j < S.2.2.2 7 0) (hk : S.2.2.2 0 j = 2) (hi : 0 ≤ x1 ∧ x1 ≤ 100000000) (hnb : 1 ≤ nI (S.2.2.2 1 j) ∧ nI (S.2.2.2 1 j) ≤ 24) (hs1 : 0 ≤ x1) (hs0 : 0 < (nI (S.2.2.2 1 j))) (hrem : 0 ≤ (x1 - x1 / (nI (S.2.2.2 1 j)) * (nI (S.2.2.2 1 j))) ∧ (x1 - x1 / (nI (S.2.2.2 1 j)) * (nI (S.2.2.2 1 j))) < (nI (S.2.2.2 1 j))) : ¬ (nI (S.2.2.2 1 j)) = 0 := by 
  have bl_x1 := Int32.toInt_lt x1
  try simp only [i_le, i_lt, i_eq, Int32.reduceToInt] at *
  first | (have e_0 := d32 (x := x1) (y := (nI (S.2.2.2 1 j))) (by (try simp only [Int32.reduceToInt]); omega); (try simp only [Int32.reduceToInt] at e_0)) | skip
  first | (have e_1 := m32 (x := (x1 / (nI (S.2.2.2 1 j)))) (y := (nI (S.2.2.2 1 j))) (by (try simp only [Int32.reduceToInt]); omega); (try simp only [Int32.reduceToInt] at e_1)) | skip
  first | (have e_2 := s32 (x := x1) (y := (x1 / (nI (S.2.2.2 1 j)) * (nI (S.2.2.2 1 j)))) (by (try simp only [Int32.reduceToInt]); omega); (try simp only [Int32.reduceToInt] at e_2)) | skip
  try simp only [Int32.reduceToInt] at *
  omega
def x_t4_lets (S : XS) (j : Nat) (x1 : Int32) (x2 : Int32) : Int32 := (S.2.2.1 0 j (Int32.toNatClampNeg (x1 - x1 / (nI (S.2.2.2 1 j)) * (nI (S.2.2.2 1 j)))))
set_option maxHeartbeats 4000000 in
theorem xt_t4_lets (l : Launch) (D : va_G) (d : Nat → ClassId) (A : Nat → Prop) (ad : XK → Nat) (S : XS) (j : Nat) (x1 : Int32) (x2 : Int32) (hI : XInv S) (hj : j < S.2.2.2 7 0) (hk : S.2.2.2 0 j = 2) (hi : 0 ≤ x1 ∧ x1 ≤ 100000000) : XI l yX4_lets cX4_lets 3 .int (rm_ 0) D d A ad S [.ref (ad (40, j)), .int x1, .int x2] ((x_t4_lets S j x1 x2), S) := by
  refine x_startI RX4 rfl (by decide) (Nat.le_of_ble_eq_true rfl) ?_
  intro p e s m av below meth c ls Q X hrt hlk hl hR hQ
  have hx := X.1.1.1
  have hb := X.1.1.2.1
  have hown := X.1.1.2.2.2.1
  have hts := X.1.1.2.2.2.2
  have hS : va_S A s.heap s.heap [] := va_S.rf
  have hl : lv_has ls 3 [(0, .ref (ad (40, j))), (1, .int x1), (2, .int x2)] := hl
  have hnb : 1 ≤ nI (S.2.2.2 1 j) ∧ nI (S.2.2.2 1 j) ≤ 24 := xi_nb hI hj (by rw [hk]; decide)
  refine lv_aload_n hx hb dX4_lets_0 rfl (lv_at hl 0 rfl) ?_
  refine xg_st X hR (x_lvt (hj)) (hk) q461 dX4_lets_1 ?_
  refine lv_iload_n hx hb dX4_lets_4 rfl (lv_at hl 1 rfl) ?_
  refine lv_aload_n hx hb dX4_lets_5 rfl (lv_at hl 0 rfl) ?_
  refine xg_st X hR (x_lvt (hj)) (hk) q461 dX4_lets_6 ?_
  refine x_lnn X hR (x_lvn (hj) (by rw [hk]; decide)) (v := nI (S.2.2.2 1 j)) rfl dX4_lets_9 ?_
  have hs1 : 0 ≤ x1 := x_t4_lets_o1 S j x1 hI hj hk hi hnb
  have hs0 : 0 < (nI (S.2.2.2 1 j)) := x_t4_lets_o2 S j x1 hI hj hk hi hnb hs1
  have hrem : 0 ≤ (x1 - x1 / (nI (S.2.2.2 1 j)) * (nI (S.2.2.2 1 j))) ∧ (x1 - x1 / (nI (S.2.2.2 1 j)) * (nI (S.2.2.2 1 j))) < (nI (S.2.2.2 1 j)) := (dv_ hs1 hs0).2.2
  refine lv_irem hx hb dX4_lets_10 (x_t4_lets_o3 S j x1 hI hj hk hi hnb hs1 hs0 hrem) ?_
  refine x_ldn X hR (x_lvn (hj) (by rw [hk]; decide)) (ix_ (xi_nl (X := S) hI (hj) (by rw [hk]; decide)) (hrem)) (v := S.2.2.1 0 j (Int32.toNatClampNeg (x1 - x1 / (nI (S.2.2.2 1 j)) * (nI (S.2.2.2 1 j))))) rfl dX4_lets_11 ?_
  exact x_ri hx hb hrt (rfl) hlk hR hS hQ (hF1 rfl) dX4_lets_12
theorem x_t4_letOff_o1 (S : XS) (j : Nat) (x1 : Int32) (x2 : Int32) (hz_x2 : x2 = 0 ∨ x2 = 1) (hI : XInv S) (hj : j < S.2.2.2 7 0) (hk : S.2.2.2 0 j = 2) (hi : 0 ≤ x1 ∧ x1 ≤ 100000000) (hnb : 1 ≤ nI (S.2.2.2 1 j) ∧ nI (S.2.2.2 1 j) ≤ 24) : 0 ≤ x1 := by 
  have bl_x1 := Int32.toInt_lt x1
  have bl_x2 := Int32.toInt_lt x2
  try simp only [i_le, i_lt, i_eq, Int32.reduceToInt] at *
  try simp only [Int32.reduceToInt] at *
  omega
theorem x_t4_letOff_o2 (S : XS) (j : Nat) (x1 : Int32) (x2 : Int32) (hz_x2 : x2 = 0 ∨ x2 = 1) (hI : XInv S) (hj : j < S.2.2.2 7 0) (hk : S.2.2.2 0 j = 2) (hi : 0 ≤ x1 ∧ x1 ≤ 100000000) (hnb : 1 ≤ nI (S.2.2.2 1 j) ∧ nI (S.2.2.2 1 j) ≤ 24) (hs1 : 0 ≤ x1) : 0 < (nI (S.2.2.2 1 j)) := by 
  have bl_x1 := Int32.toInt_lt x1
  have bl_x2 := Int32.toInt_lt x2
  try simp only [i_le, i_lt, i_eq, Int32.reduceToInt] at *
  try simp only [Int32.reduceToInt] at *
  omega
theorem x_t4_letOff_o3 (S : XS) (j : Nat) (x1 : Int32) (x2 : Int32) (hz_x2 : x2 = 0 ∨ x2 = 1) (hI : XInv S) (hj : j < S.2.2.2 7 0) (hk : S.2.2.2 0 j = 2) (hi : 0 ≤ x1 ∧ x1 ≤ 100000000) (hnb : 1 ≤ nI (S.2.2.2 1 j) ∧ nI (S.2.2.2 1 j) ≤ 24) (hs1 : 0 ≤ x1) (hs0 : 0 < (nI (S.2.2.2 1 j))) (hrem : 0 ≤ (x1 - x1 / (nI (S.2.2.2 1 j)) * (nI (S.2.2.2 1 j))) ∧ (x1 - x1 / (nI (S.2.2.2 1 j)) * (nI (S.2.2.2 1 j))) < (nI (S.2.2.2 1 j))) : ¬ (nI (S.2.2.2 1 j)) = 0 := by 
  have bl_x1 := Int32.toInt_lt x1
  have bl_x2 := Int32.toInt_lt x2
  try simp only [i_le, i_lt, i_eq, Int32.reduceToInt] at *
  first | (have e_0 := d32 (x := x1) (y := (nI (S.2.2.2 1 j))) (by (try simp only [Int32.reduceToInt]); omega); (try simp only [Int32.reduceToInt] at e_0)) | skip
  first | (have e_1 := m32 (x := (x1 / (nI (S.2.2.2 1 j)))) (y := (nI (S.2.2.2 1 j))) (by (try simp only [Int32.reduceToInt]); omega); (try simp only [Int32.reduceToInt] at e_1)) | skip
  first | (have e_2 := s32 (x := x1) (y := (x1 / (nI (S.2.2.2 1 j)) * (nI (S.2.2.2 1 j)))) (by (try simp only [Int32.reduceToInt]); omega); (try simp only [Int32.reduceToInt] at e_2)) | skip
  try simp only [Int32.reduceToInt] at *
  omega
def x_t4_letOff (S : XS) (j : Nat) (x1 : Int32) (x2 : Int32) : XS := (xu (xu S 45 j (S.2.2.1 0 j (Int32.toNatClampNeg (x1 - x1 / (nI (S.2.2.2 1 j)) * (nI (S.2.2.2 1 j)))))) 49 j x2)
theorem x_t4_letOff_N (S : XS) (j : Nat) (x1 : Int32) (x2 : Int32) : (x_t4_letOff S j x1 x2).2.2.2 = S.2.2.2 := by
  unfold x_t4_letOff
  exact rfl
theorem x_t4_letOff_inv (S : XS) (j : Nat) (x1 : Int32) (x2 : Int32) (hz_x2 : x2 = 0 ∨ x2 = 1) (hI : XInv S) (hj : j < S.2.2.2 7 0) (hk : S.2.2.2 0 j = 2) (hi : 0 ≤ x1 ∧ x1 ≤ 100000000) : XInv (x_t4_letOff S j x1 x2) := by
  have hnb : 1 ≤ nI (S.2.2.2 1 j) ∧ nI (S.2.2.2 1 j) ≤ 24 := xi_nb hI hj (by rw [hk]; decide)
  unfold x_t4_letOff
  exact (XInv_xu (XInv_xu hI _ _ _ (by decide)) _ _ _ (by decide))
set_option maxHeartbeats 4000000 in
theorem xt_t4_letOff (l : Launch) (D : va_G) (d : Nat → ClassId) (A : Nat → Prop) (ad : XK → Nat) (S : XS) (j : Nat) (x1 : Int32) (x2 : Int32) (hz_x2 : x2 = 0 ∨ x2 = 1) (hI : XInv S) (hj : j < S.2.2.2 7 0) (hk : S.2.2.2 0 j = 2) (hi : 0 ≤ x1 ∧ x1 ≤ 100000000) : XV l yX4_letOff cX4_letOff 3 (rm_ 0) D d A ad S [.ref (ad (40, j)), .int x1, .int x2] (x_t4_letOff S j x1 x2) := by
  refine x_startV RX4 rfl (by decide) (Nat.le_of_ble_eq_true rfl) ?_
  intro p e s m av below meth c ls Q X hrt hlk hl hR hQ
  have hx := X.1.1.1
  have hb := X.1.1.2.1
  have hown := X.1.1.2.2.2.1
  have hts := X.1.1.2.2.2.2
  have hS : va_S A s.heap s.heap [] := va_S.rf
  have hl : lv_has ls 3 [(0, .ref (ad (40, j))), (1, .int x1), (2, .int x2)] := hl
  have hnb : 1 ≤ nI (S.2.2.2 1 j) ∧ nI (S.2.2.2 1 j) ≤ 24 := xi_nb hI hj (by rw [hk]; decide)
  refine lv_aload_n hx hb dX4_letOff_0 rfl (lv_at hl 0 rfl) ?_
  refine lv_aload_n hx hb dX4_letOff_1 rfl (lv_at hl 0 rfl) ?_
  refine xg_st X hR (x_lvt (hj)) (hk) q461 dX4_letOff_2 ?_
  refine lv_iload_n hx hb dX4_letOff_5 rfl (lv_at hl 1 rfl) ?_
  refine lv_aload_n hx hb dX4_letOff_6 rfl (lv_at hl 0 rfl) ?_
  refine xg_st X hR (x_lvt (hj)) (hk) q461 dX4_letOff_7 ?_
  refine x_lnn X hR (x_lvn (hj) (by rw [hk]; decide)) (v := nI (S.2.2.2 1 j)) rfl dX4_letOff_10 ?_
  have hs1 : 0 ≤ x1 := x_t4_letOff_o1 S j x1 x2 hz_x2 hI hj hk hi hnb
  have hs0 : 0 < (nI (S.2.2.2 1 j)) := x_t4_letOff_o2 S j x1 x2 hz_x2 hI hj hk hi hnb hs1
  have hrem : 0 ≤ (x1 - x1 / (nI (S.2.2.2 1 j)) * (nI (S.2.2.2 1 j))) ∧ (x1 - x1 / (nI (S.2.2.2 1 j)) * (nI (S.2.2.2 1 j))) < (nI (S.2.2.2 1 j)) := (dv_ hs1 hs0).2.2
  refine lv_irem hx hb dX4_letOff_11 (x_t4_letOff_o3 S j x1 x2 hz_x2 hI hj hk hi hnb hs1 hs0 hrem) ?_
  refine x_ldn X hR (x_lvn (hj) (by rw [hk]; decide)) (ix_ (xi_nl (X := S) hI (hj) (by rw [hk]; decide)) (hrem)) (v := S.2.2.1 0 j (Int32.toNatClampNeg (x1 - x1 / (nI (S.2.2.2 1 j)) * (nI (S.2.2.2 1 j))))) rfl dX4_letOff_12 ?_
  refine xpt X hR hS (x_lvt (hj)) (xi_kd (X := S) hI (hj)) 5 (by decide) rfl q368 (Or.inr q369) rfl dX4_letOff_13 (fun H locs hR hS => ?_)
  refine lv_aload_n hx hb dX4_letOff_16 rfl (lv_at hl 0 rfl) ?_
  refine lv_iload_n hx hb dX4_letOff_17 rfl (lv_at hl 2 rfl) ?_
  refine xptz X hR hS (x_lvt (hj)) (xi_kd (X := S) hI (hj)) 9 (by decide) rfl q381 (Or.inr q382) rfl (hz_x2) dX4_letOff_18 (fun H locs hR hS => ?_)
  exact x_rv hx hb hrt hlk hR hS hQ rfl dX4_letOff_21
theorem x_t5_kind_o1 (S : XS) (j : Nat) (hI : XInv S) (hj : j < S.2.2.2 7 0) (hk : S.2.2.2 0 j = 3) : S.2.2.2 0 j = 1 ∨ S.2.2.2 0 j = 3 := by 
  try simp only [i_le, i_lt, i_eq, Int32.reduceToInt] at *
  try simp only [Int32.reduceToInt] at *
  omega
def x_t5_kind (S : XS) (j : Nat) : Int32 := ((x_t3_kind S j) + 2)
set_option maxHeartbeats 4000000 in
theorem xt_t5_kind (l : Launch) (D : va_G) (d : Nat → ClassId) (A : Nat → Prop) (ad : XK → Nat) (S : XS) (j : Nat) (hI : XInv S) (hj : j < S.2.2.2 7 0) (hk : S.2.2.2 0 j = 3) : XI l yX5_kind cX5_kind 1 .int (rm_ 2) D d A ad S [.ref (ad (40, j))] ((x_t5_kind S j), S) := by
  refine x_startI RX5 rfl (by decide) (Nat.le_of_ble_eq_true rfl) ?_
  intro p e s m av below meth c ls Q X hrt hlk hl hR hQ
  have hx := X.1.1.1
  have hb := X.1.1.2.1
  have hown := X.1.1.2.2.2.1
  have hts := X.1.1.2.2.2.2
  have hS : va_S A s.heap s.heap [] := va_S.rf
  have hl : lv_has ls 1 [(0, .ref (ad (40, j)))] := hl
  refine lv_aload_n hx hb dX5_kind_0 rfl (lv_at hl 0 rfl) ?_
  obtain ⟨q_, hq_⟩ := x_clq (xi_kd (X := S) hI (hj))
  refine x_bi hS (xr_U X hR (x_lvt (hj)) (x_C40 j) hq_ (xt_t3_kind l D d A ad S j (hI) (hj) (x_t5_kind_o1 S j hI hj hk)) 0 q545 q1718 q513 q546 q70 q547 ⟨rfl, rfl⟩ (by decide +kernel) ⟨by decide, by decide⟩ ⟨by decide, by decide⟩ rfl hl.1 rfl (Nat.le_of_ble_eq_true rfl) dX5_kind_1) (fun H locs hR hS => ?_)
  refine lv_iconst (v := 2) hx hb dX5_kind_4 (by decide) ?_
  refine lv_iadd hx hb dX5_kind_5 ?_
  exact x_ri hx hb hrt (rfl) hlk hR hS hQ (hF1 rfl) dX5_kind_6
theorem x_t5_asPlate_o1 (S : XS) (j : Nat) (hI : XInv S) (hj : j < S.2.2.2 7 0) (hk : S.2.2.2 0 j = 3) : S.2.2.2 0 j = 1 ∨ S.2.2.2 0 j = 3 := by 
  try simp only [i_le, i_lt, i_eq, Int32.reduceToInt] at *
  try simp only [Int32.reduceToInt] at *
  omega
def x_t5_asPlate (S : XS) (j : Nat) : Int32 := (x_t3_mark S j)
set_option maxHeartbeats 4000000 in
theorem xt_t5_asPlate (l : Launch) (D : va_G) (d : Nat → ClassId) (A : Nat → Prop) (ad : XK → Nat) (S : XS) (j : Nat) (hI : XInv S) (hj : j < S.2.2.2 7 0) (hk : S.2.2.2 0 j = 3) : XI l yX5_asPlate cX5_asPlate 1 .int (rm_ 1) D d A ad S [.ref (ad (40, j))] ((x_t5_asPlate S j), S) := by
  refine x_startI RX5 rfl (by decide) (Nat.le_of_ble_eq_true rfl) ?_
  intro p e s m av below meth c ls Q X hrt hlk hl hR hQ
  have hx := X.1.1.1
  have hb := X.1.1.2.1
  have hown := X.1.1.2.2.2.1
  have hts := X.1.1.2.2.2.2
  have hS : va_S A s.heap s.heap [] := va_S.rf
  have hl : lv_has ls 1 [(0, .ref (ad (40, j)))] := hl
  refine lv_aload_n hx hb dX5_asPlate_0 rfl (lv_at hl 0 rfl) ?_
  obtain ⟨q_, hq_⟩ := x_clq (xi_kd (X := S) hI (hj))
  refine x_bi hS (xr_U X hR (x_lvt (hj)) (x_C40 j) hq_ (xt_t3_mark l D d A ad S j (hI) (hj) (x_t5_asPlate_o1 S j hI hj hk)) 0 q598 q1719 q513 q599 q70 q600 ⟨rfl, rfl⟩ (by decide +kernel) ⟨by decide, by decide⟩ ⟨by decide, by decide⟩ rfl hl.1 rfl (Nat.le_of_ble_eq_true rfl) dX5_asPlate_1) (fun H locs hR hS => ?_)
  exact x_ri hx hb hrt (rfl) hlk hR hS hQ (hF1 rfl) dX5_asPlate_4
def x_t5_mark (S : XS) (j : Nat) : Int32 := (S.1 51 j)
set_option maxHeartbeats 4000000 in
theorem xt_t5_mark (l : Launch) (D : va_G) (d : Nat → ClassId) (A : Nat → Prop) (ad : XK → Nat) (S : XS) (j : Nat) (hI : XInv S) (hj : j < S.2.2.2 7 0) (hk : S.2.2.2 0 j = 3) : XI l yX5_mark cX5_mark 1 .int (rm_ 0) D d A ad S [.ref (ad (40, j))] ((x_t5_mark S j), S) := by
  refine x_startI RX5 rfl (by decide) (Nat.le_of_ble_eq_true rfl) ?_
  intro p e s m av below meth c ls Q X hrt hlk hl hR hQ
  have hx := X.1.1.1
  have hb := X.1.1.2.1
  have hown := X.1.1.2.2.2.1
  have hts := X.1.1.2.2.2.2
  have hS : va_S A s.heap s.heap [] := va_S.rf
  have hl : lv_has ls 1 [(0, .ref (ad (40, j)))] := hl
  refine lv_aload_n hx hb dX5_mark_0 rfl (lv_at hl 0 rfl) ?_
  refine xg_pn X hR (x_lvt (hj)) (hk) q491 rfl dX5_mark_1 ?_
  exact x_ri hx hb hrt (rfl) hlk hR hS hQ (hF1 rfl) dX5_mark_4
def x_t5_hammers (S : XS) (j : Nat) : Int32 := (S.2.2.1 1 j (Int32.toNatClampNeg (S.1 51 j)))
set_option maxHeartbeats 4000000 in
theorem xt_t5_hammers (l : Launch) (D : va_G) (d : Nat → ClassId) (A : Nat → Prop) (ad : XK → Nat) (S : XS) (j : Nat) (hI : XInv S) (hj : j < S.2.2.2 7 0) (hk : S.2.2.2 0 j = 3) : XI l yX5_hammers cX5_hammers 1 .int (rm_ 0) D d A ad S [.ref (ad (40, j))] ((x_t5_hammers S j), S) := by
  refine x_startI RX5 rfl (by decide) (Nat.le_of_ble_eq_true rfl) ?_
  intro p e s m av below meth c ls Q X hrt hlk hl hR hQ
  have hx := X.1.1.1
  have hb := X.1.1.2.1
  have hown := X.1.1.2.2.2.1
  have hts := X.1.1.2.2.2.2
  have hS : va_S A s.heap s.heap [] := va_S.rf
  have hl : lv_has ls 1 [(0, .ref (ad (40, j)))] := hl
  have hnb : 1 ≤ nI (S.2.2.2 2 j) ∧ nI (S.2.2.2 2 j) ≤ 48 := xi_pb hI hj hk
  have hat : 0 ≤ S.1 51 j ∧ S.1 51 j < nI (S.2.2.2 2 j) := xi_pn hI hj hk
  refine lv_aload_n hx hb dX5_hammers_0 rfl (lv_at hl 0 rfl) ?_
  refine xg_pi X hR (x_lvt (hj)) (hk) q489 dX5_hammers_1 ?_
  refine lv_aload_n hx hb dX5_hammers_4 rfl (lv_at hl 0 rfl) ?_
  refine xg_pn X hR (x_lvt (hj)) (hk) q491 rfl dX5_hammers_5 ?_
  refine x_ldp X hR (x_lvp (hj) (hk)) (ix_ (xi_pl (X := S) hI (hj) (hk)) (hat)) (v := S.2.2.1 1 j (Int32.toNatClampNeg (S.1 51 j))) rfl dX5_hammers_8 ?_
  exact x_ri hx hb hrt (rfl) hlk hR hS hQ (hF1 rfl) dX5_hammers_9
theorem x_t5_struck_o1 (S : XS) (j : Nat) (hI : XInv S) (hj : j < S.2.2.2 7 0) (hk : S.2.2.2 0 j = 3) (hnb : 1 ≤ nI (S.2.2.2 2 j) ∧ nI (S.2.2.2 2 j) ≤ 48) (hat : 0 ≤ S.1 51 j ∧ S.1 51 j < nI (S.2.2.2 2 j)) : 0 ≤ ((S.1 51 j) + 1) := by 
  try simp only [i_le, i_lt, i_eq, Int32.reduceToInt] at *
  first | (have e_0 := a32 (x := (S.1 51 j)) (y := 1) (by (try simp only [Int32.reduceToInt]); omega); (try simp only [Int32.reduceToInt] at e_0)) | skip
  try simp only [Int32.reduceToInt] at *
  omega
theorem x_t5_struck_o2 (S : XS) (j : Nat) (hI : XInv S) (hj : j < S.2.2.2 7 0) (hk : S.2.2.2 0 j = 3) (hnb : 1 ≤ nI (S.2.2.2 2 j) ∧ nI (S.2.2.2 2 j) ≤ 48) (hat : 0 ≤ S.1 51 j ∧ S.1 51 j < nI (S.2.2.2 2 j)) (hs1 : 0 ≤ ((S.1 51 j) + 1)) : 0 < (nI (S.2.2.2 2 j)) := by 
  try simp only [i_le, i_lt, i_eq, Int32.reduceToInt] at *
  first | (have e_0 := a32 (x := (S.1 51 j)) (y := 1) (by (try simp only [Int32.reduceToInt]); omega); (try simp only [Int32.reduceToInt] at e_0)) | skip
  try simp only [Int32.reduceToInt] at *
  omega
theorem x_t5_struck_o3 (S : XS) (j : Nat) (hI : XInv S) (hj : j < S.2.2.2 7 0) (hk : S.2.2.2 0 j = 3) (hnb : 1 ≤ nI (S.2.2.2 2 j) ∧ nI (S.2.2.2 2 j) ≤ 48) (hat : 0 ≤ S.1 51 j ∧ S.1 51 j < nI (S.2.2.2 2 j)) (hs1 : 0 ≤ ((S.1 51 j) + 1)) (hs0 : 0 < (nI (S.2.2.2 2 j))) (hrem : 0 ≤ (((S.1 51 j) + 1) - ((S.1 51 j) + 1) / (nI (S.2.2.2 2 j)) * (nI (S.2.2.2 2 j))) ∧ (((S.1 51 j) + 1) - ((S.1 51 j) + 1) / (nI (S.2.2.2 2 j)) * (nI (S.2.2.2 2 j))) < (nI (S.2.2.2 2 j))) : ¬ (nI (S.2.2.2 2 j)) = 0 := by 
  try simp only [i_le, i_lt, i_eq, Int32.reduceToInt] at *
  first | (have e_0 := a32 (x := (S.1 51 j)) (y := 1) (by (try simp only [Int32.reduceToInt]); omega); (try simp only [Int32.reduceToInt] at e_0)) | skip
  first | (have e_1 := d32 (x := ((S.1 51 j) + 1)) (y := (nI (S.2.2.2 2 j))) (by (try simp only [Int32.reduceToInt]); omega); (try simp only [Int32.reduceToInt] at e_1)) | skip
  first | (have e_2 := m32 (x := (((S.1 51 j) + 1) / (nI (S.2.2.2 2 j)))) (y := (nI (S.2.2.2 2 j))) (by (try simp only [Int32.reduceToInt]); omega); (try simp only [Int32.reduceToInt] at e_2)) | skip
  first | (have e_3 := s32 (x := ((S.1 51 j) + 1)) (y := (((S.1 51 j) + 1) / (nI (S.2.2.2 2 j)) * (nI (S.2.2.2 2 j)))) (by (try simp only [Int32.reduceToInt]); omega); (try simp only [Int32.reduceToInt] at e_3)) | skip
  try simp only [Int32.reduceToInt] at *
  omega
def x_t5_struck (S : XS) (j : Nat) : XS := (xu S 51 j (((S.1 51 j) + 1) - ((S.1 51 j) + 1) / (nI (S.2.2.2 2 j)) * (nI (S.2.2.2 2 j))))
theorem x_t5_struck_N (S : XS) (j : Nat) : (x_t5_struck S j).2.2.2 = S.2.2.2 := by
  unfold x_t5_struck
  exact rfl
theorem x_t5_struck_inv (S : XS) (j : Nat) (hI : XInv S) (hj : j < S.2.2.2 7 0) (hk : S.2.2.2 0 j = 3) : XInv (x_t5_struck S j) := by
  have hnb : 1 ≤ nI (S.2.2.2 2 j) ∧ nI (S.2.2.2 2 j) ≤ 48 := xi_pb hI hj hk
  have hat : 0 ≤ S.1 51 j ∧ S.1 51 j < nI (S.2.2.2 2 j) := xi_pn hI hj hk
  unfold x_t5_struck
  have hs1 : 0 ≤ ((S.1 51 j) + 1) := x_t5_struck_o1 S j hI hj hk hnb hat
  have hs0 : 0 < (nI (S.2.2.2 2 j)) := x_t5_struck_o2 S j hI hj hk hnb hat hs1
  have hrem : 0 ≤ (((S.1 51 j) + 1) - ((S.1 51 j) + 1) / (nI (S.2.2.2 2 j)) * (nI (S.2.2.2 2 j))) ∧ (((S.1 51 j) + 1) - ((S.1 51 j) + 1) / (nI (S.2.2.2 2 j)) * (nI (S.2.2.2 2 j))) < (nI (S.2.2.2 2 j)) := (dv_ hs1 hs0).2.2
  exact (XInv_51 hI _ _ (fun _ _ => hrem))
set_option maxHeartbeats 4000000 in
theorem xt_t5_struck (l : Launch) (D : va_G) (d : Nat → ClassId) (A : Nat → Prop) (ad : XK → Nat) (S : XS) (j : Nat) (hI : XInv S) (hj : j < S.2.2.2 7 0) (hk : S.2.2.2 0 j = 3) : XV l yX5_struck cX5_struck 1 (rm_ 0) D d A ad S [.ref (ad (40, j))] (x_t5_struck S j) := by
  refine x_startV RX5 rfl (by decide) (Nat.le_of_ble_eq_true rfl) ?_
  intro p e s m av below meth c ls Q X hrt hlk hl hR hQ
  have hx := X.1.1.1
  have hb := X.1.1.2.1
  have hown := X.1.1.2.2.2.1
  have hts := X.1.1.2.2.2.2
  have hS : va_S A s.heap s.heap [] := va_S.rf
  have hl : lv_has ls 1 [(0, .ref (ad (40, j)))] := hl
  have hnb : 1 ≤ nI (S.2.2.2 2 j) ∧ nI (S.2.2.2 2 j) ≤ 48 := xi_pb hI hj hk
  have hat : 0 ≤ S.1 51 j ∧ S.1 51 j < nI (S.2.2.2 2 j) := xi_pn hI hj hk
  refine lv_aload_n hx hb dX5_struck_0 rfl (lv_at hl 0 rfl) ?_
  refine lv_aload_n hx hb dX5_struck_1 rfl (lv_at hl 0 rfl) ?_
  refine xg_pn X hR (x_lvt (hj)) (hk) q491 rfl dX5_struck_2 ?_
  refine lv_iconst (v := 1) hx hb dX5_struck_5 (by decide) ?_
  refine lv_iadd hx hb dX5_struck_6 ?_
  refine lv_aload_n hx hb dX5_struck_7 rfl (lv_at hl 0 rfl) ?_
  refine xg_pi X hR (x_lvt (hj)) (hk) q489 dX5_struck_8 ?_
  refine x_lnp X hR (x_lvp (hj) (hk)) (v := nI (S.2.2.2 2 j)) rfl dX5_struck_11 ?_
  have hs1 : 0 ≤ ((S.1 51 j) + 1) := x_t5_struck_o1 S j hI hj hk hnb hat
  have hs0 : 0 < (nI (S.2.2.2 2 j)) := x_t5_struck_o2 S j hI hj hk hnb hat hs1
  have hrem : 0 ≤ (((S.1 51 j) + 1) - ((S.1 51 j) + 1) / (nI (S.2.2.2 2 j)) * (nI (S.2.2.2 2 j))) ∧ (((S.1 51 j) + 1) - ((S.1 51 j) + 1) / (nI (S.2.2.2 2 j)) * (nI (S.2.2.2 2 j))) < (nI (S.2.2.2 2 j)) := (dv_ hs1 hs0).2.2
  refine lv_irem hx hb dX5_struck_12 (x_t5_struck_o3 S j hI hj hk hnb hat hs1 hs0 hrem) ?_
  refine xp_pn X hR hS (x_lvt (hj)) (hk) q491 dX5_struck_13 (fun H locs hR hS => ?_)
  exact x_rv hx hb hrt hlk hR hS hQ rfl dX5_struck_16
