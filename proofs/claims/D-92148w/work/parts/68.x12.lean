/-! PRINTED by gen/run_x12.py -/
set_option maxRecDepth 100000
theorem x_priceOf_o2 (S : XS) (x1 : Nat) (x2 : Int32) (x3 : Int32) (hI : XInv S) (hj : x1 < S.2.2.2 7 0) (hk : S.2.2.2 0 x1 = 1 ∨ S.2.2.2 0 x1 = 3) (h12 : nI (S.2.2.2 1 x1) = 12) (hs : 0 ≤ x2 ∧ x2 < 144) (c1 : ¬ 2 ≤ x3) : 0 ≤ (x2 / 12) ∧ (x2 / 12) < nI (S.2.2.2 1 x1) := by 
  have bl_x2 := Int32.toInt_lt x2
  have bl_x3 := Int32.toInt_lt x3
  try simp only [i_le, i_lt, i_eq, Int32.reduceToInt] at *
  first | (have e_0 := d32 (x := x2) (y := 12) (by (try simp only [Int32.reduceToInt]); omega); (try simp only [Int32.reduceToInt] at e_0)) | skip
  try simp only [Int32.reduceToInt] at *
  omega
def x_priceOf (S : XS) (x1 : Nat) (x2 : Int32) (x3 : Int32) : Int32 := (if 2 ≤ x3 then 1 else ((1000 * (xw_notch S x1 (x2 / 12))) + 1))
set_option maxHeartbeats 4000000 in
theorem xt_priceOf (l : Launch) (D : va_G) (d : Nat → ClassId) (A : Nat → Prop) (ad : XK → Nat) (S : XS) (x1 : Nat) (x2 : Int32) (x3 : Int32) (hI : XInv S) (hj : x1 < S.2.2.2 7 0) (hk : S.2.2.2 0 x1 = 1 ∨ S.2.2.2 0 x1 = 3) (h12 : nI (S.2.2.2 1 x1) = 12) (hs : 0 ≤ x2 ∧ x2 < 144) : XI l yX0_priceOf cX0_priceOf 3 .int (rm_ 1) D d A ad S [.ref (ad (40, x1)), .int x2, .int x3] ((x_priceOf S x1 x2 x3), S) := by
  refine x_startI RX0 rfl (by decide) (Nat.le_of_ble_eq_true rfl) ?_
  intro p e s m av below meth c ls Q X hrt hlk hl hR hQ
  have hx := X.1.1.1
  have hb := X.1.1.2.1
  have hown := X.1.1.2.2.2.1
  have hts := X.1.1.2.2.2.2
  have hS : va_S A s.heap s.heap [] := va_S.rf
  have hl : lv_has ls 3 [(0, .ref (ad (40, x1))), (1, .int x2), (2, .int x3)] := hl
  refine lv_iload_n hx hb dX0_priceOf_0 rfl (lv_at hl 2 rfl) ?_
  refine lv_iconst (v := 2) hx hb dX0_priceOf_1 (by decide) ?_
  refine lv_icmp_ge (tgt := 22) hx hb dX0_priceOf_2 (by decide) (fun c1 => ?_) (fun c1 => ?_)
  · refine lv_iconst (v := 1) hx hb dX0_priceOf_22 (by decide) ?_
    exact x_ri hx hb hrt (rfl) hlk hR hS hQ (hF1 (if_pos c1)) dX0_priceOf_23
  · refine lv_sipush (v := 1000) hx hb dX0_priceOf_5 (by decide) ?_
    refine lv_aload_n hx hb dX0_priceOf_8 rfl (lv_at hl 0 rfl) ?_
    refine lv_iload_n hx hb dX0_priceOf_9 rfl (lv_at hl 1 rfl) ?_
    refine lv_bipush (v := 12) hx hb dX0_priceOf_10 (by decide) ?_
    refine lv_idiv hx hb dX0_priceOf_12 (by decide) ?_
    refine vp_notch X hR hS (hI) (hj) (hk) (x_priceOf_o2 S x1 x2 x3 hI hj hk h12 hs c1) q990 hl.1 ⟨by decide, by decide⟩ ⟨by decide, by decide⟩ (Nat.le_of_ble_eq_true rfl) dX0_priceOf_13 (fun H locs hR hS => ?_)
    refine lv_imul hx hb dX0_priceOf_16 ?_
    refine lv_iconst (v := 1) hx hb dX0_priceOf_17 (by decide) ?_
    refine lv_iadd hx hb dX0_priceOf_18 ?_
    refine lv_goto (tgt := 23) hx hb dX0_priceOf_19 (by decide) ?_
    exact x_ri hx hb hrt (rfl) hlk hR hS hQ (hF1 (if_neg c1)) dX0_priceOf_23
theorem x_led_n {s a : Int32} (hs : 0 ≤ s ∧ s < 144) (ha : 0 ≤ a ∧ a < 3) : x_led s a = nI (vled s.toNatClampNeg a.toNatClampNeg) := by
  obtain ⟨n, hn, rfl⟩ := vp_in_of (x := s) (n := 144) (ixl 144 144 (by decide) rfl hs) (by decide)
  obtain ⟨b, hb, rfl⟩ := vp_in_of (x := a) (n := 3) (ixl 3 3 (by decide) rfl ha) (by decide)
  have hb3 : b = 0 ∨ b = 1 ∨ b = 2 := by omega
  clear hs ha
  revert n
  rcases hb3 with rfl | rfl | rfl <;> decide +kernel
theorem x_led_ok {s a : Int32} (hs : 0 ≤ s ∧ s < 144) (ha : 0 ≤ a ∧ a < 3) : 0 ≤ x_led s a ∧ x_led s a < 144 := by
  rw [x_led_n hs ha]
  have h := vled_lt (s := s.toNatClampNeg) (a := a.toNatClampNeg) (tn_ 144 144 (by decide) rfl hs)
  exact ⟨nI_pos' (by omega), nI_lt h (by decide)⟩
def x_throughOf_v10 (S : XS) (x2 : Int32) (x3 : Int32) : Int32 := (S.1 8 (Int32.toNatClampNeg (x_led x2 x3)))
def x_throughOf (S : XS) (x1 : Nat) (x2 : Int32) (x3 : Int32) : Int32 := (if 0 ≤ (x_throughOf_v10 S x2 x3) then ((x_priceOf S x1 x2 x3) + (x_throughOf_v10 S x2 x3)) else (-9))
set_option maxHeartbeats 4000000 in
theorem xt_throughOf (l : Launch) (D : va_G) (d : Nat → ClassId) (A : Nat → Prop) (ad : XK → Nat) (S : XS) (x1 : Nat) (x2 : Int32) (x3 : Int32) (hI : XInv S) (hj : x1 < S.2.2.2 7 0) (hk : S.2.2.2 0 x1 = 1 ∨ S.2.2.2 0 x1 = 3) (h12 : nI (S.2.2.2 1 x1) = 12) (hs : 0 ≤ x2 ∧ x2 < 144) (ha : 0 ≤ x3 ∧ x3 < 3) : XI l yX0_throughOf cX0_throughOf 5 .int (rm_ 2) D d A ad S [.ref (ad (0, 0)), .ref (ad (40, x1)), .int x2, .int x3] ((x_throughOf S x1 x2 x3), S) := by
  refine x_startI RX0 rfl (by decide) (Nat.le_of_ble_eq_true rfl) ?_
  intro p e s m av below meth c ls Q X hrt hlk hl hR hQ
  have hx := X.1.1.1
  have hb := X.1.1.2.1
  have hown := X.1.1.2.2.2.1
  have hts := X.1.1.2.2.2.2
  have hS : va_S A s.heap s.heap [] := va_S.rf
  have hl : lv_has ls 5 [(0, .ref (ad (0, 0))), (1, .ref (ad (40, x1))), (2, .int x2), (3, .int x3)] := hl
  have hled : 0 ≤ (x_led x2 x3) ∧ (x_led x2 x3) < 144 := x_led_ok hs ha
  refine lv_aload_n hx hb dX0_throughOf_0 rfl (lv_at hl 0 rfl) ?_
  refine xg_a X.1 hR 8 (by decide) (by decide) q105 dX0_throughOf_1 ?_
  refine lv_iload_n hx hb dX0_throughOf_4 rfl (lv_at hl 2 rfl) ?_
  refine lv_iload_n hx hb dX0_throughOf_5 rfl (lv_at hl 3 rfl) ?_
  refine s_ci X.1.1 (st_x_led l x2 x3) 2 (lw_S q984 q985 q58 q986) ⟨rfl, rfl⟩ (by decide +kernel) ⟨by decide, by decide⟩ ⟨by decide, by decide⟩ rfl hl.1 rfl (Nat.le_of_ble_eq_true rfl) dX0_throughOf_6 ?_
  refine x_ld X.1 hR ⟨by decide, rfl⟩ (ixl 144 144 (by decide) rfl (hled)) (v := S.1 8 (Int32.toNatClampNeg (x_led x2 x3))) rfl dX0_throughOf_9 ?_
  refine lv_istore (lv' := [(4, .int (x_throughOf_v10 S x2 x3)), (0, .ref (ad (0, 0))), (1, .ref (ad (40, x1))), (2, .int x2), (3, .int x3)]) hx hb dX0_throughOf_10 hl (by decide) rfl (fun ls hl => ?_)
  refine lv_iload hx hb dX0_throughOf_12 (lv_at hl 0 rfl) ?_
  refine lv_if_ge (tgt := 22) hx hb dX0_throughOf_14 (by decide) (fun c1 => ?_) (fun c1 => ?_)
  · refine lv_aload_n hx hb dX0_throughOf_22 rfl (lv_at hl 2 rfl) ?_
    refine lv_iload_n hx hb dX0_throughOf_23 rfl (lv_at hl 3 rfl) ?_
    refine lv_iload_n hx hb dX0_throughOf_24 rfl (lv_at hl 4 rfl) ?_
    refine x_bi hS (xr_S X hR (xt_priceOf l D d A ad S x1 x2 x3 (hI) (hj) (hk) (h12) (hs)) 3 (lw_S q987 q988 q58 q989) ⟨rfl, rfl⟩ (by decide +kernel) ⟨by decide, by decide⟩ ⟨by decide, by decide⟩ rfl hl.1 rfl (Nat.le_of_ble_eq_true rfl) dX0_throughOf_25) (fun H locs hR hS => ?_)
    refine lv_iload hx hb dX0_throughOf_28 (lv_at hl 0 rfl) ?_
    refine lv_iadd hx hb dX0_throughOf_30 ?_
    exact x_ri hx hb hrt (rfl) hlk hR hS hQ (hF1 (if_pos c1)) dX0_throughOf_31
  · refine lv_bipush (v := (-9)) hx hb dX0_throughOf_17 (by decide) ?_
    refine lv_goto (tgt := 31) hx hb dX0_throughOf_19 (by decide) ?_
    exact x_ri hx hb hrt (rfl) hlk hR hS hQ (hF1 (if_neg c1)) dX0_throughOf_31
/-- the strokes of a plate's notches -/
def wx (S : XS) (p : Nat) : Nat → Nat := fun i => (S.2.2.1 0 p i).toNatClampNeg
def gx (h : Int32) : Nat := (h - 1).toNatClampNeg
theorem nI_12 {n : Nat} (h : nI n = 12) (hn : n < 2 ^ 31) : n = 12 := (nI_eq hn (by decide)).mp (h.trans rfl)
theorem w24_wx {S : XS} {p : Nat} (hI : XInv S) (hj : p < S.2.2.2 7 0) (hk : S.2.2.2 0 p = 1 ∨ S.2.2.2 0 p = 3) (h12 : nI (S.2.2.2 1 p) = 12) : w24 (wx S p) := by
  intro i hi
  have hn := nI_12 h12 (xi_nl hI hj (k13 hk))
  have h := xi_no hI hj (k13 hk) (i := i) (by omega)
  unfold wx
  rw [i_le, i_le] at h
  simp only [Int32.reduceToInt] at h
  unfold Int32.toNatClampNeg
  omega
theorem gx_lt {h : Int32} (hh : 1 ≤ h ∧ h ≤ 12) : gx h < 12 ∧ (13 * (h - 1)).toNatClampNeg = 13 * gx h ∧ 13 * (h - 1) = nI (13 * gx h) := by
  have e := s32 (x := h) (y := 1) (by simp only [i_le, Int32.reduceToInt] at *; omega)
  have e2 := m32 (x := 13) (y := h - 1) (by simp only [i_le, Int32.reduceToInt] at *; omega)
  simp only [i_le, Int32.reduceToInt] at *
  unfold gx
  refine ⟨?_, ?_, ?_⟩
  · unfold Int32.toNatClampNeg; omega
  · unfold Int32.toNatClampNeg; omega
  · rw [i_eq, nI_toInt (by unfold Int32.toNatClampNeg; omega)]
    unfold Int32.toNatClampNeg
    omega
theorem thr_eq {S S2 : XS} {p : Nat} {y4 y5 : Int32} (hI : XInv S) (hj : p < S.2.2.2 7 0) (hk : S.2.2.2 0 p = 1 ∨ S.2.2.2 0 p = 3) (h12 : nI (S.2.2.2 1 p) = 12) (hB : S2.2.2.1 = S.2.2.1) (h4 : 0 ≤ y4 ∧ y4 < 144) (h5 : 0 ≤ y5 ∧ y5 < 3) : x_throughOf S2 p y4 y5 = thr (wx S p) (S2.1 8) y4.toNatClampNeg y5.toNatClampNeg := by
  have hl := vled_lt (s := y4.toNatClampNeg) (a := y5.toNatClampNeg) (tn_ 144 144 (by decide) rfl h4)
  have ev : x_throughOf_v10 S2 y4 y5 = S2.1 8 (vled y4.toNatClampNeg y5.toNatClampNeg) := by
    unfold x_throughOf_v10
    rw [x_led_n h4 h5, nI_clamp (by omega)]
  have hw := w24_wx hI hj hk h12
  have hn12 : y4.toNatClampNeg / 12 < 12 := by have := tn_ 144 144 (by decide) rfl h4; omega
  have hnt := xi_no hI hj (k13 hk) (i := y4.toNatClampNeg / 12) (by have := nI_12 h12 (xi_nl hI hj (k13 hk)); omega)
  have ep : x_priceOf S2 p y4 y5 = nI (vpr (wx S p) y4.toNatClampNeg y5.toNatClampNeg) := by
    have hv := vpr_le hw (k := y4.toNatClampNeg) (a := y5.toNatClampNeg) (tn_ 144 144 (by decide) rfl h4)
    have e12 : (y4 / 12).toNatClampNeg = y4.toNatClampNeg / 12 := by
      have e := d32 (x := y4) (y := 12) (by simp only [i_le, i_lt, Int32.reduceToInt] at *; omega)
      simp only [i_le, i_lt, Int32.reduceToInt] at *
      unfold Int32.toNatClampNeg
      omega
    unfold x_priceOf vpr
    by_cases h2 : 2 ≤ y5
    · have : ¬ y5.toNatClampNeg < 2 := by
        rw [i_le] at h2
        simp only [Int32.reduceToInt] at h2
        unfold Int32.toNatClampNeg
        omega
      rw [if_pos h2, if_neg this]
      rfl
    · have : y5.toNatClampNeg < 2 := by
        rw [i_le] at h2
        simp only [Int32.reduceToInt] at h2
        unfold Int32.toNatClampNeg
        omega
      rw [if_neg h2, if_pos this]
      unfold xw_notch wx
      rw [e12, hB]
      generalize S.2.2.1 0 p (y4.toNatClampNeg / 12) = v at hnt
      simp only [i_le, Int32.reduceToInt] at hnt
      have e1 := m32 (x := 1000) (y := v) (by simp only [Int32.reduceToInt]; omega)
      simp only [Int32.reduceToInt] at e1
      have e2 := a32 (x := 1000 * v) (y := 1) (by simp only [Int32.reduceToInt]; omega)
      simp only [Int32.reduceToInt] at e2
      rw [i_eq, nI_toInt (by unfold Int32.toNatClampNeg; omega), e2, e1]
      unfold Int32.toNatClampNeg
      omega
  unfold x_throughOf thr
  rw [ev, ep]
  by_cases h : S2.1 8 (vled y4.toNatClampNeg y5.toNatClampNeg) < 0
  · rw [if_pos h, if_neg (Int32.not_le.mpr h)]
  · rw [if_neg h, if_pos (Int32.not_lt.mp h)]
theorem lay_Z {S S2 : XS} {p : Nat} {hh y4 y5 : Int32} (hI : XInv S) (hj : p < S.2.2.2 7 0) (hk : S.2.2.2 0 p = 1 ∨ S.2.2.2 0 p = 3) (h12 : nI (S.2.2.2 1 p) = 12) (hB : S2.2.2.1 = S.2.2.1) (h4 : 0 ≤ y4 ∧ y4 < 144) (h5 : 0 ≤ y5 ∧ y5 < 3) (hhr : 1 ≤ hh ∧ hh ≤ 12) (hZ : VIc (wx S p) (gx hh) (S2.1 8)) (c1 : ¬ x_throughOf S2 p y4 y5 < 0) (c2 : S2.1 8 y4.toNatClampNeg < 0 ∨ x_throughOf S2 p y4 y5 < S2.1 8 y4.toNatClampNeg) :
    VIc (wx S p) (gx hh) ((xu S2 8 y4.toNatClampNeg (x_throughOf S2 p y4 y5)).1 8) ∧ csX ((xu S2 8 y4.toNatClampNeg (x_throughOf S2 p y4 y5)).1 8) 144 + 1 ≤ csX (S2.1 8) 144 := by
  rw [xu_kk]
  have e := thr_eq hI hj hk h12 hB h4 h5
  have c1 := Int32.not_lt.mp c1
  refine ⟨?_, csX_dn (tn_ 144 144 (by decide) rfl h4) c1 c2⟩
  rw [e] at c1 c2 ⊢
  exact VIc_upd (w24_wx hI hj hk h12) (gx_lt hhr).1 (tn_ 144 144 (by decide) rfl h4) (tn_ 3 3 (by decide) rfl h5) hZ c1 c2
theorem lay_N {S S2 : XS} {p : Nat} {y4 y5 : Int32} (hI : XInv S) (hj : p < S.2.2.2 7 0) (hk : S.2.2.2 0 p = 1 ∨ S.2.2.2 0 p = 3) (h12 : nI (S.2.2.2 1 p) = 12) (hB : S2.2.2.1 = S.2.2.1) (h4 : 0 ≤ y4 ∧ y4 < 144) (h5 : 0 ≤ y5 ∧ y5 < 3) (c : x_throughOf S2 p y4 y5 < 0 ∨ (¬ S2.1 8 y4.toNatClampNeg < 0 ∧ S2.1 8 y4.toNatClampNeg ≤ x_throughOf S2 p y4 y5)) : NIc (wx S p) (S2.1 8) y4.toNatClampNeg y5.toNatClampNeg := by
  have e := thr_eq hI hj hk h12 hB h4 h5
  rw [e] at c
  rintro ⟨h0, h1⟩
  rcases c with c | c
  · exact absurd h0 (Int32.not_le.mpr c)
  · rcases h1 with q | q
    · exact c.1 q
    · exact absurd q (Int32.not_lt.mpr c.2)
theorem tn_s {x : Int32} (h0 : 0 ≤ x) (h1 : x < 2147483647) : (x + 1).toNatClampNeg = x.toNatClampNeg + 1 := by
  have e := a32 (x := x) (y := 1) (by simp only [i_le, i_lt, Int32.reduceToInt] at *; omega)
  simp only [i_le, i_lt, Int32.reduceToInt] at *
  unfold Int32.toNatClampNeg
  omega
theorem nat_s {P : Nat → Prop} {n : Nat} (h : ∀ a, a < n → P a) (hn : P n) : ∀ a, a < n + 1 → P a := by
  intro a ha
  rcases Nat.lt_succ_iff_lt_or_eq.mp ha with h1 | h1
  · exact h a h1
  · subst h1; exact hn
theorem nat_s2 {P : Nat → Nat → Prop} {n : Nat} (h : ∀ k a, k < n → a < 3 → P k a) (hn : ∀ a, a < 3 → P n a) : ∀ k a, k < n + 1 → a < 3 → P k a := by
  intro k a hk ha
  rcases Nat.lt_succ_iff_lt_or_eq.mp hk with h1 | h1
  · exact h k a h1 ha
  · subst h1; exact hn a ha
theorem lay_0 {G : Nat} (w : Nat → Nat) (hG : G < 12) {c : Nat → Int32} (h : ∀ i, i < 144 → c i = if i = 13 * G then 0 else -9) : VIc w G c := by
  refine ⟨fun k hk => ?_, ?_⟩
  · rw [h k hk]
    by_cases e : k = 13 * G
    · rw [if_pos e]
      subst e
      refine Or.inr ?_
      rw [vV_goal w hG]
      exact Int.le_refl 0
    · rw [if_neg e]
      exact Or.inl (by decide)
  · rw [h _ (by omega), if_pos rfl]
theorem ge144 {x : Int32} (h : 144 ≤ x) : 144 ≤ x.toNatClampNeg := by
  rw [i_le] at h
  simp only [Int32.reduceToInt] at h
  unfold Int32.toNatClampNeg
  omega
theorem ge3 {x : Int32} (h : 3 ≤ x) : 3 ≤ x.toNatClampNeg := by
  rw [i_le] at h
  simp only [Int32.reduceToInt] at h
  unfold Int32.toNatClampNeg
  omega
theorem lay_c {a b c : Nat} {y : Int32} (h : a + 1 ≤ b) (h2 : b + y.toNatClampNeg ≤ c) : a + (1 : Int32).toNatClampNeg ≤ c := by
  have : (1 : Int32).toNatClampNeg = 1 := rfl
  omega
theorem lay_d {y y2 : Int32} {a b f : Nat} (hb : y = 0 ∨ y = 1) (hc : ¬ y = 0) (h : a + y2.toNatClampNeg ≤ b) (hf : b + y.toNatClampNeg < f + 1) : a + y2.toNatClampNeg < f := by
  rcases hb with e | e
  · exact absurd e hc
  · subst e
    have : (1 : Int32).toNatClampNeg = 1 := rfl
    omega
theorem lay_s {S2 : XS} {hh y v : Int32} (hhr : 1 ≤ hh ∧ hh ≤ 12) (h0 : 0 ≤ y) (h1 : y < 144) (h : ∀ i : Nat, i < y.toNatClampNeg → S2.1 8 i = if i = 13 * gx hh then 0 else -9) (hv : (y = 13 * (hh - 1) ∧ v = 0) ∨ (¬ y = 13 * (hh - 1) ∧ v = -9)) : ∀ i : Nat, i < (y + 1).toNatClampNeg → (xu S2 8 y.toNatClampNeg v).1 8 i = if i = 13 * gx hh then 0 else -9 := by
  rw [tn_s h0 (Int32.lt_trans h1 (by decide))]
  have hg := gx_lt hhr
  refine nat_s (fun i hi => ?_) ?_
  · rw [xu_i _ _ (by omega)]
    exact h i hi
  · rw [xu_self]
    rcases hv with ⟨e, rfl⟩ | ⟨e, rfl⟩
    · rw [if_pos (by rw [e]; exact hg.2.1)]
    · rw [if_neg]
      intro q
      apply e
      rw [hg.2.2, ← q]
      obtain ⟨n, hn, rfl⟩ := nI_of (x := y) (Int32.not_lt.mpr h0)
      rw [nI_clamp hn]
theorem x_layCosts_o3 (S : XS) (x1 : Nat) (x2 : Int32) (y3_2 : Int32) (S_2 : XS) (hI : XInv S) (hj : x1 < S.2.2.2 7 0) (hk : S.2.2.2 0 x1 = 1 ∨ S.2.2.2 0 x1 = 3) (h12 : nI (S.2.2.2 1 x1) = 12) (hhr : 1 ≤ x2 ∧ x2 ≤ 12) (hi3 : 0 ≤ y3_2) (hJ0 : XInv S_2) (hM0 : S_2.2.2.2 = S.2.2.2) (hB0 : S_2.2.2.1 = S.2.2.1) (h144 : y3_2 ≤ 144) (hC0 : (∀ i : Nat, i < (y3_2 : Int32).toNatClampNeg → S_2.1 8 i = if i = 13 * gx x2 then 0 else -9)) (c1 : ¬ 144 ≤ y3_2) (c2 : ¬ y3_2 = (13 * (x2 - 1))) : 0 ≤ y3_2 ∧ y3_2 < 144 := by 
  clear hC0
  have bl_x2 := Int32.toInt_lt x2
  have bl_y3_2 := Int32.toInt_lt y3_2
  try simp only [i_le, i_lt, i_eq, Int32.reduceToInt] at *
  first | (have e_0 := s32 (x := x2) (y := 1) (by (try simp only [Int32.reduceToInt]); omega); (try simp only [Int32.reduceToInt] at e_0)) | skip
  first | (have e_1 := m32 (x := 13) (y := (x2 - 1)) (by (try simp only [Int32.reduceToInt]); omega); (try simp only [Int32.reduceToInt] at e_1)) | skip
  try simp only [Int32.reduceToInt] at *
  omega
theorem x_layCosts_o4 (S : XS) (x1 : Nat) (x2 : Int32) (y3_2 : Int32) (S_2 : XS) (hI : XInv S) (hj : x1 < S.2.2.2 7 0) (hk : S.2.2.2 0 x1 = 1 ∨ S.2.2.2 0 x1 = 3) (h12 : nI (S.2.2.2 1 x1) = 12) (hhr : 1 ≤ x2 ∧ x2 ≤ 12) (hi3 : 0 ≤ y3_2) (hJ0 : XInv S_2) (hM0 : S_2.2.2.2 = S.2.2.2) (hB0 : S_2.2.2.1 = S.2.2.1) (h144 : y3_2 ≤ 144) (hC0 : (∀ i : Nat, i < (y3_2 : Int32).toNatClampNeg → S_2.1 8 i = if i = 13 * gx x2 then 0 else -9)) (c1 : ¬ 144 ≤ y3_2) (c2 : y3_2 = (13 * (x2 - 1))) : 0 ≤ y3_2 ∧ y3_2 < 144 := by 
  clear hC0
  have bl_x2 := Int32.toInt_lt x2
  have bl_y3_2 := Int32.toInt_lt y3_2
  try simp only [i_le, i_lt, i_eq, Int32.reduceToInt] at *
  first | (have e_0 := s32 (x := x2) (y := 1) (by (try simp only [Int32.reduceToInt]); omega); (try simp only [Int32.reduceToInt] at e_0)) | skip
  first | (have e_1 := m32 (x := 13) (y := (x2 - 1)) (by (try simp only [Int32.reduceToInt]); omega); (try simp only [Int32.reduceToInt] at e_1)) | skip
  try simp only [Int32.reduceToInt] at *
  omega
def x_layCosts_L2 (x2 : Int32) : Nat → Int32 → XS → Int32 × XS
  | 0, y3_2, S_2 => (y3_2, S_2)
  | f2 + 1, y3_2, S_2 => (if 144 ≤ y3_2 then (y3_2, S_2) else (if y3_2 = (13 * (x2 - 1)) then (x_layCosts_L2 x2 f2 (y3_2 + 1) (xu S_2 8 (Int32.toNatClampNeg y3_2) 0)) else (x_layCosts_L2 x2 f2 (y3_2 + 1) (xu S_2 8 (Int32.toNatClampNeg y3_2) (-9)))))
theorem x_layCosts_L2_s (x2 : Int32) (f2 : Nat) (y3_2 : Int32) (S_2 : XS) : x_layCosts_L2 x2 (f2 + 1) y3_2 S_2 = (if 144 ≤ y3_2 then (y3_2, S_2) else (if y3_2 = (13 * (x2 - 1)) then (x_layCosts_L2 x2 f2 (y3_2 + 1) (xu S_2 8 (Int32.toNatClampNeg y3_2) 0)) else (x_layCosts_L2 x2 f2 (y3_2 + 1) (xu S_2 8 (Int32.toNatClampNeg y3_2) (-9))))) := rfl
def x_layCosts_R2 (S : XS) (x2 : Int32) : Int32 × XS := x_layCosts_L2 x2 (fz ((144 - 0 : Int32).toNatClampNeg + 1)) 0 S
theorem x_layCosts_o5 (S : XS) (x1 : Nat) (x2 : Int32) (y3_2 : Int32) (S_2 : XS) (hI : XInv S) (hj : x1 < S.2.2.2 7 0) (hk : S.2.2.2 0 x1 = 1 ∨ S.2.2.2 0 x1 = 3) (h12 : nI (S.2.2.2 1 x1) = 12) (hhr : 1 ≤ x2 ∧ x2 ≤ 12) (hi3 : 0 ≤ y3_2) (hJ0 : XInv S_2) (hM0 : S_2.2.2.2 = S.2.2.2) (hB0 : S_2.2.2.1 = S.2.2.1) (h144 : y3_2 ≤ 144) (hC0 : (∀ i : Nat, i < (y3_2 : Int32).toNatClampNeg → S_2.1 8 i = if i = 13 * gx x2 then 0 else -9)) (c1 : ¬ 144 ≤ y3_2) (c2 : y3_2 = (13 * (x2 - 1))) : 0 ≤ (y3_2 + 1) := by 
  clear hC0
  have bl_x2 := Int32.toInt_lt x2
  have bl_y3_2 := Int32.toInt_lt y3_2
  try simp only [i_le, i_lt, i_eq, Int32.reduceToInt] at *
  first | (have e_0 := s32 (x := x2) (y := 1) (by (try simp only [Int32.reduceToInt]); omega); (try simp only [Int32.reduceToInt] at e_0)) | skip
  first | (have e_1 := m32 (x := 13) (y := (x2 - 1)) (by (try simp only [Int32.reduceToInt]); omega); (try simp only [Int32.reduceToInt] at e_1)) | skip
  first | (have e_2 := a32 (x := y3_2) (y := 1) (by (try simp only [Int32.reduceToInt]); omega); (try simp only [Int32.reduceToInt] at e_2)) | skip
  try simp only [Int32.reduceToInt] at *
  omega
theorem x_layCosts_o6 (S : XS) (x1 : Nat) (x2 : Int32) (y3_2 : Int32) (S_2 : XS) (hI : XInv S) (hj : x1 < S.2.2.2 7 0) (hk : S.2.2.2 0 x1 = 1 ∨ S.2.2.2 0 x1 = 3) (h12 : nI (S.2.2.2 1 x1) = 12) (hhr : 1 ≤ x2 ∧ x2 ≤ 12) (hi3 : 0 ≤ y3_2) (hJ0 : XInv S_2) (hM0 : S_2.2.2.2 = S.2.2.2) (hB0 : S_2.2.2.1 = S.2.2.1) (h144 : y3_2 ≤ 144) (hC0 : (∀ i : Nat, i < (y3_2 : Int32).toNatClampNeg → S_2.1 8 i = if i = 13 * gx x2 then 0 else -9)) (c1 : ¬ 144 ≤ y3_2) (c2 : y3_2 = (13 * (x2 - 1))) : (y3_2 + 1) ≤ 144 := by 
  clear hC0
  have bl_x2 := Int32.toInt_lt x2
  have bl_y3_2 := Int32.toInt_lt y3_2
  try simp only [i_le, i_lt, i_eq, Int32.reduceToInt] at *
  first | (have e_0 := s32 (x := x2) (y := 1) (by (try simp only [Int32.reduceToInt]); omega); (try simp only [Int32.reduceToInt] at e_0)) | skip
  first | (have e_1 := m32 (x := 13) (y := (x2 - 1)) (by (try simp only [Int32.reduceToInt]); omega); (try simp only [Int32.reduceToInt] at e_1)) | skip
  first | (have e_2 := a32 (x := y3_2) (y := 1) (by (try simp only [Int32.reduceToInt]); omega); (try simp only [Int32.reduceToInt] at e_2)) | skip
  try simp only [Int32.reduceToInt] at *
  omega
theorem x_layCosts_o7 (S : XS) (x1 : Nat) (x2 : Int32) (y3_2 : Int32) (S_2 : XS) (hI : XInv S) (hj : x1 < S.2.2.2 7 0) (hk : S.2.2.2 0 x1 = 1 ∨ S.2.2.2 0 x1 = 3) (h12 : nI (S.2.2.2 1 x1) = 12) (hhr : 1 ≤ x2 ∧ x2 ≤ 12) (hi3 : 0 ≤ y3_2) (hJ0 : XInv S_2) (hM0 : S_2.2.2.2 = S.2.2.2) (hB0 : S_2.2.2.1 = S.2.2.1) (h144 : y3_2 ≤ 144) (hC0 : (∀ i : Nat, i < (y3_2 : Int32).toNatClampNeg → S_2.1 8 i = if i = 13 * gx x2 then 0 else -9)) (c1 : ¬ 144 ≤ y3_2) (c2 : y3_2 = (13 * (x2 - 1))) : y3_2 < 144 := by 
  clear hC0
  have bl_x2 := Int32.toInt_lt x2
  have bl_y3_2 := Int32.toInt_lt y3_2
  try simp only [i_le, i_lt, i_eq, Int32.reduceToInt] at *
  first | (have e_0 := s32 (x := x2) (y := 1) (by (try simp only [Int32.reduceToInt]); omega); (try simp only [Int32.reduceToInt] at e_0)) | skip
  first | (have e_1 := m32 (x := 13) (y := (x2 - 1)) (by (try simp only [Int32.reduceToInt]); omega); (try simp only [Int32.reduceToInt] at e_1)) | skip
  try simp only [Int32.reduceToInt] at *
  omega
theorem x_layCosts_o8 (S : XS) (x1 : Nat) (x2 : Int32) (y3_2 : Int32) (S_2 : XS) (hI : XInv S) (hj : x1 < S.2.2.2 7 0) (hk : S.2.2.2 0 x1 = 1 ∨ S.2.2.2 0 x1 = 3) (h12 : nI (S.2.2.2 1 x1) = 12) (hhr : 1 ≤ x2 ∧ x2 ≤ 12) (hi3 : 0 ≤ y3_2) (hJ0 : XInv S_2) (hM0 : S_2.2.2.2 = S.2.2.2) (hB0 : S_2.2.2.1 = S.2.2.1) (h144 : y3_2 ≤ 144) (hC0 : (∀ i : Nat, i < (y3_2 : Int32).toNatClampNeg → S_2.1 8 i = if i = 13 * gx x2 then 0 else -9)) (c1 : ¬ 144 ≤ y3_2) (c2 : ¬ y3_2 = (13 * (x2 - 1))) : 0 ≤ (y3_2 + 1) := by 
  clear hC0
  have bl_x2 := Int32.toInt_lt x2
  have bl_y3_2 := Int32.toInt_lt y3_2
  try simp only [i_le, i_lt, i_eq, Int32.reduceToInt] at *
  first | (have e_0 := s32 (x := x2) (y := 1) (by (try simp only [Int32.reduceToInt]); omega); (try simp only [Int32.reduceToInt] at e_0)) | skip
  first | (have e_1 := m32 (x := 13) (y := (x2 - 1)) (by (try simp only [Int32.reduceToInt]); omega); (try simp only [Int32.reduceToInt] at e_1)) | skip
  first | (have e_2 := a32 (x := y3_2) (y := 1) (by (try simp only [Int32.reduceToInt]); omega); (try simp only [Int32.reduceToInt] at e_2)) | skip
  try simp only [Int32.reduceToInt] at *
  omega
theorem x_layCosts_o9 (S : XS) (x1 : Nat) (x2 : Int32) (y3_2 : Int32) (S_2 : XS) (hI : XInv S) (hj : x1 < S.2.2.2 7 0) (hk : S.2.2.2 0 x1 = 1 ∨ S.2.2.2 0 x1 = 3) (h12 : nI (S.2.2.2 1 x1) = 12) (hhr : 1 ≤ x2 ∧ x2 ≤ 12) (hi3 : 0 ≤ y3_2) (hJ0 : XInv S_2) (hM0 : S_2.2.2.2 = S.2.2.2) (hB0 : S_2.2.2.1 = S.2.2.1) (h144 : y3_2 ≤ 144) (hC0 : (∀ i : Nat, i < (y3_2 : Int32).toNatClampNeg → S_2.1 8 i = if i = 13 * gx x2 then 0 else -9)) (c1 : ¬ 144 ≤ y3_2) (c2 : ¬ y3_2 = (13 * (x2 - 1))) : (y3_2 + 1) ≤ 144 := by 
  clear hC0
  have bl_x2 := Int32.toInt_lt x2
  have bl_y3_2 := Int32.toInt_lt y3_2
  try simp only [i_le, i_lt, i_eq, Int32.reduceToInt] at *
  first | (have e_0 := s32 (x := x2) (y := 1) (by (try simp only [Int32.reduceToInt]); omega); (try simp only [Int32.reduceToInt] at e_0)) | skip
  first | (have e_1 := m32 (x := 13) (y := (x2 - 1)) (by (try simp only [Int32.reduceToInt]); omega); (try simp only [Int32.reduceToInt] at e_1)) | skip
  first | (have e_2 := a32 (x := y3_2) (y := 1) (by (try simp only [Int32.reduceToInt]); omega); (try simp only [Int32.reduceToInt] at e_2)) | skip
  try simp only [Int32.reduceToInt] at *
  omega
theorem x_layCosts_o10 (S : XS) (x1 : Nat) (x2 : Int32) (y3_2 : Int32) (S_2 : XS) (hI : XInv S) (hj : x1 < S.2.2.2 7 0) (hk : S.2.2.2 0 x1 = 1 ∨ S.2.2.2 0 x1 = 3) (h12 : nI (S.2.2.2 1 x1) = 12) (hhr : 1 ≤ x2 ∧ x2 ≤ 12) (hi3 : 0 ≤ y3_2) (hJ0 : XInv S_2) (hM0 : S_2.2.2.2 = S.2.2.2) (hB0 : S_2.2.2.1 = S.2.2.1) (h144 : y3_2 ≤ 144) (hC0 : (∀ i : Nat, i < (y3_2 : Int32).toNatClampNeg → S_2.1 8 i = if i = 13 * gx x2 then 0 else -9)) (c1 : ¬ 144 ≤ y3_2) (c2 : ¬ y3_2 = (13 * (x2 - 1))) : y3_2 < 144 := by 
  clear hC0
  have bl_x2 := Int32.toInt_lt x2
  have bl_y3_2 := Int32.toInt_lt y3_2
  try simp only [i_le, i_lt, i_eq, Int32.reduceToInt] at *
  first | (have e_0 := s32 (x := x2) (y := 1) (by (try simp only [Int32.reduceToInt]); omega); (try simp only [Int32.reduceToInt] at e_0)) | skip
  first | (have e_1 := m32 (x := 13) (y := (x2 - 1)) (by (try simp only [Int32.reduceToInt]); omega); (try simp only [Int32.reduceToInt] at e_1)) | skip
  try simp only [Int32.reduceToInt] at *
  omega
theorem x_layCosts_L2_P (S : XS) (x1 : Nat) (x2 : Int32) (hI : XInv S) (hj : x1 < S.2.2.2 7 0) (hk : S.2.2.2 0 x1 = 1 ∨ S.2.2.2 0 x1 = 3) (h12 : nI (S.2.2.2 1 x1) = 12) (hhr : 1 ≤ x2 ∧ x2 ≤ 12) : ∀ (f2 : Nat) (y3_2 : Int32) (S_2 : XS), (144 - y3_2 : Int32).toNatClampNeg < f2 → (0 ≤ y3_2) → (XInv S_2) → (S_2.2.2.2 = S.2.2.2) → (S_2.2.2.1 = S.2.2.1) → (y3_2 ≤ 144) → ((∀ i : Nat, i < (y3_2 : Int32).toNatClampNeg → S_2.1 8 i = if i = 13 * gx x2 then 0 else -9)) → (XInv (x_layCosts_L2 x2 f2 y3_2 S_2).2) ∧ ((x_layCosts_L2 x2 f2 y3_2 S_2).2.2.2.2 = S.2.2.2) ∧ ((x_layCosts_L2 x2 f2 y3_2 S_2).2.2.2.1 = S.2.2.1) ∧ (VIc (wx S x1) (gx x2) ((x_layCosts_L2 x2 f2 y3_2 S_2).2.1 8)) := by
  intro f2
  induction f2 with
  | zero =>
    intro y3_2 S_2 hf hi3 hJ0 hM0 hB0 h144 hC0
    exact absurd hf (Nat.not_lt_zero _)
  | succ f2 ih =>
    intro y3_2 S_2 hf hi3 hJ0 hM0 hB0 h144 hC0
    rw [x_layCosts_L2_s]
    refine ifI (P := fun (z : Int32 × XS) => (XInv z.2) ∧ (z.2.2.2.2 = S.2.2.2) ∧ (z.2.2.2.1 = S.2.2.1) ∧ (VIc (wx S x1) (gx x2) (z.2.1 8))) (fun c1 => ?_) (fun c1 => ?_)
    · exact ⟨hJ0, hM0, hB0, lay_0 _ (gx_lt hhr).1 (fun i h => hC0 i (Nat.lt_of_lt_of_le h (ge144 (by assumption))))⟩
    · refine ifI (P := fun (z : Int32 × XS) => (XInv z.2) ∧ (z.2.2.2.2 = S.2.2.2) ∧ (z.2.2.2.1 = S.2.2.1) ∧ (VIc (wx S x1) (gx x2) (z.2.1 8))) (fun c2 => ?_) (fun c2 => ?_)
      · exact ih (y3_2 + 1) (xu S_2 8 (Int32.toNatClampNeg y3_2) 0) (Nat.lt_of_lt_of_le (up_ hi3 (x_layCosts_o7 S x1 x2 y3_2 S_2 hI hj hk h12 hhr hi3 hJ0 hM0 hB0 h144 hC0 c1 c2)) (Nat.le_of_lt_succ hf)) (x_layCosts_o5 S x1 x2 y3_2 S_2 hI hj hk h12 hhr hi3 hJ0 hM0 hB0 h144 hC0 c1 c2) ((XInv_xu hJ0 _ _ _ (by decide))) (hM0) (hB0) (x_layCosts_o6 S x1 x2 y3_2 S_2 hI hj hk h12 hhr hi3 hJ0 hM0 hB0 h144 hC0 c1 c2) (lay_s hhr hi3 (Int32.not_le.mp (by assumption)) hC0 (by first | exact Or.inl ⟨by assumption, rfl⟩ | exact Or.inr ⟨by assumption, rfl⟩))
      · exact ih (y3_2 + 1) (xu S_2 8 (Int32.toNatClampNeg y3_2) (-9)) (Nat.lt_of_lt_of_le (up_ hi3 (x_layCosts_o10 S x1 x2 y3_2 S_2 hI hj hk h12 hhr hi3 hJ0 hM0 hB0 h144 hC0 c1 c2)) (Nat.le_of_lt_succ hf)) (x_layCosts_o8 S x1 x2 y3_2 S_2 hI hj hk h12 hhr hi3 hJ0 hM0 hB0 h144 hC0 c1 c2) ((XInv_xu hJ0 _ _ _ (by decide))) (hM0) (hB0) (x_layCosts_o9 S x1 x2 y3_2 S_2 hI hj hk h12 hhr hi3 hJ0 hM0 hB0 h144 hC0 c1 c2) (lay_s hhr hi3 (Int32.not_le.mp (by assumption)) hC0 (by first | exact Or.inl ⟨by assumption, rfl⟩ | exact Or.inr ⟨by assumption, rfl⟩))
theorem x_layCosts_R2_P (S : XS) (x1 : Nat) (x2 : Int32) (hI : XInv S) (hj : x1 < S.2.2.2 7 0) (hk : S.2.2.2 0 x1 = 1 ∨ S.2.2.2 0 x1 = 3) (h12 : nI (S.2.2.2 1 x1) = 12) (hhr : 1 ≤ x2 ∧ x2 ≤ 12) : (XInv (x_layCosts_R2 S x2).2) ∧ ((x_layCosts_R2 S x2).2.2.2.2 = S.2.2.2) ∧ ((x_layCosts_R2 S x2).2.2.2.1 = S.2.2.1) ∧ (VIc (wx S x1) (gx x2) ((x_layCosts_R2 S x2).2.1 8)) := by
  unfold x_layCosts_R2
  exact x_layCosts_L2_P S x1 x2 hI hj hk h12 hhr (fz ((144 - 0 : Int32).toNatClampNeg + 1)) 0 S (fz_lt _) (by decide) (hI) (rfl) (rfl) (by decide) (fun i h => absurd h (Nat.not_lt_zero i))
theorem x_layCosts_o14 (S : XS) (x1 : Nat) (x2 : Int32) (y3_39 : Int32) (S_39 : XS) (y3_48 : Int32) (y4_48 : Int32) (S_48 : XS) (y3_59 : Int32) (y5_59 : Int32) (S_59 : XS) (hI : XInv S) (hj : x1 < S.2.2.2 7 0) (hk : S.2.2.2 0 x1 = 1 ∨ S.2.2.2 0 x1 = 3) (h12 : nI (S.2.2.2 1 x1) = 12) (hhr : 1 ≤ x2 ∧ x2 ≤ 12) (hJ0p : XInv (x_layCosts_R2 S x2).2) (hM0p : (x_layCosts_R2 S x2).2.2.2.2 = S.2.2.2) (hB0p : (x_layCosts_R2 S x2).2.2.2.1 = S.2.2.1) (hZ0p : VIc (wx S x1) (gx x2) ((x_layCosts_R2 S x2).2.1 8)) (hJ1 : XInv S_39) (hM1 : S_39.2.2.2 = S.2.2.2) (hB1 : S_39.2.2.1 = S.2.2.1) (hZ1 : VIc (wx S x1) (gx x2) (S_39.1 8)) (hb1 : y3_39 = 0 ∨ y3_39 = 1) (hF1 : (y3_39 = 0 → ∀ k a : Nat, k < 144 → a < 3 → NIc (wx S x1) (S_39.1 8) k a)) (c11 : ¬ y3_39 = 0) (hi4 : 0 ≤ y4_48) (hJ2 : XInv S_48) (hM2 : S_48.2.2.2 = S.2.2.2) (hB2 : S_48.2.2.1 = S.2.2.1) (hZ2 : VIc (wx S x1) (gx x2) (S_48.1 8)) (hb2 : y3_48 = 0 ∨ y3_48 = 1) (h44 : y4_48 ≤ 144) (hc2 : csX (S_48.1 8) 144 + (y3_48 : Int32).toNatClampNeg ≤ csX (S_39.1 8) 144) (hF2 : (y3_48 = 0 → ∀ k a : Nat, k < (y4_48 : Int32).toNatClampNeg → a < 3 → NIc (wx S x1) (S_48.1 8) k a)) (c12 : ¬ 144 ≤ y4_48) (hi5 : 0 ≤ y5_59) (hJ3 : XInv S_59) (hM3 : S_59.2.2.2 = S.2.2.2) (hB3 : S_59.2.2.1 = S.2.2.1) (hZ3 : VIc (wx S x1) (gx x2) (S_59.1 8)) (hb3 : y3_59 = 0 ∨ y3_59 = 1) (h55 : y5_59 ≤ 3) (hc3 : csX (S_59.1 8) 144 + (y3_59 : Int32).toNatClampNeg ≤ csX (S_39.1 8) 144) (hF3 : (y3_59 = 0 → (∀ k a : Nat, k < (y4_48 : Int32).toNatClampNeg → a < 3 → NIc (wx S x1) (S_59.1 8) k a) ∧ ∀ a : Nat, a < (y5_59 : Int32).toNatClampNeg → NIc (wx S x1) (S_59.1 8) (y4_48 : Int32).toNatClampNeg a)) (c13 : ¬ 3 ≤ y5_59) : 0 ≤ y4_48 ∧ y4_48 < 144 := by 
  clear hc2 hF2 hc3 hF3
  have bl_x2 := Int32.toInt_lt x2
  have bl_y3_39 := Int32.toInt_lt y3_39
  have bl_y3_48 := Int32.toInt_lt y3_48
  have bl_y4_48 := Int32.toInt_lt y4_48
  have bl_y3_59 := Int32.toInt_lt y3_59
  have bl_y5_59 := Int32.toInt_lt y5_59
  try simp only [i_le, i_lt, i_eq, Int32.reduceToInt] at *
  try simp only [Int32.reduceToInt] at *
  omega
theorem x_layCosts_o15 (S : XS) (x1 : Nat) (x2 : Int32) (y3_39 : Int32) (S_39 : XS) (y3_48 : Int32) (y4_48 : Int32) (S_48 : XS) (y3_59 : Int32) (y5_59 : Int32) (S_59 : XS) (hI : XInv S) (hj : x1 < S.2.2.2 7 0) (hk : S.2.2.2 0 x1 = 1 ∨ S.2.2.2 0 x1 = 3) (h12 : nI (S.2.2.2 1 x1) = 12) (hhr : 1 ≤ x2 ∧ x2 ≤ 12) (hJ0p : XInv (x_layCosts_R2 S x2).2) (hM0p : (x_layCosts_R2 S x2).2.2.2.2 = S.2.2.2) (hB0p : (x_layCosts_R2 S x2).2.2.2.1 = S.2.2.1) (hZ0p : VIc (wx S x1) (gx x2) ((x_layCosts_R2 S x2).2.1 8)) (hJ1 : XInv S_39) (hM1 : S_39.2.2.2 = S.2.2.2) (hB1 : S_39.2.2.1 = S.2.2.1) (hZ1 : VIc (wx S x1) (gx x2) (S_39.1 8)) (hb1 : y3_39 = 0 ∨ y3_39 = 1) (hF1 : (y3_39 = 0 → ∀ k a : Nat, k < 144 → a < 3 → NIc (wx S x1) (S_39.1 8) k a)) (c11 : ¬ y3_39 = 0) (hi4 : 0 ≤ y4_48) (hJ2 : XInv S_48) (hM2 : S_48.2.2.2 = S.2.2.2) (hB2 : S_48.2.2.1 = S.2.2.1) (hZ2 : VIc (wx S x1) (gx x2) (S_48.1 8)) (hb2 : y3_48 = 0 ∨ y3_48 = 1) (h44 : y4_48 ≤ 144) (hc2 : csX (S_48.1 8) 144 + (y3_48 : Int32).toNatClampNeg ≤ csX (S_39.1 8) 144) (hF2 : (y3_48 = 0 → ∀ k a : Nat, k < (y4_48 : Int32).toNatClampNeg → a < 3 → NIc (wx S x1) (S_48.1 8) k a)) (c12 : ¬ 144 ≤ y4_48) (hi5 : 0 ≤ y5_59) (hJ3 : XInv S_59) (hM3 : S_59.2.2.2 = S.2.2.2) (hB3 : S_59.2.2.1 = S.2.2.1) (hZ3 : VIc (wx S x1) (gx x2) (S_59.1 8)) (hb3 : y3_59 = 0 ∨ y3_59 = 1) (h55 : y5_59 ≤ 3) (hc3 : csX (S_59.1 8) 144 + (y3_59 : Int32).toNatClampNeg ≤ csX (S_39.1 8) 144) (hF3 : (y3_59 = 0 → (∀ k a : Nat, k < (y4_48 : Int32).toNatClampNeg → a < 3 → NIc (wx S x1) (S_59.1 8) k a) ∧ ∀ a : Nat, a < (y5_59 : Int32).toNatClampNeg → NIc (wx S x1) (S_59.1 8) (y4_48 : Int32).toNatClampNeg a)) (c13 : ¬ 3 ≤ y5_59) (h4r : 0 ≤ y4_48 ∧ y4_48 < 144) : 0 ≤ y5_59 ∧ y5_59 < 3 := by 
  clear hc2 hF2 hc3 hF3
  have bl_x2 := Int32.toInt_lt x2
  have bl_y3_39 := Int32.toInt_lt y3_39
  have bl_y3_48 := Int32.toInt_lt y3_48
  have bl_y4_48 := Int32.toInt_lt y4_48
  have bl_y3_59 := Int32.toInt_lt y3_59
  have bl_y5_59 := Int32.toInt_lt y5_59
  try simp only [i_le, i_lt, i_eq, Int32.reduceToInt] at *
  try simp only [Int32.reduceToInt] at *
  omega
def x_layCosts_L59 (x1 : Nat) (y4_48 : Int32) : Nat → Int32 → Int32 → XS → Int32 × Int32 × XS
  | 0, y3_59, y5_59, S_59 => (y3_59, y5_59, S_59)
  | f59 + 1, y3_59, y5_59, S_59 => (if 3 ≤ y5_59 then (y3_59, y5_59, S_59) else (if (x_throughOf S_59 x1 y4_48 y5_59) < 0 then (x_layCosts_L59 x1 y4_48 f59 y3_59 (y5_59 + 1) S_59) else (if (S_59.1 8 (Int32.toNatClampNeg y4_48)) < 0 then (x_layCosts_L59 x1 y4_48 f59 1 (y5_59 + 1) (xu S_59 8 (Int32.toNatClampNeg y4_48) (x_throughOf S_59 x1 y4_48 y5_59))) else (if (S_59.1 8 (Int32.toNatClampNeg y4_48)) ≤ (x_throughOf S_59 x1 y4_48 y5_59) then (x_layCosts_L59 x1 y4_48 f59 y3_59 (y5_59 + 1) S_59) else (x_layCosts_L59 x1 y4_48 f59 1 (y5_59 + 1) (xu S_59 8 (Int32.toNatClampNeg y4_48) (x_throughOf S_59 x1 y4_48 y5_59)))))))
theorem x_layCosts_L59_s (x1 : Nat) (y4_48 : Int32) (f59 : Nat) (y3_59 : Int32) (y5_59 : Int32) (S_59 : XS) : x_layCosts_L59 x1 y4_48 (f59 + 1) y3_59 y5_59 S_59 = (if 3 ≤ y5_59 then (y3_59, y5_59, S_59) else (if (x_throughOf S_59 x1 y4_48 y5_59) < 0 then (x_layCosts_L59 x1 y4_48 f59 y3_59 (y5_59 + 1) S_59) else (if (S_59.1 8 (Int32.toNatClampNeg y4_48)) < 0 then (x_layCosts_L59 x1 y4_48 f59 1 (y5_59 + 1) (xu S_59 8 (Int32.toNatClampNeg y4_48) (x_throughOf S_59 x1 y4_48 y5_59))) else (if (S_59.1 8 (Int32.toNatClampNeg y4_48)) ≤ (x_throughOf S_59 x1 y4_48 y5_59) then (x_layCosts_L59 x1 y4_48 f59 y3_59 (y5_59 + 1) S_59) else (x_layCosts_L59 x1 y4_48 f59 1 (y5_59 + 1) (xu S_59 8 (Int32.toNatClampNeg y4_48) (x_throughOf S_59 x1 y4_48 y5_59))))))) := rfl
def x_layCosts_R59 (x1 : Nat) (y3_48 : Int32) (y4_48 : Int32) (S_48 : XS) : Int32 × Int32 × XS := x_layCosts_L59 x1 y4_48 (fz ((3 - 0 : Int32).toNatClampNeg + 1)) y3_48 0 S_48
theorem x_layCosts_o19 (S : XS) (x1 : Nat) (x2 : Int32) (y3_39 : Int32) (S_39 : XS) (y3_48 : Int32) (y4_48 : Int32) (S_48 : XS) (y3_59 : Int32) (y5_59 : Int32) (S_59 : XS) (hI : XInv S) (hj : x1 < S.2.2.2 7 0) (hk : S.2.2.2 0 x1 = 1 ∨ S.2.2.2 0 x1 = 3) (h12 : nI (S.2.2.2 1 x1) = 12) (hhr : 1 ≤ x2 ∧ x2 ≤ 12) (hJ0p : XInv (x_layCosts_R2 S x2).2) (hM0p : (x_layCosts_R2 S x2).2.2.2.2 = S.2.2.2) (hB0p : (x_layCosts_R2 S x2).2.2.2.1 = S.2.2.1) (hZ0p : VIc (wx S x1) (gx x2) ((x_layCosts_R2 S x2).2.1 8)) (hJ1 : XInv S_39) (hM1 : S_39.2.2.2 = S.2.2.2) (hB1 : S_39.2.2.1 = S.2.2.1) (hZ1 : VIc (wx S x1) (gx x2) (S_39.1 8)) (hb1 : y3_39 = 0 ∨ y3_39 = 1) (hF1 : (y3_39 = 0 → ∀ k a : Nat, k < 144 → a < 3 → NIc (wx S x1) (S_39.1 8) k a)) (c11 : ¬ y3_39 = 0) (hi4 : 0 ≤ y4_48) (hJ2 : XInv S_48) (hM2 : S_48.2.2.2 = S.2.2.2) (hB2 : S_48.2.2.1 = S.2.2.1) (hZ2 : VIc (wx S x1) (gx x2) (S_48.1 8)) (hb2 : y3_48 = 0 ∨ y3_48 = 1) (h44 : y4_48 ≤ 144) (hc2 : csX (S_48.1 8) 144 + (y3_48 : Int32).toNatClampNeg ≤ csX (S_39.1 8) 144) (hF2 : (y3_48 = 0 → ∀ k a : Nat, k < (y4_48 : Int32).toNatClampNeg → a < 3 → NIc (wx S x1) (S_48.1 8) k a)) (c12 : ¬ 144 ≤ y4_48) (hi5 : 0 ≤ y5_59) (hJ3 : XInv S_59) (hM3 : S_59.2.2.2 = S.2.2.2) (hB3 : S_59.2.2.1 = S.2.2.1) (hZ3 : VIc (wx S x1) (gx x2) (S_59.1 8)) (hb3 : y3_59 = 0 ∨ y3_59 = 1) (h55 : y5_59 ≤ 3) (hc3 : csX (S_59.1 8) 144 + (y3_59 : Int32).toNatClampNeg ≤ csX (S_39.1 8) 144) (hF3 : (y3_59 = 0 → (∀ k a : Nat, k < (y4_48 : Int32).toNatClampNeg → a < 3 → NIc (wx S x1) (S_59.1 8) k a) ∧ ∀ a : Nat, a < (y5_59 : Int32).toNatClampNeg → NIc (wx S x1) (S_59.1 8) (y4_48 : Int32).toNatClampNeg a)) (c13 : ¬ 3 ≤ y5_59) (h4r : 0 ≤ y4_48 ∧ y4_48 < 144) (h5r : 0 ≤ y5_59 ∧ y5_59 < 3) (c16 : (x_throughOf S_59 x1 y4_48 y5_59) < 0) : 0 ≤ (y5_59 + 1) := by 
  clear hc2 hF2 hc3 hF3
  have bl_x2 := Int32.toInt_lt x2
  have bl_y3_39 := Int32.toInt_lt y3_39
  have bl_y3_48 := Int32.toInt_lt y3_48
  have bl_y4_48 := Int32.toInt_lt y4_48
  have bl_y3_59 := Int32.toInt_lt y3_59
  have bl_y5_59 := Int32.toInt_lt y5_59
  try simp only [i_le, i_lt, i_eq, Int32.reduceToInt] at *
  first | (have e_0 := a32 (x := y5_59) (y := 1) (by (try simp only [Int32.reduceToInt]); omega); (try simp only [Int32.reduceToInt] at e_0)) | skip
  try simp only [Int32.reduceToInt] at *
  omega
theorem x_layCosts_o20 (S : XS) (x1 : Nat) (x2 : Int32) (y3_39 : Int32) (S_39 : XS) (y3_48 : Int32) (y4_48 : Int32) (S_48 : XS) (y3_59 : Int32) (y5_59 : Int32) (S_59 : XS) (hI : XInv S) (hj : x1 < S.2.2.2 7 0) (hk : S.2.2.2 0 x1 = 1 ∨ S.2.2.2 0 x1 = 3) (h12 : nI (S.2.2.2 1 x1) = 12) (hhr : 1 ≤ x2 ∧ x2 ≤ 12) (hJ0p : XInv (x_layCosts_R2 S x2).2) (hM0p : (x_layCosts_R2 S x2).2.2.2.2 = S.2.2.2) (hB0p : (x_layCosts_R2 S x2).2.2.2.1 = S.2.2.1) (hZ0p : VIc (wx S x1) (gx x2) ((x_layCosts_R2 S x2).2.1 8)) (hJ1 : XInv S_39) (hM1 : S_39.2.2.2 = S.2.2.2) (hB1 : S_39.2.2.1 = S.2.2.1) (hZ1 : VIc (wx S x1) (gx x2) (S_39.1 8)) (hb1 : y3_39 = 0 ∨ y3_39 = 1) (hF1 : (y3_39 = 0 → ∀ k a : Nat, k < 144 → a < 3 → NIc (wx S x1) (S_39.1 8) k a)) (c11 : ¬ y3_39 = 0) (hi4 : 0 ≤ y4_48) (hJ2 : XInv S_48) (hM2 : S_48.2.2.2 = S.2.2.2) (hB2 : S_48.2.2.1 = S.2.2.1) (hZ2 : VIc (wx S x1) (gx x2) (S_48.1 8)) (hb2 : y3_48 = 0 ∨ y3_48 = 1) (h44 : y4_48 ≤ 144) (hc2 : csX (S_48.1 8) 144 + (y3_48 : Int32).toNatClampNeg ≤ csX (S_39.1 8) 144) (hF2 : (y3_48 = 0 → ∀ k a : Nat, k < (y4_48 : Int32).toNatClampNeg → a < 3 → NIc (wx S x1) (S_48.1 8) k a)) (c12 : ¬ 144 ≤ y4_48) (hi5 : 0 ≤ y5_59) (hJ3 : XInv S_59) (hM3 : S_59.2.2.2 = S.2.2.2) (hB3 : S_59.2.2.1 = S.2.2.1) (hZ3 : VIc (wx S x1) (gx x2) (S_59.1 8)) (hb3 : y3_59 = 0 ∨ y3_59 = 1) (h55 : y5_59 ≤ 3) (hc3 : csX (S_59.1 8) 144 + (y3_59 : Int32).toNatClampNeg ≤ csX (S_39.1 8) 144) (hF3 : (y3_59 = 0 → (∀ k a : Nat, k < (y4_48 : Int32).toNatClampNeg → a < 3 → NIc (wx S x1) (S_59.1 8) k a) ∧ ∀ a : Nat, a < (y5_59 : Int32).toNatClampNeg → NIc (wx S x1) (S_59.1 8) (y4_48 : Int32).toNatClampNeg a)) (c13 : ¬ 3 ≤ y5_59) (h4r : 0 ≤ y4_48 ∧ y4_48 < 144) (h5r : 0 ≤ y5_59 ∧ y5_59 < 3) (c16 : (x_throughOf S_59 x1 y4_48 y5_59) < 0) : (y5_59 + 1) ≤ 3 := by 
  clear hc2 hF2 hc3 hF3
  have bl_x2 := Int32.toInt_lt x2
  have bl_y3_39 := Int32.toInt_lt y3_39
  have bl_y3_48 := Int32.toInt_lt y3_48
  have bl_y4_48 := Int32.toInt_lt y4_48
  have bl_y3_59 := Int32.toInt_lt y3_59
  have bl_y5_59 := Int32.toInt_lt y5_59
  try simp only [i_le, i_lt, i_eq, Int32.reduceToInt] at *
  first | (have e_0 := a32 (x := y5_59) (y := 1) (by (try simp only [Int32.reduceToInt]); omega); (try simp only [Int32.reduceToInt] at e_0)) | skip
  try simp only [Int32.reduceToInt] at *
  omega
theorem x_layCosts_o21 (S : XS) (x1 : Nat) (x2 : Int32) (y3_39 : Int32) (S_39 : XS) (y3_48 : Int32) (y4_48 : Int32) (S_48 : XS) (y3_59 : Int32) (y5_59 : Int32) (S_59 : XS) (hI : XInv S) (hj : x1 < S.2.2.2 7 0) (hk : S.2.2.2 0 x1 = 1 ∨ S.2.2.2 0 x1 = 3) (h12 : nI (S.2.2.2 1 x1) = 12) (hhr : 1 ≤ x2 ∧ x2 ≤ 12) (hJ0p : XInv (x_layCosts_R2 S x2).2) (hM0p : (x_layCosts_R2 S x2).2.2.2.2 = S.2.2.2) (hB0p : (x_layCosts_R2 S x2).2.2.2.1 = S.2.2.1) (hZ0p : VIc (wx S x1) (gx x2) ((x_layCosts_R2 S x2).2.1 8)) (hJ1 : XInv S_39) (hM1 : S_39.2.2.2 = S.2.2.2) (hB1 : S_39.2.2.1 = S.2.2.1) (hZ1 : VIc (wx S x1) (gx x2) (S_39.1 8)) (hb1 : y3_39 = 0 ∨ y3_39 = 1) (hF1 : (y3_39 = 0 → ∀ k a : Nat, k < 144 → a < 3 → NIc (wx S x1) (S_39.1 8) k a)) (c11 : ¬ y3_39 = 0) (hi4 : 0 ≤ y4_48) (hJ2 : XInv S_48) (hM2 : S_48.2.2.2 = S.2.2.2) (hB2 : S_48.2.2.1 = S.2.2.1) (hZ2 : VIc (wx S x1) (gx x2) (S_48.1 8)) (hb2 : y3_48 = 0 ∨ y3_48 = 1) (h44 : y4_48 ≤ 144) (hc2 : csX (S_48.1 8) 144 + (y3_48 : Int32).toNatClampNeg ≤ csX (S_39.1 8) 144) (hF2 : (y3_48 = 0 → ∀ k a : Nat, k < (y4_48 : Int32).toNatClampNeg → a < 3 → NIc (wx S x1) (S_48.1 8) k a)) (c12 : ¬ 144 ≤ y4_48) (hi5 : 0 ≤ y5_59) (hJ3 : XInv S_59) (hM3 : S_59.2.2.2 = S.2.2.2) (hB3 : S_59.2.2.1 = S.2.2.1) (hZ3 : VIc (wx S x1) (gx x2) (S_59.1 8)) (hb3 : y3_59 = 0 ∨ y3_59 = 1) (h55 : y5_59 ≤ 3) (hc3 : csX (S_59.1 8) 144 + (y3_59 : Int32).toNatClampNeg ≤ csX (S_39.1 8) 144) (hF3 : (y3_59 = 0 → (∀ k a : Nat, k < (y4_48 : Int32).toNatClampNeg → a < 3 → NIc (wx S x1) (S_59.1 8) k a) ∧ ∀ a : Nat, a < (y5_59 : Int32).toNatClampNeg → NIc (wx S x1) (S_59.1 8) (y4_48 : Int32).toNatClampNeg a)) (c13 : ¬ 3 ≤ y5_59) (h4r : 0 ≤ y4_48 ∧ y4_48 < 144) (h5r : 0 ≤ y5_59 ∧ y5_59 < 3) (c16 : (x_throughOf S_59 x1 y4_48 y5_59) < 0) : y5_59 < 3 := by 
  clear hc2 hF2 hc3 hF3
  have bl_x2 := Int32.toInt_lt x2
  have bl_y3_39 := Int32.toInt_lt y3_39
  have bl_y3_48 := Int32.toInt_lt y3_48
  have bl_y4_48 := Int32.toInt_lt y4_48
  have bl_y3_59 := Int32.toInt_lt y3_59
  have bl_y5_59 := Int32.toInt_lt y5_59
  try simp only [i_le, i_lt, i_eq, Int32.reduceToInt] at *
  try simp only [Int32.reduceToInt] at *
  omega
theorem x_layCosts_o22 (S : XS) (x1 : Nat) (x2 : Int32) (y3_39 : Int32) (S_39 : XS) (y3_48 : Int32) (y4_48 : Int32) (S_48 : XS) (y3_59 : Int32) (y5_59 : Int32) (S_59 : XS) (hI : XInv S) (hj : x1 < S.2.2.2 7 0) (hk : S.2.2.2 0 x1 = 1 ∨ S.2.2.2 0 x1 = 3) (h12 : nI (S.2.2.2 1 x1) = 12) (hhr : 1 ≤ x2 ∧ x2 ≤ 12) (hJ0p : XInv (x_layCosts_R2 S x2).2) (hM0p : (x_layCosts_R2 S x2).2.2.2.2 = S.2.2.2) (hB0p : (x_layCosts_R2 S x2).2.2.2.1 = S.2.2.1) (hZ0p : VIc (wx S x1) (gx x2) ((x_layCosts_R2 S x2).2.1 8)) (hJ1 : XInv S_39) (hM1 : S_39.2.2.2 = S.2.2.2) (hB1 : S_39.2.2.1 = S.2.2.1) (hZ1 : VIc (wx S x1) (gx x2) (S_39.1 8)) (hb1 : y3_39 = 0 ∨ y3_39 = 1) (hF1 : (y3_39 = 0 → ∀ k a : Nat, k < 144 → a < 3 → NIc (wx S x1) (S_39.1 8) k a)) (c11 : ¬ y3_39 = 0) (hi4 : 0 ≤ y4_48) (hJ2 : XInv S_48) (hM2 : S_48.2.2.2 = S.2.2.2) (hB2 : S_48.2.2.1 = S.2.2.1) (hZ2 : VIc (wx S x1) (gx x2) (S_48.1 8)) (hb2 : y3_48 = 0 ∨ y3_48 = 1) (h44 : y4_48 ≤ 144) (hc2 : csX (S_48.1 8) 144 + (y3_48 : Int32).toNatClampNeg ≤ csX (S_39.1 8) 144) (hF2 : (y3_48 = 0 → ∀ k a : Nat, k < (y4_48 : Int32).toNatClampNeg → a < 3 → NIc (wx S x1) (S_48.1 8) k a)) (c12 : ¬ 144 ≤ y4_48) (hi5 : 0 ≤ y5_59) (hJ3 : XInv S_59) (hM3 : S_59.2.2.2 = S.2.2.2) (hB3 : S_59.2.2.1 = S.2.2.1) (hZ3 : VIc (wx S x1) (gx x2) (S_59.1 8)) (hb3 : y3_59 = 0 ∨ y3_59 = 1) (h55 : y5_59 ≤ 3) (hc3 : csX (S_59.1 8) 144 + (y3_59 : Int32).toNatClampNeg ≤ csX (S_39.1 8) 144) (hF3 : (y3_59 = 0 → (∀ k a : Nat, k < (y4_48 : Int32).toNatClampNeg → a < 3 → NIc (wx S x1) (S_59.1 8) k a) ∧ ∀ a : Nat, a < (y5_59 : Int32).toNatClampNeg → NIc (wx S x1) (S_59.1 8) (y4_48 : Int32).toNatClampNeg a)) (c13 : ¬ 3 ≤ y5_59) (h4r : 0 ≤ y4_48 ∧ y4_48 < 144) (h5r : 0 ≤ y5_59 ∧ y5_59 < 3) (c16 : ¬ (x_throughOf S_59 x1 y4_48 y5_59) < 0) (c17 : (S_59.1 8 (Int32.toNatClampNeg y4_48)) < 0) : 0 ≤ (y5_59 + 1) := by 
  clear hc2 hF2 hc3 hF3
  have bl_x2 := Int32.toInt_lt x2
  have bl_y3_39 := Int32.toInt_lt y3_39
  have bl_y3_48 := Int32.toInt_lt y3_48
  have bl_y4_48 := Int32.toInt_lt y4_48
  have bl_y3_59 := Int32.toInt_lt y3_59
  have bl_y5_59 := Int32.toInt_lt y5_59
  try simp only [i_le, i_lt, i_eq, Int32.reduceToInt] at *
  first | (have e_0 := a32 (x := y5_59) (y := 1) (by (try simp only [Int32.reduceToInt]); omega); (try simp only [Int32.reduceToInt] at e_0)) | skip
  try simp only [Int32.reduceToInt] at *
  omega
theorem x_layCosts_o23 (S : XS) (x1 : Nat) (x2 : Int32) (y3_39 : Int32) (S_39 : XS) (y3_48 : Int32) (y4_48 : Int32) (S_48 : XS) (y3_59 : Int32) (y5_59 : Int32) (S_59 : XS) (hI : XInv S) (hj : x1 < S.2.2.2 7 0) (hk : S.2.2.2 0 x1 = 1 ∨ S.2.2.2 0 x1 = 3) (h12 : nI (S.2.2.2 1 x1) = 12) (hhr : 1 ≤ x2 ∧ x2 ≤ 12) (hJ0p : XInv (x_layCosts_R2 S x2).2) (hM0p : (x_layCosts_R2 S x2).2.2.2.2 = S.2.2.2) (hB0p : (x_layCosts_R2 S x2).2.2.2.1 = S.2.2.1) (hZ0p : VIc (wx S x1) (gx x2) ((x_layCosts_R2 S x2).2.1 8)) (hJ1 : XInv S_39) (hM1 : S_39.2.2.2 = S.2.2.2) (hB1 : S_39.2.2.1 = S.2.2.1) (hZ1 : VIc (wx S x1) (gx x2) (S_39.1 8)) (hb1 : y3_39 = 0 ∨ y3_39 = 1) (hF1 : (y3_39 = 0 → ∀ k a : Nat, k < 144 → a < 3 → NIc (wx S x1) (S_39.1 8) k a)) (c11 : ¬ y3_39 = 0) (hi4 : 0 ≤ y4_48) (hJ2 : XInv S_48) (hM2 : S_48.2.2.2 = S.2.2.2) (hB2 : S_48.2.2.1 = S.2.2.1) (hZ2 : VIc (wx S x1) (gx x2) (S_48.1 8)) (hb2 : y3_48 = 0 ∨ y3_48 = 1) (h44 : y4_48 ≤ 144) (hc2 : csX (S_48.1 8) 144 + (y3_48 : Int32).toNatClampNeg ≤ csX (S_39.1 8) 144) (hF2 : (y3_48 = 0 → ∀ k a : Nat, k < (y4_48 : Int32).toNatClampNeg → a < 3 → NIc (wx S x1) (S_48.1 8) k a)) (c12 : ¬ 144 ≤ y4_48) (hi5 : 0 ≤ y5_59) (hJ3 : XInv S_59) (hM3 : S_59.2.2.2 = S.2.2.2) (hB3 : S_59.2.2.1 = S.2.2.1) (hZ3 : VIc (wx S x1) (gx x2) (S_59.1 8)) (hb3 : y3_59 = 0 ∨ y3_59 = 1) (h55 : y5_59 ≤ 3) (hc3 : csX (S_59.1 8) 144 + (y3_59 : Int32).toNatClampNeg ≤ csX (S_39.1 8) 144) (hF3 : (y3_59 = 0 → (∀ k a : Nat, k < (y4_48 : Int32).toNatClampNeg → a < 3 → NIc (wx S x1) (S_59.1 8) k a) ∧ ∀ a : Nat, a < (y5_59 : Int32).toNatClampNeg → NIc (wx S x1) (S_59.1 8) (y4_48 : Int32).toNatClampNeg a)) (c13 : ¬ 3 ≤ y5_59) (h4r : 0 ≤ y4_48 ∧ y4_48 < 144) (h5r : 0 ≤ y5_59 ∧ y5_59 < 3) (c16 : ¬ (x_throughOf S_59 x1 y4_48 y5_59) < 0) (c17 : (S_59.1 8 (Int32.toNatClampNeg y4_48)) < 0) : (y5_59 + 1) ≤ 3 := by 
  clear hc2 hF2 hc3 hF3
  have bl_x2 := Int32.toInt_lt x2
  have bl_y3_39 := Int32.toInt_lt y3_39
  have bl_y3_48 := Int32.toInt_lt y3_48
  have bl_y4_48 := Int32.toInt_lt y4_48
  have bl_y3_59 := Int32.toInt_lt y3_59
  have bl_y5_59 := Int32.toInt_lt y5_59
  try simp only [i_le, i_lt, i_eq, Int32.reduceToInt] at *
  first | (have e_0 := a32 (x := y5_59) (y := 1) (by (try simp only [Int32.reduceToInt]); omega); (try simp only [Int32.reduceToInt] at e_0)) | skip
  try simp only [Int32.reduceToInt] at *
  omega
theorem x_layCosts_o24 (S : XS) (x1 : Nat) (x2 : Int32) (y3_39 : Int32) (S_39 : XS) (y3_48 : Int32) (y4_48 : Int32) (S_48 : XS) (y3_59 : Int32) (y5_59 : Int32) (S_59 : XS) (hI : XInv S) (hj : x1 < S.2.2.2 7 0) (hk : S.2.2.2 0 x1 = 1 ∨ S.2.2.2 0 x1 = 3) (h12 : nI (S.2.2.2 1 x1) = 12) (hhr : 1 ≤ x2 ∧ x2 ≤ 12) (hJ0p : XInv (x_layCosts_R2 S x2).2) (hM0p : (x_layCosts_R2 S x2).2.2.2.2 = S.2.2.2) (hB0p : (x_layCosts_R2 S x2).2.2.2.1 = S.2.2.1) (hZ0p : VIc (wx S x1) (gx x2) ((x_layCosts_R2 S x2).2.1 8)) (hJ1 : XInv S_39) (hM1 : S_39.2.2.2 = S.2.2.2) (hB1 : S_39.2.2.1 = S.2.2.1) (hZ1 : VIc (wx S x1) (gx x2) (S_39.1 8)) (hb1 : y3_39 = 0 ∨ y3_39 = 1) (hF1 : (y3_39 = 0 → ∀ k a : Nat, k < 144 → a < 3 → NIc (wx S x1) (S_39.1 8) k a)) (c11 : ¬ y3_39 = 0) (hi4 : 0 ≤ y4_48) (hJ2 : XInv S_48) (hM2 : S_48.2.2.2 = S.2.2.2) (hB2 : S_48.2.2.1 = S.2.2.1) (hZ2 : VIc (wx S x1) (gx x2) (S_48.1 8)) (hb2 : y3_48 = 0 ∨ y3_48 = 1) (h44 : y4_48 ≤ 144) (hc2 : csX (S_48.1 8) 144 + (y3_48 : Int32).toNatClampNeg ≤ csX (S_39.1 8) 144) (hF2 : (y3_48 = 0 → ∀ k a : Nat, k < (y4_48 : Int32).toNatClampNeg → a < 3 → NIc (wx S x1) (S_48.1 8) k a)) (c12 : ¬ 144 ≤ y4_48) (hi5 : 0 ≤ y5_59) (hJ3 : XInv S_59) (hM3 : S_59.2.2.2 = S.2.2.2) (hB3 : S_59.2.2.1 = S.2.2.1) (hZ3 : VIc (wx S x1) (gx x2) (S_59.1 8)) (hb3 : y3_59 = 0 ∨ y3_59 = 1) (h55 : y5_59 ≤ 3) (hc3 : csX (S_59.1 8) 144 + (y3_59 : Int32).toNatClampNeg ≤ csX (S_39.1 8) 144) (hF3 : (y3_59 = 0 → (∀ k a : Nat, k < (y4_48 : Int32).toNatClampNeg → a < 3 → NIc (wx S x1) (S_59.1 8) k a) ∧ ∀ a : Nat, a < (y5_59 : Int32).toNatClampNeg → NIc (wx S x1) (S_59.1 8) (y4_48 : Int32).toNatClampNeg a)) (c13 : ¬ 3 ≤ y5_59) (h4r : 0 ≤ y4_48 ∧ y4_48 < 144) (h5r : 0 ≤ y5_59 ∧ y5_59 < 3) (c16 : ¬ (x_throughOf S_59 x1 y4_48 y5_59) < 0) (c17 : (S_59.1 8 (Int32.toNatClampNeg y4_48)) < 0) : y5_59 < 3 := by 
  clear hc2 hF2 hc3 hF3
  have bl_x2 := Int32.toInt_lt x2
  have bl_y3_39 := Int32.toInt_lt y3_39
  have bl_y3_48 := Int32.toInt_lt y3_48
  have bl_y4_48 := Int32.toInt_lt y4_48
  have bl_y3_59 := Int32.toInt_lt y3_59
  have bl_y5_59 := Int32.toInt_lt y5_59
  try simp only [i_le, i_lt, i_eq, Int32.reduceToInt] at *
  try simp only [Int32.reduceToInt] at *
  omega
theorem x_layCosts_o25 (S : XS) (x1 : Nat) (x2 : Int32) (y3_39 : Int32) (S_39 : XS) (y3_48 : Int32) (y4_48 : Int32) (S_48 : XS) (y3_59 : Int32) (y5_59 : Int32) (S_59 : XS) (hI : XInv S) (hj : x1 < S.2.2.2 7 0) (hk : S.2.2.2 0 x1 = 1 ∨ S.2.2.2 0 x1 = 3) (h12 : nI (S.2.2.2 1 x1) = 12) (hhr : 1 ≤ x2 ∧ x2 ≤ 12) (hJ0p : XInv (x_layCosts_R2 S x2).2) (hM0p : (x_layCosts_R2 S x2).2.2.2.2 = S.2.2.2) (hB0p : (x_layCosts_R2 S x2).2.2.2.1 = S.2.2.1) (hZ0p : VIc (wx S x1) (gx x2) ((x_layCosts_R2 S x2).2.1 8)) (hJ1 : XInv S_39) (hM1 : S_39.2.2.2 = S.2.2.2) (hB1 : S_39.2.2.1 = S.2.2.1) (hZ1 : VIc (wx S x1) (gx x2) (S_39.1 8)) (hb1 : y3_39 = 0 ∨ y3_39 = 1) (hF1 : (y3_39 = 0 → ∀ k a : Nat, k < 144 → a < 3 → NIc (wx S x1) (S_39.1 8) k a)) (c11 : ¬ y3_39 = 0) (hi4 : 0 ≤ y4_48) (hJ2 : XInv S_48) (hM2 : S_48.2.2.2 = S.2.2.2) (hB2 : S_48.2.2.1 = S.2.2.1) (hZ2 : VIc (wx S x1) (gx x2) (S_48.1 8)) (hb2 : y3_48 = 0 ∨ y3_48 = 1) (h44 : y4_48 ≤ 144) (hc2 : csX (S_48.1 8) 144 + (y3_48 : Int32).toNatClampNeg ≤ csX (S_39.1 8) 144) (hF2 : (y3_48 = 0 → ∀ k a : Nat, k < (y4_48 : Int32).toNatClampNeg → a < 3 → NIc (wx S x1) (S_48.1 8) k a)) (c12 : ¬ 144 ≤ y4_48) (hi5 : 0 ≤ y5_59) (hJ3 : XInv S_59) (hM3 : S_59.2.2.2 = S.2.2.2) (hB3 : S_59.2.2.1 = S.2.2.1) (hZ3 : VIc (wx S x1) (gx x2) (S_59.1 8)) (hb3 : y3_59 = 0 ∨ y3_59 = 1) (h55 : y5_59 ≤ 3) (hc3 : csX (S_59.1 8) 144 + (y3_59 : Int32).toNatClampNeg ≤ csX (S_39.1 8) 144) (hF3 : (y3_59 = 0 → (∀ k a : Nat, k < (y4_48 : Int32).toNatClampNeg → a < 3 → NIc (wx S x1) (S_59.1 8) k a) ∧ ∀ a : Nat, a < (y5_59 : Int32).toNatClampNeg → NIc (wx S x1) (S_59.1 8) (y4_48 : Int32).toNatClampNeg a)) (c13 : ¬ 3 ≤ y5_59) (h4r : 0 ≤ y4_48 ∧ y4_48 < 144) (h5r : 0 ≤ y5_59 ∧ y5_59 < 3) (c16 : ¬ (x_throughOf S_59 x1 y4_48 y5_59) < 0) (c17 : ¬ (S_59.1 8 (Int32.toNatClampNeg y4_48)) < 0) (c18 : (S_59.1 8 (Int32.toNatClampNeg y4_48)) ≤ (x_throughOf S_59 x1 y4_48 y5_59)) : 0 ≤ (y5_59 + 1) := by 
  clear hc2 hF2 hc3 hF3
  have bl_x2 := Int32.toInt_lt x2
  have bl_y3_39 := Int32.toInt_lt y3_39
  have bl_y3_48 := Int32.toInt_lt y3_48
  have bl_y4_48 := Int32.toInt_lt y4_48
  have bl_y3_59 := Int32.toInt_lt y3_59
  have bl_y5_59 := Int32.toInt_lt y5_59
  try simp only [i_le, i_lt, i_eq, Int32.reduceToInt] at *
  first | (have e_0 := a32 (x := y5_59) (y := 1) (by (try simp only [Int32.reduceToInt]); omega); (try simp only [Int32.reduceToInt] at e_0)) | skip
  try simp only [Int32.reduceToInt] at *
  omega
theorem x_layCosts_o26 (S : XS) (x1 : Nat) (x2 : Int32) (y3_39 : Int32) (S_39 : XS) (y3_48 : Int32) (y4_48 : Int32) (S_48 : XS) (y3_59 : Int32) (y5_59 : Int32) (S_59 : XS) (hI : XInv S) (hj : x1 < S.2.2.2 7 0) (hk : S.2.2.2 0 x1 = 1 ∨ S.2.2.2 0 x1 = 3) (h12 : nI (S.2.2.2 1 x1) = 12) (hhr : 1 ≤ x2 ∧ x2 ≤ 12) (hJ0p : XInv (x_layCosts_R2 S x2).2) (hM0p : (x_layCosts_R2 S x2).2.2.2.2 = S.2.2.2) (hB0p : (x_layCosts_R2 S x2).2.2.2.1 = S.2.2.1) (hZ0p : VIc (wx S x1) (gx x2) ((x_layCosts_R2 S x2).2.1 8)) (hJ1 : XInv S_39) (hM1 : S_39.2.2.2 = S.2.2.2) (hB1 : S_39.2.2.1 = S.2.2.1) (hZ1 : VIc (wx S x1) (gx x2) (S_39.1 8)) (hb1 : y3_39 = 0 ∨ y3_39 = 1) (hF1 : (y3_39 = 0 → ∀ k a : Nat, k < 144 → a < 3 → NIc (wx S x1) (S_39.1 8) k a)) (c11 : ¬ y3_39 = 0) (hi4 : 0 ≤ y4_48) (hJ2 : XInv S_48) (hM2 : S_48.2.2.2 = S.2.2.2) (hB2 : S_48.2.2.1 = S.2.2.1) (hZ2 : VIc (wx S x1) (gx x2) (S_48.1 8)) (hb2 : y3_48 = 0 ∨ y3_48 = 1) (h44 : y4_48 ≤ 144) (hc2 : csX (S_48.1 8) 144 + (y3_48 : Int32).toNatClampNeg ≤ csX (S_39.1 8) 144) (hF2 : (y3_48 = 0 → ∀ k a : Nat, k < (y4_48 : Int32).toNatClampNeg → a < 3 → NIc (wx S x1) (S_48.1 8) k a)) (c12 : ¬ 144 ≤ y4_48) (hi5 : 0 ≤ y5_59) (hJ3 : XInv S_59) (hM3 : S_59.2.2.2 = S.2.2.2) (hB3 : S_59.2.2.1 = S.2.2.1) (hZ3 : VIc (wx S x1) (gx x2) (S_59.1 8)) (hb3 : y3_59 = 0 ∨ y3_59 = 1) (h55 : y5_59 ≤ 3) (hc3 : csX (S_59.1 8) 144 + (y3_59 : Int32).toNatClampNeg ≤ csX (S_39.1 8) 144) (hF3 : (y3_59 = 0 → (∀ k a : Nat, k < (y4_48 : Int32).toNatClampNeg → a < 3 → NIc (wx S x1) (S_59.1 8) k a) ∧ ∀ a : Nat, a < (y5_59 : Int32).toNatClampNeg → NIc (wx S x1) (S_59.1 8) (y4_48 : Int32).toNatClampNeg a)) (c13 : ¬ 3 ≤ y5_59) (h4r : 0 ≤ y4_48 ∧ y4_48 < 144) (h5r : 0 ≤ y5_59 ∧ y5_59 < 3) (c16 : ¬ (x_throughOf S_59 x1 y4_48 y5_59) < 0) (c17 : ¬ (S_59.1 8 (Int32.toNatClampNeg y4_48)) < 0) (c18 : (S_59.1 8 (Int32.toNatClampNeg y4_48)) ≤ (x_throughOf S_59 x1 y4_48 y5_59)) : (y5_59 + 1) ≤ 3 := by 
  clear hc2 hF2 hc3 hF3
  have bl_x2 := Int32.toInt_lt x2
  have bl_y3_39 := Int32.toInt_lt y3_39
  have bl_y3_48 := Int32.toInt_lt y3_48
  have bl_y4_48 := Int32.toInt_lt y4_48
  have bl_y3_59 := Int32.toInt_lt y3_59
  have bl_y5_59 := Int32.toInt_lt y5_59
  try simp only [i_le, i_lt, i_eq, Int32.reduceToInt] at *
  first | (have e_0 := a32 (x := y5_59) (y := 1) (by (try simp only [Int32.reduceToInt]); omega); (try simp only [Int32.reduceToInt] at e_0)) | skip
  try simp only [Int32.reduceToInt] at *
  omega
theorem x_layCosts_o27 (S : XS) (x1 : Nat) (x2 : Int32) (y3_39 : Int32) (S_39 : XS) (y3_48 : Int32) (y4_48 : Int32) (S_48 : XS) (y3_59 : Int32) (y5_59 : Int32) (S_59 : XS) (hI : XInv S) (hj : x1 < S.2.2.2 7 0) (hk : S.2.2.2 0 x1 = 1 ∨ S.2.2.2 0 x1 = 3) (h12 : nI (S.2.2.2 1 x1) = 12) (hhr : 1 ≤ x2 ∧ x2 ≤ 12) (hJ0p : XInv (x_layCosts_R2 S x2).2) (hM0p : (x_layCosts_R2 S x2).2.2.2.2 = S.2.2.2) (hB0p : (x_layCosts_R2 S x2).2.2.2.1 = S.2.2.1) (hZ0p : VIc (wx S x1) (gx x2) ((x_layCosts_R2 S x2).2.1 8)) (hJ1 : XInv S_39) (hM1 : S_39.2.2.2 = S.2.2.2) (hB1 : S_39.2.2.1 = S.2.2.1) (hZ1 : VIc (wx S x1) (gx x2) (S_39.1 8)) (hb1 : y3_39 = 0 ∨ y3_39 = 1) (hF1 : (y3_39 = 0 → ∀ k a : Nat, k < 144 → a < 3 → NIc (wx S x1) (S_39.1 8) k a)) (c11 : ¬ y3_39 = 0) (hi4 : 0 ≤ y4_48) (hJ2 : XInv S_48) (hM2 : S_48.2.2.2 = S.2.2.2) (hB2 : S_48.2.2.1 = S.2.2.1) (hZ2 : VIc (wx S x1) (gx x2) (S_48.1 8)) (hb2 : y3_48 = 0 ∨ y3_48 = 1) (h44 : y4_48 ≤ 144) (hc2 : csX (S_48.1 8) 144 + (y3_48 : Int32).toNatClampNeg ≤ csX (S_39.1 8) 144) (hF2 : (y3_48 = 0 → ∀ k a : Nat, k < (y4_48 : Int32).toNatClampNeg → a < 3 → NIc (wx S x1) (S_48.1 8) k a)) (c12 : ¬ 144 ≤ y4_48) (hi5 : 0 ≤ y5_59) (hJ3 : XInv S_59) (hM3 : S_59.2.2.2 = S.2.2.2) (hB3 : S_59.2.2.1 = S.2.2.1) (hZ3 : VIc (wx S x1) (gx x2) (S_59.1 8)) (hb3 : y3_59 = 0 ∨ y3_59 = 1) (h55 : y5_59 ≤ 3) (hc3 : csX (S_59.1 8) 144 + (y3_59 : Int32).toNatClampNeg ≤ csX (S_39.1 8) 144) (hF3 : (y3_59 = 0 → (∀ k a : Nat, k < (y4_48 : Int32).toNatClampNeg → a < 3 → NIc (wx S x1) (S_59.1 8) k a) ∧ ∀ a : Nat, a < (y5_59 : Int32).toNatClampNeg → NIc (wx S x1) (S_59.1 8) (y4_48 : Int32).toNatClampNeg a)) (c13 : ¬ 3 ≤ y5_59) (h4r : 0 ≤ y4_48 ∧ y4_48 < 144) (h5r : 0 ≤ y5_59 ∧ y5_59 < 3) (c16 : ¬ (x_throughOf S_59 x1 y4_48 y5_59) < 0) (c17 : ¬ (S_59.1 8 (Int32.toNatClampNeg y4_48)) < 0) (c18 : (S_59.1 8 (Int32.toNatClampNeg y4_48)) ≤ (x_throughOf S_59 x1 y4_48 y5_59)) : y5_59 < 3 := by 
  clear hc2 hF2 hc3 hF3
  have bl_x2 := Int32.toInt_lt x2
  have bl_y3_39 := Int32.toInt_lt y3_39
  have bl_y3_48 := Int32.toInt_lt y3_48
  have bl_y4_48 := Int32.toInt_lt y4_48
  have bl_y3_59 := Int32.toInt_lt y3_59
  have bl_y5_59 := Int32.toInt_lt y5_59
  try simp only [i_le, i_lt, i_eq, Int32.reduceToInt] at *
  try simp only [Int32.reduceToInt] at *
  omega
theorem x_layCosts_o28 (S : XS) (x1 : Nat) (x2 : Int32) (y3_39 : Int32) (S_39 : XS) (y3_48 : Int32) (y4_48 : Int32) (S_48 : XS) (y3_59 : Int32) (y5_59 : Int32) (S_59 : XS) (hI : XInv S) (hj : x1 < S.2.2.2 7 0) (hk : S.2.2.2 0 x1 = 1 ∨ S.2.2.2 0 x1 = 3) (h12 : nI (S.2.2.2 1 x1) = 12) (hhr : 1 ≤ x2 ∧ x2 ≤ 12) (hJ0p : XInv (x_layCosts_R2 S x2).2) (hM0p : (x_layCosts_R2 S x2).2.2.2.2 = S.2.2.2) (hB0p : (x_layCosts_R2 S x2).2.2.2.1 = S.2.2.1) (hZ0p : VIc (wx S x1) (gx x2) ((x_layCosts_R2 S x2).2.1 8)) (hJ1 : XInv S_39) (hM1 : S_39.2.2.2 = S.2.2.2) (hB1 : S_39.2.2.1 = S.2.2.1) (hZ1 : VIc (wx S x1) (gx x2) (S_39.1 8)) (hb1 : y3_39 = 0 ∨ y3_39 = 1) (hF1 : (y3_39 = 0 → ∀ k a : Nat, k < 144 → a < 3 → NIc (wx S x1) (S_39.1 8) k a)) (c11 : ¬ y3_39 = 0) (hi4 : 0 ≤ y4_48) (hJ2 : XInv S_48) (hM2 : S_48.2.2.2 = S.2.2.2) (hB2 : S_48.2.2.1 = S.2.2.1) (hZ2 : VIc (wx S x1) (gx x2) (S_48.1 8)) (hb2 : y3_48 = 0 ∨ y3_48 = 1) (h44 : y4_48 ≤ 144) (hc2 : csX (S_48.1 8) 144 + (y3_48 : Int32).toNatClampNeg ≤ csX (S_39.1 8) 144) (hF2 : (y3_48 = 0 → ∀ k a : Nat, k < (y4_48 : Int32).toNatClampNeg → a < 3 → NIc (wx S x1) (S_48.1 8) k a)) (c12 : ¬ 144 ≤ y4_48) (hi5 : 0 ≤ y5_59) (hJ3 : XInv S_59) (hM3 : S_59.2.2.2 = S.2.2.2) (hB3 : S_59.2.2.1 = S.2.2.1) (hZ3 : VIc (wx S x1) (gx x2) (S_59.1 8)) (hb3 : y3_59 = 0 ∨ y3_59 = 1) (h55 : y5_59 ≤ 3) (hc3 : csX (S_59.1 8) 144 + (y3_59 : Int32).toNatClampNeg ≤ csX (S_39.1 8) 144) (hF3 : (y3_59 = 0 → (∀ k a : Nat, k < (y4_48 : Int32).toNatClampNeg → a < 3 → NIc (wx S x1) (S_59.1 8) k a) ∧ ∀ a : Nat, a < (y5_59 : Int32).toNatClampNeg → NIc (wx S x1) (S_59.1 8) (y4_48 : Int32).toNatClampNeg a)) (c13 : ¬ 3 ≤ y5_59) (h4r : 0 ≤ y4_48 ∧ y4_48 < 144) (h5r : 0 ≤ y5_59 ∧ y5_59 < 3) (c16 : ¬ (x_throughOf S_59 x1 y4_48 y5_59) < 0) (c17 : ¬ (S_59.1 8 (Int32.toNatClampNeg y4_48)) < 0) (c18 : ¬ (S_59.1 8 (Int32.toNatClampNeg y4_48)) ≤ (x_throughOf S_59 x1 y4_48 y5_59)) : 0 ≤ (y5_59 + 1) := by 
  clear hc2 hF2 hc3 hF3
  have bl_x2 := Int32.toInt_lt x2
  have bl_y3_39 := Int32.toInt_lt y3_39
  have bl_y3_48 := Int32.toInt_lt y3_48
  have bl_y4_48 := Int32.toInt_lt y4_48
  have bl_y3_59 := Int32.toInt_lt y3_59
  have bl_y5_59 := Int32.toInt_lt y5_59
  try simp only [i_le, i_lt, i_eq, Int32.reduceToInt] at *
  first | (have e_0 := a32 (x := y5_59) (y := 1) (by (try simp only [Int32.reduceToInt]); omega); (try simp only [Int32.reduceToInt] at e_0)) | skip
  try simp only [Int32.reduceToInt] at *
  omega
theorem x_layCosts_o29 (S : XS) (x1 : Nat) (x2 : Int32) (y3_39 : Int32) (S_39 : XS) (y3_48 : Int32) (y4_48 : Int32) (S_48 : XS) (y3_59 : Int32) (y5_59 : Int32) (S_59 : XS) (hI : XInv S) (hj : x1 < S.2.2.2 7 0) (hk : S.2.2.2 0 x1 = 1 ∨ S.2.2.2 0 x1 = 3) (h12 : nI (S.2.2.2 1 x1) = 12) (hhr : 1 ≤ x2 ∧ x2 ≤ 12) (hJ0p : XInv (x_layCosts_R2 S x2).2) (hM0p : (x_layCosts_R2 S x2).2.2.2.2 = S.2.2.2) (hB0p : (x_layCosts_R2 S x2).2.2.2.1 = S.2.2.1) (hZ0p : VIc (wx S x1) (gx x2) ((x_layCosts_R2 S x2).2.1 8)) (hJ1 : XInv S_39) (hM1 : S_39.2.2.2 = S.2.2.2) (hB1 : S_39.2.2.1 = S.2.2.1) (hZ1 : VIc (wx S x1) (gx x2) (S_39.1 8)) (hb1 : y3_39 = 0 ∨ y3_39 = 1) (hF1 : (y3_39 = 0 → ∀ k a : Nat, k < 144 → a < 3 → NIc (wx S x1) (S_39.1 8) k a)) (c11 : ¬ y3_39 = 0) (hi4 : 0 ≤ y4_48) (hJ2 : XInv S_48) (hM2 : S_48.2.2.2 = S.2.2.2) (hB2 : S_48.2.2.1 = S.2.2.1) (hZ2 : VIc (wx S x1) (gx x2) (S_48.1 8)) (hb2 : y3_48 = 0 ∨ y3_48 = 1) (h44 : y4_48 ≤ 144) (hc2 : csX (S_48.1 8) 144 + (y3_48 : Int32).toNatClampNeg ≤ csX (S_39.1 8) 144) (hF2 : (y3_48 = 0 → ∀ k a : Nat, k < (y4_48 : Int32).toNatClampNeg → a < 3 → NIc (wx S x1) (S_48.1 8) k a)) (c12 : ¬ 144 ≤ y4_48) (hi5 : 0 ≤ y5_59) (hJ3 : XInv S_59) (hM3 : S_59.2.2.2 = S.2.2.2) (hB3 : S_59.2.2.1 = S.2.2.1) (hZ3 : VIc (wx S x1) (gx x2) (S_59.1 8)) (hb3 : y3_59 = 0 ∨ y3_59 = 1) (h55 : y5_59 ≤ 3) (hc3 : csX (S_59.1 8) 144 + (y3_59 : Int32).toNatClampNeg ≤ csX (S_39.1 8) 144) (hF3 : (y3_59 = 0 → (∀ k a : Nat, k < (y4_48 : Int32).toNatClampNeg → a < 3 → NIc (wx S x1) (S_59.1 8) k a) ∧ ∀ a : Nat, a < (y5_59 : Int32).toNatClampNeg → NIc (wx S x1) (S_59.1 8) (y4_48 : Int32).toNatClampNeg a)) (c13 : ¬ 3 ≤ y5_59) (h4r : 0 ≤ y4_48 ∧ y4_48 < 144) (h5r : 0 ≤ y5_59 ∧ y5_59 < 3) (c16 : ¬ (x_throughOf S_59 x1 y4_48 y5_59) < 0) (c17 : ¬ (S_59.1 8 (Int32.toNatClampNeg y4_48)) < 0) (c18 : ¬ (S_59.1 8 (Int32.toNatClampNeg y4_48)) ≤ (x_throughOf S_59 x1 y4_48 y5_59)) : (y5_59 + 1) ≤ 3 := by 
  clear hc2 hF2 hc3 hF3
  have bl_x2 := Int32.toInt_lt x2
  have bl_y3_39 := Int32.toInt_lt y3_39
  have bl_y3_48 := Int32.toInt_lt y3_48
  have bl_y4_48 := Int32.toInt_lt y4_48
  have bl_y3_59 := Int32.toInt_lt y3_59
  have bl_y5_59 := Int32.toInt_lt y5_59
  try simp only [i_le, i_lt, i_eq, Int32.reduceToInt] at *
  first | (have e_0 := a32 (x := y5_59) (y := 1) (by (try simp only [Int32.reduceToInt]); omega); (try simp only [Int32.reduceToInt] at e_0)) | skip
  try simp only [Int32.reduceToInt] at *
  omega
theorem x_layCosts_o30 (S : XS) (x1 : Nat) (x2 : Int32) (y3_39 : Int32) (S_39 : XS) (y3_48 : Int32) (y4_48 : Int32) (S_48 : XS) (y3_59 : Int32) (y5_59 : Int32) (S_59 : XS) (hI : XInv S) (hj : x1 < S.2.2.2 7 0) (hk : S.2.2.2 0 x1 = 1 ∨ S.2.2.2 0 x1 = 3) (h12 : nI (S.2.2.2 1 x1) = 12) (hhr : 1 ≤ x2 ∧ x2 ≤ 12) (hJ0p : XInv (x_layCosts_R2 S x2).2) (hM0p : (x_layCosts_R2 S x2).2.2.2.2 = S.2.2.2) (hB0p : (x_layCosts_R2 S x2).2.2.2.1 = S.2.2.1) (hZ0p : VIc (wx S x1) (gx x2) ((x_layCosts_R2 S x2).2.1 8)) (hJ1 : XInv S_39) (hM1 : S_39.2.2.2 = S.2.2.2) (hB1 : S_39.2.2.1 = S.2.2.1) (hZ1 : VIc (wx S x1) (gx x2) (S_39.1 8)) (hb1 : y3_39 = 0 ∨ y3_39 = 1) (hF1 : (y3_39 = 0 → ∀ k a : Nat, k < 144 → a < 3 → NIc (wx S x1) (S_39.1 8) k a)) (c11 : ¬ y3_39 = 0) (hi4 : 0 ≤ y4_48) (hJ2 : XInv S_48) (hM2 : S_48.2.2.2 = S.2.2.2) (hB2 : S_48.2.2.1 = S.2.2.1) (hZ2 : VIc (wx S x1) (gx x2) (S_48.1 8)) (hb2 : y3_48 = 0 ∨ y3_48 = 1) (h44 : y4_48 ≤ 144) (hc2 : csX (S_48.1 8) 144 + (y3_48 : Int32).toNatClampNeg ≤ csX (S_39.1 8) 144) (hF2 : (y3_48 = 0 → ∀ k a : Nat, k < (y4_48 : Int32).toNatClampNeg → a < 3 → NIc (wx S x1) (S_48.1 8) k a)) (c12 : ¬ 144 ≤ y4_48) (hi5 : 0 ≤ y5_59) (hJ3 : XInv S_59) (hM3 : S_59.2.2.2 = S.2.2.2) (hB3 : S_59.2.2.1 = S.2.2.1) (hZ3 : VIc (wx S x1) (gx x2) (S_59.1 8)) (hb3 : y3_59 = 0 ∨ y3_59 = 1) (h55 : y5_59 ≤ 3) (hc3 : csX (S_59.1 8) 144 + (y3_59 : Int32).toNatClampNeg ≤ csX (S_39.1 8) 144) (hF3 : (y3_59 = 0 → (∀ k a : Nat, k < (y4_48 : Int32).toNatClampNeg → a < 3 → NIc (wx S x1) (S_59.1 8) k a) ∧ ∀ a : Nat, a < (y5_59 : Int32).toNatClampNeg → NIc (wx S x1) (S_59.1 8) (y4_48 : Int32).toNatClampNeg a)) (c13 : ¬ 3 ≤ y5_59) (h4r : 0 ≤ y4_48 ∧ y4_48 < 144) (h5r : 0 ≤ y5_59 ∧ y5_59 < 3) (c16 : ¬ (x_throughOf S_59 x1 y4_48 y5_59) < 0) (c17 : ¬ (S_59.1 8 (Int32.toNatClampNeg y4_48)) < 0) (c18 : ¬ (S_59.1 8 (Int32.toNatClampNeg y4_48)) ≤ (x_throughOf S_59 x1 y4_48 y5_59)) : y5_59 < 3 := by 
  clear hc2 hF2 hc3 hF3
  have bl_x2 := Int32.toInt_lt x2
  have bl_y3_39 := Int32.toInt_lt y3_39
  have bl_y3_48 := Int32.toInt_lt y3_48
  have bl_y4_48 := Int32.toInt_lt y4_48
  have bl_y3_59 := Int32.toInt_lt y3_59
  have bl_y5_59 := Int32.toInt_lt y5_59
  try simp only [i_le, i_lt, i_eq, Int32.reduceToInt] at *
  try simp only [Int32.reduceToInt] at *
  omega
theorem x_layCosts_L59_P (S : XS) (x1 : Nat) (x2 : Int32) (y3_39 : Int32) (S_39 : XS) (y3_48 : Int32) (y4_48 : Int32) (S_48 : XS) (hI : XInv S) (hj : x1 < S.2.2.2 7 0) (hk : S.2.2.2 0 x1 = 1 ∨ S.2.2.2 0 x1 = 3) (h12 : nI (S.2.2.2 1 x1) = 12) (hhr : 1 ≤ x2 ∧ x2 ≤ 12) (hJ1 : XInv S_39) (hM1 : S_39.2.2.2 = S.2.2.2) (hB1 : S_39.2.2.1 = S.2.2.1) (hZ1 : VIc (wx S x1) (gx x2) (S_39.1 8)) (hb1 : y3_39 = 0 ∨ y3_39 = 1) (hF1 : (y3_39 = 0 → ∀ k a : Nat, k < 144 → a < 3 → NIc (wx S x1) (S_39.1 8) k a)) (c11 : ¬ y3_39 = 0) (hi4 : 0 ≤ y4_48) (hJ2 : XInv S_48) (hM2 : S_48.2.2.2 = S.2.2.2) (hB2 : S_48.2.2.1 = S.2.2.1) (hZ2 : VIc (wx S x1) (gx x2) (S_48.1 8)) (hb2 : y3_48 = 0 ∨ y3_48 = 1) (h44 : y4_48 ≤ 144) (hc2 : csX (S_48.1 8) 144 + (y3_48 : Int32).toNatClampNeg ≤ csX (S_39.1 8) 144) (hF2 : (y3_48 = 0 → ∀ k a : Nat, k < (y4_48 : Int32).toNatClampNeg → a < 3 → NIc (wx S x1) (S_48.1 8) k a)) (c12 : ¬ 144 ≤ y4_48) : ∀ (f59 : Nat) (y3_59 : Int32) (y5_59 : Int32) (S_59 : XS), (3 - y5_59 : Int32).toNatClampNeg < f59 → (0 ≤ y5_59) → (XInv S_59) → (S_59.2.2.2 = S.2.2.2) → (S_59.2.2.1 = S.2.2.1) → (VIc (wx S x1) (gx x2) (S_59.1 8)) → (y3_59 = 0 ∨ y3_59 = 1) → (y5_59 ≤ 3) → (csX (S_59.1 8) 144 + (y3_59 : Int32).toNatClampNeg ≤ csX (S_39.1 8) 144) → ((y3_59 = 0 → (∀ k a : Nat, k < (y4_48 : Int32).toNatClampNeg → a < 3 → NIc (wx S x1) (S_59.1 8) k a) ∧ ∀ a : Nat, a < (y5_59 : Int32).toNatClampNeg → NIc (wx S x1) (S_59.1 8) (y4_48 : Int32).toNatClampNeg a)) → (XInv (x_layCosts_L59 x1 y4_48 f59 y3_59 y5_59 S_59).2.2) ∧ ((x_layCosts_L59 x1 y4_48 f59 y3_59 y5_59 S_59).2.2.2.2.2 = S.2.2.2) ∧ ((x_layCosts_L59 x1 y4_48 f59 y3_59 y5_59 S_59).2.2.2.2.1 = S.2.2.1) ∧ (VIc (wx S x1) (gx x2) ((x_layCosts_L59 x1 y4_48 f59 y3_59 y5_59 S_59).2.2.1 8)) ∧ ((x_layCosts_L59 x1 y4_48 f59 y3_59 y5_59 S_59).1 = 0 ∨ (x_layCosts_L59 x1 y4_48 f59 y3_59 y5_59 S_59).1 = 1) ∧ (csX ((x_layCosts_L59 x1 y4_48 f59 y3_59 y5_59 S_59).2.2.1 8) 144 + ((x_layCosts_L59 x1 y4_48 f59 y3_59 y5_59 S_59).1 : Int32).toNatClampNeg ≤ csX (S_39.1 8) 144) ∧ (((x_layCosts_L59 x1 y4_48 f59 y3_59 y5_59 S_59).1 = 0 → ∀ k a : Nat, k < ((y4_48 : Int32) + 1).toNatClampNeg → a < 3 → NIc (wx S x1) ((x_layCosts_L59 x1 y4_48 f59 y3_59 y5_59 S_59).2.2.1 8) k a)) := by
  intro f59
  induction f59 with
  | zero =>
    intro y3_59 y5_59 S_59 hf hi5 hJ3 hM3 hB3 hZ3 hb3 h55 hc3 hF3
    exact absurd hf (Nat.not_lt_zero _)
  | succ f59 ih =>
    intro y3_59 y5_59 S_59 hf hi5 hJ3 hM3 hB3 hZ3 hb3 h55 hc3 hF3
    rw [x_layCosts_L59_s]
    refine ifI (P := fun (z : Int32 × Int32 × XS) => (XInv z.2.2) ∧ (z.2.2.2.2.2 = S.2.2.2) ∧ (z.2.2.2.2.1 = S.2.2.1) ∧ (VIc (wx S x1) (gx x2) (z.2.2.1 8)) ∧ (z.1 = 0 ∨ z.1 = 1) ∧ (csX (z.2.2.1 8) 144 + (z.1 : Int32).toNatClampNeg ≤ csX (S_39.1 8) 144) ∧ ((z.1 = 0 → ∀ k a : Nat, k < ((y4_48 : Int32) + 1).toNatClampNeg → a < 3 → NIc (wx S x1) (z.2.2.1 8) k a))) (fun c13 => ?_) (fun c13 => ?_)
    · exact ⟨hJ3, hM3, hB3, hZ3, hb3, hc3, fun h => by rw [tn_s hi4 (Int32.lt_trans (Int32.not_le.mp (by assumption)) (by decide))]; exact nat_s2 (hF3 h).1 (fun a ha => (hF3 h).2 a (Nat.lt_of_lt_of_le ha (ge3 (by assumption))))⟩
    · refine ifI (P := fun (z : Int32 × Int32 × XS) => (XInv z.2.2) ∧ (z.2.2.2.2.2 = S.2.2.2) ∧ (z.2.2.2.2.1 = S.2.2.1) ∧ (VIc (wx S x1) (gx x2) (z.2.2.1 8)) ∧ (z.1 = 0 ∨ z.1 = 1) ∧ (csX (z.2.2.1 8) 144 + (z.1 : Int32).toNatClampNeg ≤ csX (S_39.1 8) 144) ∧ ((z.1 = 0 → ∀ k a : Nat, k < ((y4_48 : Int32) + 1).toNatClampNeg → a < 3 → NIc (wx S x1) (z.2.2.1 8) k a))) (fun c16 => ?_) (fun c16 => ?_)
      · have hJ0p : XInv (x_layCosts_R2 S x2).2 := (x_layCosts_R2_P S x1 x2 hI hj hk h12 hhr).1
        have hM0p : (x_layCosts_R2 S x2).2.2.2.2 = S.2.2.2 := (x_layCosts_R2_P S x1 x2 hI hj hk h12 hhr).2.1
        have hB0p : (x_layCosts_R2 S x2).2.2.2.1 = S.2.2.1 := (x_layCosts_R2_P S x1 x2 hI hj hk h12 hhr).2.2.1
        have hZ0p : VIc (wx S x1) (gx x2) ((x_layCosts_R2 S x2).2.1 8) := (x_layCosts_R2_P S x1 x2 hI hj hk h12 hhr).2.2.2
        have h4r : 0 ≤ y4_48 ∧ y4_48 < 144 := x_layCosts_o14 S x1 x2 y3_39 S_39 y3_48 y4_48 S_48 y3_59 y5_59 S_59 hI hj hk h12 hhr hJ0p hM0p hB0p hZ0p hJ1 hM1 hB1 hZ1 hb1 hF1 c11 hi4 hJ2 hM2 hB2 hZ2 hb2 h44 hc2 hF2 c12 hi5 hJ3 hM3 hB3 hZ3 hb3 h55 hc3 hF3 c13
        have h5r : 0 ≤ y5_59 ∧ y5_59 < 3 := x_layCosts_o15 S x1 x2 y3_39 S_39 y3_48 y4_48 S_48 y3_59 y5_59 S_59 hI hj hk h12 hhr hJ0p hM0p hB0p hZ0p hJ1 hM1 hB1 hZ1 hb1 hF1 c11 hi4 hJ2 hM2 hB2 hZ2 hb2 h44 hc2 hF2 c12 hi5 hJ3 hM3 hB3 hZ3 hb3 h55 hc3 hF3 c13 h4r
        exact ih y3_59 (y5_59 + 1) S_59 (Nat.lt_of_lt_of_le (up_ hi5 (x_layCosts_o21 S x1 x2 y3_39 S_39 y3_48 y4_48 S_48 y3_59 y5_59 S_59 hI hj hk h12 hhr hJ0p hM0p hB0p hZ0p hJ1 hM1 hB1 hZ1 hb1 hF1 c11 hi4 hJ2 hM2 hB2 hZ2 hb2 h44 hc2 hF2 c12 hi5 hJ3 hM3 hB3 hZ3 hb3 h55 hc3 hF3 c13 h4r h5r c16)) (Nat.le_of_lt_succ hf)) (x_layCosts_o19 S x1 x2 y3_39 S_39 y3_48 y4_48 S_48 y3_59 y5_59 S_59 hI hj hk h12 hhr hJ0p hM0p hB0p hZ0p hJ1 hM1 hB1 hZ1 hb1 hF1 c11 hi4 hJ2 hM2 hB2 hZ2 hb2 h44 hc2 hF2 c12 hi5 hJ3 hM3 hB3 hZ3 hb3 h55 hc3 hF3 c13 h4r h5r c16) (hJ3) (hM3) (hB3) (by first | exact hZ3 | exact (lay_Z hI hj hk h12 hB3 h4r h5r hhr hZ3 (by assumption) (by first | exact Or.inl (by assumption) | exact Or.inr (Int32.not_le.mp (by assumption)))).1) (by first | exact Or.inr rfl | exact hb3) (x_layCosts_o20 S x1 x2 y3_39 S_39 y3_48 y4_48 S_48 y3_59 y5_59 S_59 hI hj hk h12 hhr hJ0p hM0p hB0p hZ0p hJ1 hM1 hB1 hZ1 hb1 hF1 c11 hi4 hJ2 hM2 hB2 hZ2 hb2 h44 hc2 hF2 c12 hi5 hJ3 hM3 hB3 hZ3 hb3 h55 hc3 hF3 c13 h4r h5r c16) (by first | exact hc3 | exact lay_c (lay_Z hI hj hk h12 hB3 h4r h5r hhr hZ3 (by assumption) (by first | exact Or.inl (by assumption) | exact Or.inr (Int32.not_le.mp (by assumption)))).2 hc3) (by first | exact (fun h => absurd h (by decide)) | exact (fun h => ⟨(hF3 h).1, by rw [tn_s h5r.1 (Int32.lt_trans h5r.2 (by decide))]; exact nat_s (hF3 h).2 (lay_N hI hj hk h12 hB3 h4r h5r (by first | exact Or.inl (by assumption) | exact Or.inr ⟨by assumption, by assumption⟩))⟩))
      · refine ifI (P := fun (z : Int32 × Int32 × XS) => (XInv z.2.2) ∧ (z.2.2.2.2.2 = S.2.2.2) ∧ (z.2.2.2.2.1 = S.2.2.1) ∧ (VIc (wx S x1) (gx x2) (z.2.2.1 8)) ∧ (z.1 = 0 ∨ z.1 = 1) ∧ (csX (z.2.2.1 8) 144 + (z.1 : Int32).toNatClampNeg ≤ csX (S_39.1 8) 144) ∧ ((z.1 = 0 → ∀ k a : Nat, k < ((y4_48 : Int32) + 1).toNatClampNeg → a < 3 → NIc (wx S x1) (z.2.2.1 8) k a))) (fun c17 => ?_) (fun c17 => ?_)
        · have hJ0p : XInv (x_layCosts_R2 S x2).2 := (x_layCosts_R2_P S x1 x2 hI hj hk h12 hhr).1
          have hM0p : (x_layCosts_R2 S x2).2.2.2.2 = S.2.2.2 := (x_layCosts_R2_P S x1 x2 hI hj hk h12 hhr).2.1
          have hB0p : (x_layCosts_R2 S x2).2.2.2.1 = S.2.2.1 := (x_layCosts_R2_P S x1 x2 hI hj hk h12 hhr).2.2.1
          have hZ0p : VIc (wx S x1) (gx x2) ((x_layCosts_R2 S x2).2.1 8) := (x_layCosts_R2_P S x1 x2 hI hj hk h12 hhr).2.2.2
          have h4r : 0 ≤ y4_48 ∧ y4_48 < 144 := x_layCosts_o14 S x1 x2 y3_39 S_39 y3_48 y4_48 S_48 y3_59 y5_59 S_59 hI hj hk h12 hhr hJ0p hM0p hB0p hZ0p hJ1 hM1 hB1 hZ1 hb1 hF1 c11 hi4 hJ2 hM2 hB2 hZ2 hb2 h44 hc2 hF2 c12 hi5 hJ3 hM3 hB3 hZ3 hb3 h55 hc3 hF3 c13
          have h5r : 0 ≤ y5_59 ∧ y5_59 < 3 := x_layCosts_o15 S x1 x2 y3_39 S_39 y3_48 y4_48 S_48 y3_59 y5_59 S_59 hI hj hk h12 hhr hJ0p hM0p hB0p hZ0p hJ1 hM1 hB1 hZ1 hb1 hF1 c11 hi4 hJ2 hM2 hB2 hZ2 hb2 h44 hc2 hF2 c12 hi5 hJ3 hM3 hB3 hZ3 hb3 h55 hc3 hF3 c13 h4r
          exact ih 1 (y5_59 + 1) (xu S_59 8 (Int32.toNatClampNeg y4_48) (x_throughOf S_59 x1 y4_48 y5_59)) (Nat.lt_of_lt_of_le (up_ hi5 (x_layCosts_o24 S x1 x2 y3_39 S_39 y3_48 y4_48 S_48 y3_59 y5_59 S_59 hI hj hk h12 hhr hJ0p hM0p hB0p hZ0p hJ1 hM1 hB1 hZ1 hb1 hF1 c11 hi4 hJ2 hM2 hB2 hZ2 hb2 h44 hc2 hF2 c12 hi5 hJ3 hM3 hB3 hZ3 hb3 h55 hc3 hF3 c13 h4r h5r c16 c17)) (Nat.le_of_lt_succ hf)) (x_layCosts_o22 S x1 x2 y3_39 S_39 y3_48 y4_48 S_48 y3_59 y5_59 S_59 hI hj hk h12 hhr hJ0p hM0p hB0p hZ0p hJ1 hM1 hB1 hZ1 hb1 hF1 c11 hi4 hJ2 hM2 hB2 hZ2 hb2 h44 hc2 hF2 c12 hi5 hJ3 hM3 hB3 hZ3 hb3 h55 hc3 hF3 c13 h4r h5r c16 c17) ((XInv_xu hJ3 _ _ _ (by decide))) (hM3) (hB3) (by first | exact hZ3 | exact (lay_Z hI hj hk h12 hB3 h4r h5r hhr hZ3 (by assumption) (by first | exact Or.inl (by assumption) | exact Or.inr (Int32.not_le.mp (by assumption)))).1) (by first | exact Or.inr rfl | exact hb3) (x_layCosts_o23 S x1 x2 y3_39 S_39 y3_48 y4_48 S_48 y3_59 y5_59 S_59 hI hj hk h12 hhr hJ0p hM0p hB0p hZ0p hJ1 hM1 hB1 hZ1 hb1 hF1 c11 hi4 hJ2 hM2 hB2 hZ2 hb2 h44 hc2 hF2 c12 hi5 hJ3 hM3 hB3 hZ3 hb3 h55 hc3 hF3 c13 h4r h5r c16 c17) (by first | exact hc3 | exact lay_c (lay_Z hI hj hk h12 hB3 h4r h5r hhr hZ3 (by assumption) (by first | exact Or.inl (by assumption) | exact Or.inr (Int32.not_le.mp (by assumption)))).2 hc3) (by first | exact (fun h => absurd h (by decide)) | exact (fun h => ⟨(hF3 h).1, by rw [tn_s h5r.1 (Int32.lt_trans h5r.2 (by decide))]; exact nat_s (hF3 h).2 (lay_N hI hj hk h12 hB3 h4r h5r (by first | exact Or.inl (by assumption) | exact Or.inr ⟨by assumption, by assumption⟩))⟩))
        · refine ifI (P := fun (z : Int32 × Int32 × XS) => (XInv z.2.2) ∧ (z.2.2.2.2.2 = S.2.2.2) ∧ (z.2.2.2.2.1 = S.2.2.1) ∧ (VIc (wx S x1) (gx x2) (z.2.2.1 8)) ∧ (z.1 = 0 ∨ z.1 = 1) ∧ (csX (z.2.2.1 8) 144 + (z.1 : Int32).toNatClampNeg ≤ csX (S_39.1 8) 144) ∧ ((z.1 = 0 → ∀ k a : Nat, k < ((y4_48 : Int32) + 1).toNatClampNeg → a < 3 → NIc (wx S x1) (z.2.2.1 8) k a))) (fun c18 => ?_) (fun c18 => ?_)
          · have hJ0p : XInv (x_layCosts_R2 S x2).2 := (x_layCosts_R2_P S x1 x2 hI hj hk h12 hhr).1
            have hM0p : (x_layCosts_R2 S x2).2.2.2.2 = S.2.2.2 := (x_layCosts_R2_P S x1 x2 hI hj hk h12 hhr).2.1
            have hB0p : (x_layCosts_R2 S x2).2.2.2.1 = S.2.2.1 := (x_layCosts_R2_P S x1 x2 hI hj hk h12 hhr).2.2.1
            have hZ0p : VIc (wx S x1) (gx x2) ((x_layCosts_R2 S x2).2.1 8) := (x_layCosts_R2_P S x1 x2 hI hj hk h12 hhr).2.2.2
            have h4r : 0 ≤ y4_48 ∧ y4_48 < 144 := x_layCosts_o14 S x1 x2 y3_39 S_39 y3_48 y4_48 S_48 y3_59 y5_59 S_59 hI hj hk h12 hhr hJ0p hM0p hB0p hZ0p hJ1 hM1 hB1 hZ1 hb1 hF1 c11 hi4 hJ2 hM2 hB2 hZ2 hb2 h44 hc2 hF2 c12 hi5 hJ3 hM3 hB3 hZ3 hb3 h55 hc3 hF3 c13
            have h5r : 0 ≤ y5_59 ∧ y5_59 < 3 := x_layCosts_o15 S x1 x2 y3_39 S_39 y3_48 y4_48 S_48 y3_59 y5_59 S_59 hI hj hk h12 hhr hJ0p hM0p hB0p hZ0p hJ1 hM1 hB1 hZ1 hb1 hF1 c11 hi4 hJ2 hM2 hB2 hZ2 hb2 h44 hc2 hF2 c12 hi5 hJ3 hM3 hB3 hZ3 hb3 h55 hc3 hF3 c13 h4r
            exact ih y3_59 (y5_59 + 1) S_59 (Nat.lt_of_lt_of_le (up_ hi5 (x_layCosts_o27 S x1 x2 y3_39 S_39 y3_48 y4_48 S_48 y3_59 y5_59 S_59 hI hj hk h12 hhr hJ0p hM0p hB0p hZ0p hJ1 hM1 hB1 hZ1 hb1 hF1 c11 hi4 hJ2 hM2 hB2 hZ2 hb2 h44 hc2 hF2 c12 hi5 hJ3 hM3 hB3 hZ3 hb3 h55 hc3 hF3 c13 h4r h5r c16 c17 c18)) (Nat.le_of_lt_succ hf)) (x_layCosts_o25 S x1 x2 y3_39 S_39 y3_48 y4_48 S_48 y3_59 y5_59 S_59 hI hj hk h12 hhr hJ0p hM0p hB0p hZ0p hJ1 hM1 hB1 hZ1 hb1 hF1 c11 hi4 hJ2 hM2 hB2 hZ2 hb2 h44 hc2 hF2 c12 hi5 hJ3 hM3 hB3 hZ3 hb3 h55 hc3 hF3 c13 h4r h5r c16 c17 c18) (hJ3) (hM3) (hB3) (by first | exact hZ3 | exact (lay_Z hI hj hk h12 hB3 h4r h5r hhr hZ3 (by assumption) (by first | exact Or.inl (by assumption) | exact Or.inr (Int32.not_le.mp (by assumption)))).1) (by first | exact Or.inr rfl | exact hb3) (x_layCosts_o26 S x1 x2 y3_39 S_39 y3_48 y4_48 S_48 y3_59 y5_59 S_59 hI hj hk h12 hhr hJ0p hM0p hB0p hZ0p hJ1 hM1 hB1 hZ1 hb1 hF1 c11 hi4 hJ2 hM2 hB2 hZ2 hb2 h44 hc2 hF2 c12 hi5 hJ3 hM3 hB3 hZ3 hb3 h55 hc3 hF3 c13 h4r h5r c16 c17 c18) (by first | exact hc3 | exact lay_c (lay_Z hI hj hk h12 hB3 h4r h5r hhr hZ3 (by assumption) (by first | exact Or.inl (by assumption) | exact Or.inr (Int32.not_le.mp (by assumption)))).2 hc3) (by first | exact (fun h => absurd h (by decide)) | exact (fun h => ⟨(hF3 h).1, by rw [tn_s h5r.1 (Int32.lt_trans h5r.2 (by decide))]; exact nat_s (hF3 h).2 (lay_N hI hj hk h12 hB3 h4r h5r (by first | exact Or.inl (by assumption) | exact Or.inr ⟨by assumption, by assumption⟩))⟩))
          · have hJ0p : XInv (x_layCosts_R2 S x2).2 := (x_layCosts_R2_P S x1 x2 hI hj hk h12 hhr).1
            have hM0p : (x_layCosts_R2 S x2).2.2.2.2 = S.2.2.2 := (x_layCosts_R2_P S x1 x2 hI hj hk h12 hhr).2.1
            have hB0p : (x_layCosts_R2 S x2).2.2.2.1 = S.2.2.1 := (x_layCosts_R2_P S x1 x2 hI hj hk h12 hhr).2.2.1
            have hZ0p : VIc (wx S x1) (gx x2) ((x_layCosts_R2 S x2).2.1 8) := (x_layCosts_R2_P S x1 x2 hI hj hk h12 hhr).2.2.2
            have h4r : 0 ≤ y4_48 ∧ y4_48 < 144 := x_layCosts_o14 S x1 x2 y3_39 S_39 y3_48 y4_48 S_48 y3_59 y5_59 S_59 hI hj hk h12 hhr hJ0p hM0p hB0p hZ0p hJ1 hM1 hB1 hZ1 hb1 hF1 c11 hi4 hJ2 hM2 hB2 hZ2 hb2 h44 hc2 hF2 c12 hi5 hJ3 hM3 hB3 hZ3 hb3 h55 hc3 hF3 c13
            have h5r : 0 ≤ y5_59 ∧ y5_59 < 3 := x_layCosts_o15 S x1 x2 y3_39 S_39 y3_48 y4_48 S_48 y3_59 y5_59 S_59 hI hj hk h12 hhr hJ0p hM0p hB0p hZ0p hJ1 hM1 hB1 hZ1 hb1 hF1 c11 hi4 hJ2 hM2 hB2 hZ2 hb2 h44 hc2 hF2 c12 hi5 hJ3 hM3 hB3 hZ3 hb3 h55 hc3 hF3 c13 h4r
            exact ih 1 (y5_59 + 1) (xu S_59 8 (Int32.toNatClampNeg y4_48) (x_throughOf S_59 x1 y4_48 y5_59)) (Nat.lt_of_lt_of_le (up_ hi5 (x_layCosts_o30 S x1 x2 y3_39 S_39 y3_48 y4_48 S_48 y3_59 y5_59 S_59 hI hj hk h12 hhr hJ0p hM0p hB0p hZ0p hJ1 hM1 hB1 hZ1 hb1 hF1 c11 hi4 hJ2 hM2 hB2 hZ2 hb2 h44 hc2 hF2 c12 hi5 hJ3 hM3 hB3 hZ3 hb3 h55 hc3 hF3 c13 h4r h5r c16 c17 c18)) (Nat.le_of_lt_succ hf)) (x_layCosts_o28 S x1 x2 y3_39 S_39 y3_48 y4_48 S_48 y3_59 y5_59 S_59 hI hj hk h12 hhr hJ0p hM0p hB0p hZ0p hJ1 hM1 hB1 hZ1 hb1 hF1 c11 hi4 hJ2 hM2 hB2 hZ2 hb2 h44 hc2 hF2 c12 hi5 hJ3 hM3 hB3 hZ3 hb3 h55 hc3 hF3 c13 h4r h5r c16 c17 c18) ((XInv_xu hJ3 _ _ _ (by decide))) (hM3) (hB3) (by first | exact hZ3 | exact (lay_Z hI hj hk h12 hB3 h4r h5r hhr hZ3 (by assumption) (by first | exact Or.inl (by assumption) | exact Or.inr (Int32.not_le.mp (by assumption)))).1) (by first | exact Or.inr rfl | exact hb3) (x_layCosts_o29 S x1 x2 y3_39 S_39 y3_48 y4_48 S_48 y3_59 y5_59 S_59 hI hj hk h12 hhr hJ0p hM0p hB0p hZ0p hJ1 hM1 hB1 hZ1 hb1 hF1 c11 hi4 hJ2 hM2 hB2 hZ2 hb2 h44 hc2 hF2 c12 hi5 hJ3 hM3 hB3 hZ3 hb3 h55 hc3 hF3 c13 h4r h5r c16 c17 c18) (by first | exact hc3 | exact lay_c (lay_Z hI hj hk h12 hB3 h4r h5r hhr hZ3 (by assumption) (by first | exact Or.inl (by assumption) | exact Or.inr (Int32.not_le.mp (by assumption)))).2 hc3) (by first | exact (fun h => absurd h (by decide)) | exact (fun h => ⟨(hF3 h).1, by rw [tn_s h5r.1 (Int32.lt_trans h5r.2 (by decide))]; exact nat_s (hF3 h).2 (lay_N hI hj hk h12 hB3 h4r h5r (by first | exact Or.inl (by assumption) | exact Or.inr ⟨by assumption, by assumption⟩))⟩))
theorem x_layCosts_R59_P (S : XS) (x1 : Nat) (x2 : Int32) (y3_39 : Int32) (S_39 : XS) (y3_48 : Int32) (y4_48 : Int32) (S_48 : XS) (hI : XInv S) (hj : x1 < S.2.2.2 7 0) (hk : S.2.2.2 0 x1 = 1 ∨ S.2.2.2 0 x1 = 3) (h12 : nI (S.2.2.2 1 x1) = 12) (hhr : 1 ≤ x2 ∧ x2 ≤ 12) (hJ1 : XInv S_39) (hM1 : S_39.2.2.2 = S.2.2.2) (hB1 : S_39.2.2.1 = S.2.2.1) (hZ1 : VIc (wx S x1) (gx x2) (S_39.1 8)) (hb1 : y3_39 = 0 ∨ y3_39 = 1) (hF1 : (y3_39 = 0 → ∀ k a : Nat, k < 144 → a < 3 → NIc (wx S x1) (S_39.1 8) k a)) (c11 : ¬ y3_39 = 0) (hi4 : 0 ≤ y4_48) (hJ2 : XInv S_48) (hM2 : S_48.2.2.2 = S.2.2.2) (hB2 : S_48.2.2.1 = S.2.2.1) (hZ2 : VIc (wx S x1) (gx x2) (S_48.1 8)) (hb2 : y3_48 = 0 ∨ y3_48 = 1) (h44 : y4_48 ≤ 144) (hc2 : csX (S_48.1 8) 144 + (y3_48 : Int32).toNatClampNeg ≤ csX (S_39.1 8) 144) (hF2 : (y3_48 = 0 → ∀ k a : Nat, k < (y4_48 : Int32).toNatClampNeg → a < 3 → NIc (wx S x1) (S_48.1 8) k a)) (c12 : ¬ 144 ≤ y4_48) : (XInv (x_layCosts_R59 x1 y3_48 y4_48 S_48).2.2) ∧ ((x_layCosts_R59 x1 y3_48 y4_48 S_48).2.2.2.2.2 = S.2.2.2) ∧ ((x_layCosts_R59 x1 y3_48 y4_48 S_48).2.2.2.2.1 = S.2.2.1) ∧ (VIc (wx S x1) (gx x2) ((x_layCosts_R59 x1 y3_48 y4_48 S_48).2.2.1 8)) ∧ ((x_layCosts_R59 x1 y3_48 y4_48 S_48).1 = 0 ∨ (x_layCosts_R59 x1 y3_48 y4_48 S_48).1 = 1) ∧ (csX ((x_layCosts_R59 x1 y3_48 y4_48 S_48).2.2.1 8) 144 + ((x_layCosts_R59 x1 y3_48 y4_48 S_48).1 : Int32).toNatClampNeg ≤ csX (S_39.1 8) 144) ∧ (((x_layCosts_R59 x1 y3_48 y4_48 S_48).1 = 0 → ∀ k a : Nat, k < ((y4_48 : Int32) + 1).toNatClampNeg → a < 3 → NIc (wx S x1) ((x_layCosts_R59 x1 y3_48 y4_48 S_48).2.2.1 8) k a)) := by
  unfold x_layCosts_R59
  exact x_layCosts_L59_P S x1 x2 y3_39 S_39 y3_48 y4_48 S_48 hI hj hk h12 hhr hJ1 hM1 hB1 hZ1 hb1 hF1 c11 hi4 hJ2 hM2 hB2 hZ2 hb2 h44 hc2 hF2 c12 (fz ((3 - 0 : Int32).toNatClampNeg + 1)) y3_48 0 S_48 (fz_lt _) (by decide) (hJ2) (hM2) (hB2) (hZ2) (hb2) (by decide) (hc2) (fun h => ⟨hF2 h, fun a h => absurd h (Nat.not_lt_zero a)⟩)
def x_layCosts_L48 (x1 : Nat) : Nat → Int32 → Int32 → XS → Int32 × Int32 × XS
  | 0, y3_48, y4_48, S_48 => (y3_48, y4_48, S_48)
  | f48 + 1, y3_48, y4_48, S_48 => (if 144 ≤ y4_48 then (y3_48, y4_48, S_48) else (x_layCosts_L48 x1 f48 (x_layCosts_R59 x1 y3_48 y4_48 S_48).1 (y4_48 + 1) (x_layCosts_R59 x1 y3_48 y4_48 S_48).2.2))
theorem x_layCosts_L48_s (x1 : Nat) (f48 : Nat) (y3_48 : Int32) (y4_48 : Int32) (S_48 : XS) : x_layCosts_L48 x1 (f48 + 1) y3_48 y4_48 S_48 = (if 144 ≤ y4_48 then (y3_48, y4_48, S_48) else (x_layCosts_L48 x1 f48 (x_layCosts_R59 x1 y3_48 y4_48 S_48).1 (y4_48 + 1) (x_layCosts_R59 x1 y3_48 y4_48 S_48).2.2)) := rfl
def x_layCosts_R48 (x1 : Nat) (S_39 : XS) : Int32 × Int32 × XS := x_layCosts_L48 x1 (fz ((144 - 0 : Int32).toNatClampNeg + 1)) 0 0 S_39
theorem x_layCosts_o31 (S : XS) (x1 : Nat) (x2 : Int32) (y3_39 : Int32) (S_39 : XS) (y3_48 : Int32) (y4_48 : Int32) (S_48 : XS) (hI : XInv S) (hj : x1 < S.2.2.2 7 0) (hk : S.2.2.2 0 x1 = 1 ∨ S.2.2.2 0 x1 = 3) (h12 : nI (S.2.2.2 1 x1) = 12) (hhr : 1 ≤ x2 ∧ x2 ≤ 12) (hJ0p : XInv (x_layCosts_R2 S x2).2) (hM0p : (x_layCosts_R2 S x2).2.2.2.2 = S.2.2.2) (hB0p : (x_layCosts_R2 S x2).2.2.2.1 = S.2.2.1) (hZ0p : VIc (wx S x1) (gx x2) ((x_layCosts_R2 S x2).2.1 8)) (hJ1 : XInv S_39) (hM1 : S_39.2.2.2 = S.2.2.2) (hB1 : S_39.2.2.1 = S.2.2.1) (hZ1 : VIc (wx S x1) (gx x2) (S_39.1 8)) (hb1 : y3_39 = 0 ∨ y3_39 = 1) (hF1 : (y3_39 = 0 → ∀ k a : Nat, k < 144 → a < 3 → NIc (wx S x1) (S_39.1 8) k a)) (c11 : ¬ y3_39 = 0) (hi4 : 0 ≤ y4_48) (hJ2 : XInv S_48) (hM2 : S_48.2.2.2 = S.2.2.2) (hB2 : S_48.2.2.1 = S.2.2.1) (hZ2 : VIc (wx S x1) (gx x2) (S_48.1 8)) (hb2 : y3_48 = 0 ∨ y3_48 = 1) (h44 : y4_48 ≤ 144) (hc2 : csX (S_48.1 8) 144 + (y3_48 : Int32).toNatClampNeg ≤ csX (S_39.1 8) 144) (hF2 : (y3_48 = 0 → ∀ k a : Nat, k < (y4_48 : Int32).toNatClampNeg → a < 3 → NIc (wx S x1) (S_48.1 8) k a)) (c12 : ¬ 144 ≤ y4_48) (hJ3p : XInv (x_layCosts_R59 x1 y3_48 y4_48 S_48).2.2) (hM3p : (x_layCosts_R59 x1 y3_48 y4_48 S_48).2.2.2.2.2 = S.2.2.2) (hB3p : (x_layCosts_R59 x1 y3_48 y4_48 S_48).2.2.2.2.1 = S.2.2.1) (hZ3p : VIc (wx S x1) (gx x2) ((x_layCosts_R59 x1 y3_48 y4_48 S_48).2.2.1 8)) (hb3p : (x_layCosts_R59 x1 y3_48 y4_48 S_48).1 = 0 ∨ (x_layCosts_R59 x1 y3_48 y4_48 S_48).1 = 1) (hc3p : csX ((x_layCosts_R59 x1 y3_48 y4_48 S_48).2.2.1 8) 144 + ((x_layCosts_R59 x1 y3_48 y4_48 S_48).1 : Int32).toNatClampNeg ≤ csX (S_39.1 8) 144) (hF3p : ((x_layCosts_R59 x1 y3_48 y4_48 S_48).1 = 0 → ∀ k a : Nat, k < ((y4_48 : Int32) + 1).toNatClampNeg → a < 3 → NIc (wx S x1) ((x_layCosts_R59 x1 y3_48 y4_48 S_48).2.2.1 8) k a)) : 0 ≤ (y4_48 + 1) := by 
  clear hc2 hF2 hc3p hF3p
  have bl_x2 := Int32.toInt_lt x2
  have bl_y3_39 := Int32.toInt_lt y3_39
  have bl_y3_48 := Int32.toInt_lt y3_48
  have bl_y4_48 := Int32.toInt_lt y4_48
  try simp only [i_le, i_lt, i_eq, Int32.reduceToInt] at *
  first | (have e_0 := a32 (x := y4_48) (y := 1) (by (try simp only [Int32.reduceToInt]); omega); (try simp only [Int32.reduceToInt] at e_0)) | skip
  try simp only [Int32.reduceToInt] at *
  omega
theorem x_layCosts_o32 (S : XS) (x1 : Nat) (x2 : Int32) (y3_39 : Int32) (S_39 : XS) (y3_48 : Int32) (y4_48 : Int32) (S_48 : XS) (hI : XInv S) (hj : x1 < S.2.2.2 7 0) (hk : S.2.2.2 0 x1 = 1 ∨ S.2.2.2 0 x1 = 3) (h12 : nI (S.2.2.2 1 x1) = 12) (hhr : 1 ≤ x2 ∧ x2 ≤ 12) (hJ0p : XInv (x_layCosts_R2 S x2).2) (hM0p : (x_layCosts_R2 S x2).2.2.2.2 = S.2.2.2) (hB0p : (x_layCosts_R2 S x2).2.2.2.1 = S.2.2.1) (hZ0p : VIc (wx S x1) (gx x2) ((x_layCosts_R2 S x2).2.1 8)) (hJ1 : XInv S_39) (hM1 : S_39.2.2.2 = S.2.2.2) (hB1 : S_39.2.2.1 = S.2.2.1) (hZ1 : VIc (wx S x1) (gx x2) (S_39.1 8)) (hb1 : y3_39 = 0 ∨ y3_39 = 1) (hF1 : (y3_39 = 0 → ∀ k a : Nat, k < 144 → a < 3 → NIc (wx S x1) (S_39.1 8) k a)) (c11 : ¬ y3_39 = 0) (hi4 : 0 ≤ y4_48) (hJ2 : XInv S_48) (hM2 : S_48.2.2.2 = S.2.2.2) (hB2 : S_48.2.2.1 = S.2.2.1) (hZ2 : VIc (wx S x1) (gx x2) (S_48.1 8)) (hb2 : y3_48 = 0 ∨ y3_48 = 1) (h44 : y4_48 ≤ 144) (hc2 : csX (S_48.1 8) 144 + (y3_48 : Int32).toNatClampNeg ≤ csX (S_39.1 8) 144) (hF2 : (y3_48 = 0 → ∀ k a : Nat, k < (y4_48 : Int32).toNatClampNeg → a < 3 → NIc (wx S x1) (S_48.1 8) k a)) (c12 : ¬ 144 ≤ y4_48) (hJ3p : XInv (x_layCosts_R59 x1 y3_48 y4_48 S_48).2.2) (hM3p : (x_layCosts_R59 x1 y3_48 y4_48 S_48).2.2.2.2.2 = S.2.2.2) (hB3p : (x_layCosts_R59 x1 y3_48 y4_48 S_48).2.2.2.2.1 = S.2.2.1) (hZ3p : VIc (wx S x1) (gx x2) ((x_layCosts_R59 x1 y3_48 y4_48 S_48).2.2.1 8)) (hb3p : (x_layCosts_R59 x1 y3_48 y4_48 S_48).1 = 0 ∨ (x_layCosts_R59 x1 y3_48 y4_48 S_48).1 = 1) (hc3p : csX ((x_layCosts_R59 x1 y3_48 y4_48 S_48).2.2.1 8) 144 + ((x_layCosts_R59 x1 y3_48 y4_48 S_48).1 : Int32).toNatClampNeg ≤ csX (S_39.1 8) 144) (hF3p : ((x_layCosts_R59 x1 y3_48 y4_48 S_48).1 = 0 → ∀ k a : Nat, k < ((y4_48 : Int32) + 1).toNatClampNeg → a < 3 → NIc (wx S x1) ((x_layCosts_R59 x1 y3_48 y4_48 S_48).2.2.1 8) k a)) : (y4_48 + 1) ≤ 144 := by 
  clear hc2 hF2 hc3p hF3p
  have bl_x2 := Int32.toInt_lt x2
  have bl_y3_39 := Int32.toInt_lt y3_39
  have bl_y3_48 := Int32.toInt_lt y3_48
  have bl_y4_48 := Int32.toInt_lt y4_48
  try simp only [i_le, i_lt, i_eq, Int32.reduceToInt] at *
  first | (have e_0 := a32 (x := y4_48) (y := 1) (by (try simp only [Int32.reduceToInt]); omega); (try simp only [Int32.reduceToInt] at e_0)) | skip
  try simp only [Int32.reduceToInt] at *
  omega
theorem x_layCosts_o33 (S : XS) (x1 : Nat) (x2 : Int32) (y3_39 : Int32) (S_39 : XS) (y3_48 : Int32) (y4_48 : Int32) (S_48 : XS) (hI : XInv S) (hj : x1 < S.2.2.2 7 0) (hk : S.2.2.2 0 x1 = 1 ∨ S.2.2.2 0 x1 = 3) (h12 : nI (S.2.2.2 1 x1) = 12) (hhr : 1 ≤ x2 ∧ x2 ≤ 12) (hJ0p : XInv (x_layCosts_R2 S x2).2) (hM0p : (x_layCosts_R2 S x2).2.2.2.2 = S.2.2.2) (hB0p : (x_layCosts_R2 S x2).2.2.2.1 = S.2.2.1) (hZ0p : VIc (wx S x1) (gx x2) ((x_layCosts_R2 S x2).2.1 8)) (hJ1 : XInv S_39) (hM1 : S_39.2.2.2 = S.2.2.2) (hB1 : S_39.2.2.1 = S.2.2.1) (hZ1 : VIc (wx S x1) (gx x2) (S_39.1 8)) (hb1 : y3_39 = 0 ∨ y3_39 = 1) (hF1 : (y3_39 = 0 → ∀ k a : Nat, k < 144 → a < 3 → NIc (wx S x1) (S_39.1 8) k a)) (c11 : ¬ y3_39 = 0) (hi4 : 0 ≤ y4_48) (hJ2 : XInv S_48) (hM2 : S_48.2.2.2 = S.2.2.2) (hB2 : S_48.2.2.1 = S.2.2.1) (hZ2 : VIc (wx S x1) (gx x2) (S_48.1 8)) (hb2 : y3_48 = 0 ∨ y3_48 = 1) (h44 : y4_48 ≤ 144) (hc2 : csX (S_48.1 8) 144 + (y3_48 : Int32).toNatClampNeg ≤ csX (S_39.1 8) 144) (hF2 : (y3_48 = 0 → ∀ k a : Nat, k < (y4_48 : Int32).toNatClampNeg → a < 3 → NIc (wx S x1) (S_48.1 8) k a)) (c12 : ¬ 144 ≤ y4_48) (hJ3p : XInv (x_layCosts_R59 x1 y3_48 y4_48 S_48).2.2) (hM3p : (x_layCosts_R59 x1 y3_48 y4_48 S_48).2.2.2.2.2 = S.2.2.2) (hB3p : (x_layCosts_R59 x1 y3_48 y4_48 S_48).2.2.2.2.1 = S.2.2.1) (hZ3p : VIc (wx S x1) (gx x2) ((x_layCosts_R59 x1 y3_48 y4_48 S_48).2.2.1 8)) (hb3p : (x_layCosts_R59 x1 y3_48 y4_48 S_48).1 = 0 ∨ (x_layCosts_R59 x1 y3_48 y4_48 S_48).1 = 1) (hc3p : csX ((x_layCosts_R59 x1 y3_48 y4_48 S_48).2.2.1 8) 144 + ((x_layCosts_R59 x1 y3_48 y4_48 S_48).1 : Int32).toNatClampNeg ≤ csX (S_39.1 8) 144) (hF3p : ((x_layCosts_R59 x1 y3_48 y4_48 S_48).1 = 0 → ∀ k a : Nat, k < ((y4_48 : Int32) + 1).toNatClampNeg → a < 3 → NIc (wx S x1) ((x_layCosts_R59 x1 y3_48 y4_48 S_48).2.2.1 8) k a)) : y4_48 < 144 := by 
  clear hc2 hF2 hc3p hF3p
  have bl_x2 := Int32.toInt_lt x2
  have bl_y3_39 := Int32.toInt_lt y3_39
  have bl_y3_48 := Int32.toInt_lt y3_48
  have bl_y4_48 := Int32.toInt_lt y4_48
  try simp only [i_le, i_lt, i_eq, Int32.reduceToInt] at *
  try simp only [Int32.reduceToInt] at *
  omega
theorem x_layCosts_L48_P (S : XS) (x1 : Nat) (x2 : Int32) (y3_39 : Int32) (S_39 : XS) (hI : XInv S) (hj : x1 < S.2.2.2 7 0) (hk : S.2.2.2 0 x1 = 1 ∨ S.2.2.2 0 x1 = 3) (h12 : nI (S.2.2.2 1 x1) = 12) (hhr : 1 ≤ x2 ∧ x2 ≤ 12) (hJ1 : XInv S_39) (hM1 : S_39.2.2.2 = S.2.2.2) (hB1 : S_39.2.2.1 = S.2.2.1) (hZ1 : VIc (wx S x1) (gx x2) (S_39.1 8)) (hb1 : y3_39 = 0 ∨ y3_39 = 1) (hF1 : (y3_39 = 0 → ∀ k a : Nat, k < 144 → a < 3 → NIc (wx S x1) (S_39.1 8) k a)) (c11 : ¬ y3_39 = 0) : ∀ (f48 : Nat) (y3_48 : Int32) (y4_48 : Int32) (S_48 : XS), (144 - y4_48 : Int32).toNatClampNeg < f48 → (0 ≤ y4_48) → (XInv S_48) → (S_48.2.2.2 = S.2.2.2) → (S_48.2.2.1 = S.2.2.1) → (VIc (wx S x1) (gx x2) (S_48.1 8)) → (y3_48 = 0 ∨ y3_48 = 1) → (y4_48 ≤ 144) → (csX (S_48.1 8) 144 + (y3_48 : Int32).toNatClampNeg ≤ csX (S_39.1 8) 144) → ((y3_48 = 0 → ∀ k a : Nat, k < (y4_48 : Int32).toNatClampNeg → a < 3 → NIc (wx S x1) (S_48.1 8) k a)) → (XInv (x_layCosts_L48 x1 f48 y3_48 y4_48 S_48).2.2) ∧ ((x_layCosts_L48 x1 f48 y3_48 y4_48 S_48).2.2.2.2.2 = S.2.2.2) ∧ ((x_layCosts_L48 x1 f48 y3_48 y4_48 S_48).2.2.2.2.1 = S.2.2.1) ∧ (VIc (wx S x1) (gx x2) ((x_layCosts_L48 x1 f48 y3_48 y4_48 S_48).2.2.1 8)) ∧ ((x_layCosts_L48 x1 f48 y3_48 y4_48 S_48).1 = 0 ∨ (x_layCosts_L48 x1 f48 y3_48 y4_48 S_48).1 = 1) ∧ (csX ((x_layCosts_L48 x1 f48 y3_48 y4_48 S_48).2.2.1 8) 144 + ((x_layCosts_L48 x1 f48 y3_48 y4_48 S_48).1 : Int32).toNatClampNeg ≤ csX (S_39.1 8) 144) ∧ (((x_layCosts_L48 x1 f48 y3_48 y4_48 S_48).1 = 0 → ∀ k a : Nat, k < 144 → a < 3 → NIc (wx S x1) ((x_layCosts_L48 x1 f48 y3_48 y4_48 S_48).2.2.1 8) k a)) := by
  intro f48
  induction f48 with
  | zero =>
    intro y3_48 y4_48 S_48 hf hi4 hJ2 hM2 hB2 hZ2 hb2 h44 hc2 hF2
    exact absurd hf (Nat.not_lt_zero _)
  | succ f48 ih =>
    intro y3_48 y4_48 S_48 hf hi4 hJ2 hM2 hB2 hZ2 hb2 h44 hc2 hF2
    rw [x_layCosts_L48_s]
    refine ifI (P := fun (z : Int32 × Int32 × XS) => (XInv z.2.2) ∧ (z.2.2.2.2.2 = S.2.2.2) ∧ (z.2.2.2.2.1 = S.2.2.1) ∧ (VIc (wx S x1) (gx x2) (z.2.2.1 8)) ∧ (z.1 = 0 ∨ z.1 = 1) ∧ (csX (z.2.2.1 8) 144 + (z.1 : Int32).toNatClampNeg ≤ csX (S_39.1 8) 144) ∧ ((z.1 = 0 → ∀ k a : Nat, k < 144 → a < 3 → NIc (wx S x1) (z.2.2.1 8) k a))) (fun c12 => ?_) (fun c12 => ?_)
    · exact ⟨hJ2, hM2, hB2, hZ2, hb2, hc2, fun h k a hk ha => hF2 h k a (Nat.lt_of_lt_of_le hk (ge144 (by assumption))) ha⟩
    · have hJ0p : XInv (x_layCosts_R2 S x2).2 := (x_layCosts_R2_P S x1 x2 hI hj hk h12 hhr).1
      have hM0p : (x_layCosts_R2 S x2).2.2.2.2 = S.2.2.2 := (x_layCosts_R2_P S x1 x2 hI hj hk h12 hhr).2.1
      have hB0p : (x_layCosts_R2 S x2).2.2.2.1 = S.2.2.1 := (x_layCosts_R2_P S x1 x2 hI hj hk h12 hhr).2.2.1
      have hZ0p : VIc (wx S x1) (gx x2) ((x_layCosts_R2 S x2).2.1 8) := (x_layCosts_R2_P S x1 x2 hI hj hk h12 hhr).2.2.2
      have hJ3p : XInv (x_layCosts_R59 x1 y3_48 y4_48 S_48).2.2 := (x_layCosts_R59_P S x1 x2 y3_39 S_39 y3_48 y4_48 S_48 hI hj hk h12 hhr hJ1 hM1 hB1 hZ1 hb1 hF1 c11 hi4 hJ2 hM2 hB2 hZ2 hb2 h44 hc2 hF2 c12).1
      have hM3p : (x_layCosts_R59 x1 y3_48 y4_48 S_48).2.2.2.2.2 = S.2.2.2 := (x_layCosts_R59_P S x1 x2 y3_39 S_39 y3_48 y4_48 S_48 hI hj hk h12 hhr hJ1 hM1 hB1 hZ1 hb1 hF1 c11 hi4 hJ2 hM2 hB2 hZ2 hb2 h44 hc2 hF2 c12).2.1
      have hB3p : (x_layCosts_R59 x1 y3_48 y4_48 S_48).2.2.2.2.1 = S.2.2.1 := (x_layCosts_R59_P S x1 x2 y3_39 S_39 y3_48 y4_48 S_48 hI hj hk h12 hhr hJ1 hM1 hB1 hZ1 hb1 hF1 c11 hi4 hJ2 hM2 hB2 hZ2 hb2 h44 hc2 hF2 c12).2.2.1
      have hZ3p : VIc (wx S x1) (gx x2) ((x_layCosts_R59 x1 y3_48 y4_48 S_48).2.2.1 8) := (x_layCosts_R59_P S x1 x2 y3_39 S_39 y3_48 y4_48 S_48 hI hj hk h12 hhr hJ1 hM1 hB1 hZ1 hb1 hF1 c11 hi4 hJ2 hM2 hB2 hZ2 hb2 h44 hc2 hF2 c12).2.2.2.1
      have hb3p : (x_layCosts_R59 x1 y3_48 y4_48 S_48).1 = 0 ∨ (x_layCosts_R59 x1 y3_48 y4_48 S_48).1 = 1 := (x_layCosts_R59_P S x1 x2 y3_39 S_39 y3_48 y4_48 S_48 hI hj hk h12 hhr hJ1 hM1 hB1 hZ1 hb1 hF1 c11 hi4 hJ2 hM2 hB2 hZ2 hb2 h44 hc2 hF2 c12).2.2.2.2.1
      have hc3p : csX ((x_layCosts_R59 x1 y3_48 y4_48 S_48).2.2.1 8) 144 + ((x_layCosts_R59 x1 y3_48 y4_48 S_48).1 : Int32).toNatClampNeg ≤ csX (S_39.1 8) 144 := (x_layCosts_R59_P S x1 x2 y3_39 S_39 y3_48 y4_48 S_48 hI hj hk h12 hhr hJ1 hM1 hB1 hZ1 hb1 hF1 c11 hi4 hJ2 hM2 hB2 hZ2 hb2 h44 hc2 hF2 c12).2.2.2.2.2.1
      have hF3p : ((x_layCosts_R59 x1 y3_48 y4_48 S_48).1 = 0 → ∀ k a : Nat, k < ((y4_48 : Int32) + 1).toNatClampNeg → a < 3 → NIc (wx S x1) ((x_layCosts_R59 x1 y3_48 y4_48 S_48).2.2.1 8) k a) := (x_layCosts_R59_P S x1 x2 y3_39 S_39 y3_48 y4_48 S_48 hI hj hk h12 hhr hJ1 hM1 hB1 hZ1 hb1 hF1 c11 hi4 hJ2 hM2 hB2 hZ2 hb2 h44 hc2 hF2 c12).2.2.2.2.2.2
      exact ih (x_layCosts_R59 x1 y3_48 y4_48 S_48).1 (y4_48 + 1) (x_layCosts_R59 x1 y3_48 y4_48 S_48).2.2 (Nat.lt_of_lt_of_le (up_ hi4 (x_layCosts_o33 S x1 x2 y3_39 S_39 y3_48 y4_48 S_48 hI hj hk h12 hhr hJ0p hM0p hB0p hZ0p hJ1 hM1 hB1 hZ1 hb1 hF1 c11 hi4 hJ2 hM2 hB2 hZ2 hb2 h44 hc2 hF2 c12 hJ3p hM3p hB3p hZ3p hb3p hc3p hF3p)) (Nat.le_of_lt_succ hf)) (x_layCosts_o31 S x1 x2 y3_39 S_39 y3_48 y4_48 S_48 hI hj hk h12 hhr hJ0p hM0p hB0p hZ0p hJ1 hM1 hB1 hZ1 hb1 hF1 c11 hi4 hJ2 hM2 hB2 hZ2 hb2 h44 hc2 hF2 c12 hJ3p hM3p hB3p hZ3p hb3p hc3p hF3p) (hJ3p) (hM3p) (hB3p) (hZ3p) (hb3p) (x_layCosts_o32 S x1 x2 y3_39 S_39 y3_48 y4_48 S_48 hI hj hk h12 hhr hJ0p hM0p hB0p hZ0p hJ1 hM1 hB1 hZ1 hb1 hF1 c11 hi4 hJ2 hM2 hB2 hZ2 hb2 h44 hc2 hF2 c12 hJ3p hM3p hB3p hZ3p hb3p hc3p hF3p) (hc3p) (hF3p)
theorem x_layCosts_R48_P (S : XS) (x1 : Nat) (x2 : Int32) (y3_39 : Int32) (S_39 : XS) (hI : XInv S) (hj : x1 < S.2.2.2 7 0) (hk : S.2.2.2 0 x1 = 1 ∨ S.2.2.2 0 x1 = 3) (h12 : nI (S.2.2.2 1 x1) = 12) (hhr : 1 ≤ x2 ∧ x2 ≤ 12) (hJ1 : XInv S_39) (hM1 : S_39.2.2.2 = S.2.2.2) (hB1 : S_39.2.2.1 = S.2.2.1) (hZ1 : VIc (wx S x1) (gx x2) (S_39.1 8)) (hb1 : y3_39 = 0 ∨ y3_39 = 1) (hF1 : (y3_39 = 0 → ∀ k a : Nat, k < 144 → a < 3 → NIc (wx S x1) (S_39.1 8) k a)) (c11 : ¬ y3_39 = 0) : (XInv (x_layCosts_R48 x1 S_39).2.2) ∧ ((x_layCosts_R48 x1 S_39).2.2.2.2.2 = S.2.2.2) ∧ ((x_layCosts_R48 x1 S_39).2.2.2.2.1 = S.2.2.1) ∧ (VIc (wx S x1) (gx x2) ((x_layCosts_R48 x1 S_39).2.2.1 8)) ∧ ((x_layCosts_R48 x1 S_39).1 = 0 ∨ (x_layCosts_R48 x1 S_39).1 = 1) ∧ (csX ((x_layCosts_R48 x1 S_39).2.2.1 8) 144 + ((x_layCosts_R48 x1 S_39).1 : Int32).toNatClampNeg ≤ csX (S_39.1 8) 144) ∧ (((x_layCosts_R48 x1 S_39).1 = 0 → ∀ k a : Nat, k < 144 → a < 3 → NIc (wx S x1) ((x_layCosts_R48 x1 S_39).2.2.1 8) k a)) := by
  unfold x_layCosts_R48
  exact x_layCosts_L48_P S x1 x2 y3_39 S_39 hI hj hk h12 hhr hJ1 hM1 hB1 hZ1 hb1 hF1 c11 (fz ((144 - 0 : Int32).toNatClampNeg + 1)) 0 0 S_39 (fz_lt _) (by decide) (hJ1) (hM1) (hB1) (hZ1) (Or.inl rfl) (by decide) (Nat.le_refl _) (fun _ k a h => absurd h (Nat.not_lt_zero k))
def x_layCosts_L39 (x1 : Nat) : Nat → Int32 → XS → Int32 × XS
  | 0, y3_39, S_39 => (y3_39, S_39)
  | f39 + 1, y3_39, S_39 => (if y3_39 = 0 then (y3_39, S_39) else (x_layCosts_L39 x1 f39 (x_layCosts_R48 x1 S_39).1 (x_layCosts_R48 x1 S_39).2.2))
theorem x_layCosts_L39_s (x1 : Nat) (f39 : Nat) (y3_39 : Int32) (S_39 : XS) : x_layCosts_L39 x1 (f39 + 1) y3_39 S_39 = (if y3_39 = 0 then (y3_39, S_39) else (x_layCosts_L39 x1 f39 (x_layCosts_R48 x1 S_39).1 (x_layCosts_R48 x1 S_39).2.2)) := rfl
def x_layCosts_R39 (S : XS) (x1 : Nat) (x2 : Int32) : Int32 × XS := x_layCosts_L39 x1 (fz (csX ((x_layCosts_R2 S x2).2.1 8) 144 + (1 : Int32).toNatClampNeg + 1)) 1 (x_layCosts_R2 S x2).2
theorem x_layCosts_L39_P (S : XS) (x1 : Nat) (x2 : Int32) (hI : XInv S) (hj : x1 < S.2.2.2 7 0) (hk : S.2.2.2 0 x1 = 1 ∨ S.2.2.2 0 x1 = 3) (h12 : nI (S.2.2.2 1 x1) = 12) (hhr : 1 ≤ x2 ∧ x2 ≤ 12) : ∀ (f39 : Nat) (y3_39 : Int32) (S_39 : XS), csX (S_39.1 8) 144 + (y3_39 : Int32).toNatClampNeg < f39 → (XInv S_39) → (S_39.2.2.2 = S.2.2.2) → (S_39.2.2.1 = S.2.2.1) → (VIc (wx S x1) (gx x2) (S_39.1 8)) → (y3_39 = 0 ∨ y3_39 = 1) → ((y3_39 = 0 → ∀ k a : Nat, k < 144 → a < 3 → NIc (wx S x1) (S_39.1 8) k a)) → (XInv (x_layCosts_L39 x1 f39 y3_39 S_39).2) ∧ ((x_layCosts_L39 x1 f39 y3_39 S_39).2.2.2.2 = S.2.2.2) ∧ ((x_layCosts_L39 x1 f39 y3_39 S_39).2.2.2.1 = S.2.2.1) ∧ (VIc (wx S x1) (gx x2) ((x_layCosts_L39 x1 f39 y3_39 S_39).2.1 8)) ∧ ((x_layCosts_L39 x1 f39 y3_39 S_39).1 = 0 ∨ (x_layCosts_L39 x1 f39 y3_39 S_39).1 = 1) ∧ ((∀ k a : Nat, k < 144 → a < 3 → NIc (wx S x1) ((x_layCosts_L39 x1 f39 y3_39 S_39).2.1 8) k a)) := by
  intro f39
  induction f39 with
  | zero =>
    intro y3_39 S_39 hf hJ1 hM1 hB1 hZ1 hb1 hF1
    exact absurd hf (Nat.not_lt_zero _)
  | succ f39 ih =>
    intro y3_39 S_39 hf hJ1 hM1 hB1 hZ1 hb1 hF1
    rw [x_layCosts_L39_s]
    refine ifI (P := fun (z : Int32 × XS) => (XInv z.2) ∧ (z.2.2.2.2 = S.2.2.2) ∧ (z.2.2.2.1 = S.2.2.1) ∧ (VIc (wx S x1) (gx x2) (z.2.1 8)) ∧ (z.1 = 0 ∨ z.1 = 1) ∧ ((∀ k a : Nat, k < 144 → a < 3 → NIc (wx S x1) (z.2.1 8) k a))) (fun c11 => ?_) (fun c11 => ?_)
    · exact ⟨hJ1, hM1, hB1, hZ1, hb1, hF1 (by assumption)⟩
    · have hJ2p : XInv (x_layCosts_R48 x1 S_39).2.2 := (x_layCosts_R48_P S x1 x2 y3_39 S_39 hI hj hk h12 hhr hJ1 hM1 hB1 hZ1 hb1 hF1 c11).1
      have hM2p : (x_layCosts_R48 x1 S_39).2.2.2.2.2 = S.2.2.2 := (x_layCosts_R48_P S x1 x2 y3_39 S_39 hI hj hk h12 hhr hJ1 hM1 hB1 hZ1 hb1 hF1 c11).2.1
      have hB2p : (x_layCosts_R48 x1 S_39).2.2.2.2.1 = S.2.2.1 := (x_layCosts_R48_P S x1 x2 y3_39 S_39 hI hj hk h12 hhr hJ1 hM1 hB1 hZ1 hb1 hF1 c11).2.2.1
      have hZ2p : VIc (wx S x1) (gx x2) ((x_layCosts_R48 x1 S_39).2.2.1 8) := (x_layCosts_R48_P S x1 x2 y3_39 S_39 hI hj hk h12 hhr hJ1 hM1 hB1 hZ1 hb1 hF1 c11).2.2.2.1
      have hb2p : (x_layCosts_R48 x1 S_39).1 = 0 ∨ (x_layCosts_R48 x1 S_39).1 = 1 := (x_layCosts_R48_P S x1 x2 y3_39 S_39 hI hj hk h12 hhr hJ1 hM1 hB1 hZ1 hb1 hF1 c11).2.2.2.2.1
      have hc2p : csX ((x_layCosts_R48 x1 S_39).2.2.1 8) 144 + ((x_layCosts_R48 x1 S_39).1 : Int32).toNatClampNeg ≤ csX (S_39.1 8) 144 := (x_layCosts_R48_P S x1 x2 y3_39 S_39 hI hj hk h12 hhr hJ1 hM1 hB1 hZ1 hb1 hF1 c11).2.2.2.2.2.1
      have hF2p : ((x_layCosts_R48 x1 S_39).1 = 0 → ∀ k a : Nat, k < 144 → a < 3 → NIc (wx S x1) ((x_layCosts_R48 x1 S_39).2.2.1 8) k a) := (x_layCosts_R48_P S x1 x2 y3_39 S_39 hI hj hk h12 hhr hJ1 hM1 hB1 hZ1 hb1 hF1 c11).2.2.2.2.2.2
      exact ih (x_layCosts_R48 x1 S_39).1 (x_layCosts_R48 x1 S_39).2.2 (lay_d hb1 (by assumption) hc2p hf) (hJ2p) (hM2p) (hB2p) (hZ2p) (hb2p) (hF2p)
theorem x_layCosts_R39_P (S : XS) (x1 : Nat) (x2 : Int32) (hI : XInv S) (hj : x1 < S.2.2.2 7 0) (hk : S.2.2.2 0 x1 = 1 ∨ S.2.2.2 0 x1 = 3) (h12 : nI (S.2.2.2 1 x1) = 12) (hhr : 1 ≤ x2 ∧ x2 ≤ 12) : (XInv (x_layCosts_R39 S x1 x2).2) ∧ ((x_layCosts_R39 S x1 x2).2.2.2.2 = S.2.2.2) ∧ ((x_layCosts_R39 S x1 x2).2.2.2.1 = S.2.2.1) ∧ (VIc (wx S x1) (gx x2) ((x_layCosts_R39 S x1 x2).2.1 8)) ∧ ((x_layCosts_R39 S x1 x2).1 = 0 ∨ (x_layCosts_R39 S x1 x2).1 = 1) ∧ ((∀ k a : Nat, k < 144 → a < 3 → NIc (wx S x1) ((x_layCosts_R39 S x1 x2).2.1 8) k a)) := by
  unfold x_layCosts_R39
  have hJ0p : XInv (x_layCosts_R2 S x2).2 := (x_layCosts_R2_P S x1 x2 hI hj hk h12 hhr).1
  have hM0p : (x_layCosts_R2 S x2).2.2.2.2 = S.2.2.2 := (x_layCosts_R2_P S x1 x2 hI hj hk h12 hhr).2.1
  have hB0p : (x_layCosts_R2 S x2).2.2.2.1 = S.2.2.1 := (x_layCosts_R2_P S x1 x2 hI hj hk h12 hhr).2.2.1
  have hZ0p : VIc (wx S x1) (gx x2) ((x_layCosts_R2 S x2).2.1 8) := (x_layCosts_R2_P S x1 x2 hI hj hk h12 hhr).2.2.2
  exact x_layCosts_L39_P S x1 x2 hI hj hk h12 hhr (fz (csX ((x_layCosts_R2 S x2).2.1 8) 144 + (1 : Int32).toNatClampNeg + 1)) 1 (x_layCosts_R2 S x2).2 (fz_lt _) (hJ0p) (hM0p) (hB0p) (hZ0p) (Or.inr rfl) (fun h => absurd h (by decide))
def x_layCosts (S : XS) (x1 : Nat) (x2 : Int32) : XS := (x_layCosts_R39 S x1 x2).2
theorem x_layCosts_N (S : XS) (x1 : Nat) (x2 : Int32) (hI : XInv S) (hj : x1 < S.2.2.2 7 0) (hk : S.2.2.2 0 x1 = 1 ∨ S.2.2.2 0 x1 = 3) (h12 : nI (S.2.2.2 1 x1) = 12) (hhr : 1 ≤ x2 ∧ x2 ≤ 12) : (x_layCosts S x1 x2).2.2.2 = S.2.2.2 := by
  unfold x_layCosts
  have hM1p : (x_layCosts_R39 S x1 x2).2.2.2.2 = S.2.2.2 := (x_layCosts_R39_P S x1 x2 hI hj hk h12 hhr).2.1
  exact hM1p
theorem x_layCosts_inv (S : XS) (x1 : Nat) (x2 : Int32) (hI : XInv S) (hj : x1 < S.2.2.2 7 0) (hk : S.2.2.2 0 x1 = 1 ∨ S.2.2.2 0 x1 = 3) (h12 : nI (S.2.2.2 1 x1) = 12) (hhr : 1 ≤ x2 ∧ x2 ≤ 12) : XInv (x_layCosts S x1 x2) := by
  unfold x_layCosts
  have hJ1p : XInv (x_layCosts_R39 S x1 x2).2 := (x_layCosts_R39_P S x1 x2 hI hj hk h12 hhr).1
  exact hJ1p
set_option maxHeartbeats 4000000 in
theorem xt_layCosts (l : Launch) (D : va_G) (d : Nat → ClassId) (A : Nat → Prop) (ad : XK → Nat) (S : XS) (x1 : Nat) (x2 : Int32) (hI : XInv S) (hj : x1 < S.2.2.2 7 0) (hk : S.2.2.2 0 x1 = 1 ∨ S.2.2.2 0 x1 = 3) (h12 : nI (S.2.2.2 1 x1) = 12) (hhr : 1 ≤ x2 ∧ x2 ≤ 12) : XV l yX0_layCosts cX0_layCosts 7 (rm_ 3) D d A ad S [.ref (ad (0, 0)), .ref (ad (40, x1)), .int x2] (x_layCosts S x1 x2) := by
  refine x_startV RX0 rfl (by decide) (Nat.le_of_ble_eq_true rfl) ?_
  intro p e s m av below meth c ls Q X hrt hlk hl hR hQ
  have hx := X.1.1.1
  have hb := X.1.1.2.1
  have hown := X.1.1.2.2.2.1
  have hts := X.1.1.2.2.2.2
  have hS : va_S A s.heap s.heap [] := va_S.rf
  have hl : lv_has ls 7 [(0, .ref (ad (0, 0))), (1, .ref (ad (40, x1))), (2, .int x2)] := hl
  refine lv_iconst (v := 0) hx hb dX0_layCosts_0 (by decide) ?_
  refine lv_istore_n (lv' := [(3, .int 0), (0, .ref (ad (0, 0))), (1, .ref (ad (40, x1))), (2, .int x2)]) hx hb dX0_layCosts_1 rfl hl (by decide) rfl (fun ls hl => ?_)
  have K2 : ∀ (H : Heap) (locs : List Loc) (ls : Array Slot), (XInv (x_layCosts_R2 S x2).2) → ((x_layCosts_R2 S x2).2.2.2.2 = S.2.2.2) → ((x_layCosts_R2 S x2).2.2.2.1 = S.2.2.1) → (VIc (wx S x1) (gx x2) ((x_layCosts_R2 S x2).2.1 8)) → XR D d A ad (x_layCosts_R2 S x2).2 H → va_S A s.heap H locs → lv_has ls 7 [(0, .ref (ad (0, 0))), (1, .ref (ad (40, x1))), (2, .int x2)] → W p l e (rm_ 3) s m av below meth c H locs 0 0 Q (F0 m 37 ls []) := by
    intro H locs ls hJ0p hM0p hB0p hZ0p hR hS hl
    refine lv_iconst (v := 1) hx hb dX0_layCosts_37 (by decide) ?_
    refine lv_istore_n (lv' := [(3, .int 1), (0, .ref (ad (0, 0))), (1, .ref (ad (40, x1))), (2, .int x2)]) hx hb dX0_layCosts_38 rfl hl (by decide) rfl (fun ls hl => ?_)
    have K39 : ∀ (H : Heap) (locs : List Loc) (ls : Array Slot), (XInv (x_layCosts_R39 S x1 x2).2) → ((x_layCosts_R39 S x1 x2).2.2.2.2 = S.2.2.2) → ((x_layCosts_R39 S x1 x2).2.2.2.1 = S.2.2.1) → (VIc (wx S x1) (gx x2) ((x_layCosts_R39 S x1 x2).2.1 8)) → ((x_layCosts_R39 S x1 x2).1 = 0 ∨ (x_layCosts_R39 S x1 x2).1 = 1) → ((∀ k a : Nat, k < 144 → a < 3 → NIc (wx S x1) ((x_layCosts_R39 S x1 x2).2.1 8) k a)) → XR D d A ad (x_layCosts_R39 S x1 x2).2 H → va_S A s.heap H locs → lv_has ls 7 [(3, .int (x_layCosts_R39 S x1 x2).1), (0, .ref (ad (0, 0))), (1, .ref (ad (40, x1))), (2, .int x2)] → W p l e (rm_ 3) s m av below meth c H locs 0 0 Q (F0 m 129 ls []) := by
      intro H locs ls hJ1p hM1p hB1p hZ1p hb1p hF1p hR hS hl
      exact x_rv hx hb hrt hlk hR hS hQ rfl dX0_layCosts_129
    have L39 : ∀ (f39 : Nat) (y3_39 : Int32) (S_39 : XS) (H : Heap) (locs : List Loc) (ls : Array Slot), csX (S_39.1 8) 144 + (y3_39 : Int32).toNatClampNeg < f39 → XInv S_39 → S_39.2.2.2 = S.2.2.2 → S_39.2.2.1 = S.2.2.1 → VIc (wx S x1) (gx x2) (S_39.1 8) → y3_39 = 0 ∨ y3_39 = 1 → (y3_39 = 0 → ∀ k a : Nat, k < 144 → a < 3 → NIc (wx S x1) (S_39.1 8) k a) → x_layCosts_L39 x1 (f39) y3_39 S_39 = (x_layCosts_R39 S x1 x2) → XR D d A ad S_39 H → va_S A s.heap H locs → lv_has ls 7 [(3, .int y3_39), (0, .ref (ad (0, 0))), (1, .ref (ad (40, x1))), (2, .int x2)] → W p l e (rm_ 3) s m av below meth c H locs 0 0 Q (F0 m 39 ls []) := by
      intro f39
      induction f39 with
      | zero => intro y3_39 S_39 H locs ls hf; exact absurd hf (Nat.not_lt_zero _)
      | succ f39 ih =>
        intro y3_39 S_39 H locs ls hf hJ1 hM1 hB1 hZ1 hb1 hF1 hE hR hS hl
        refine lv_iload_n hx hb dX0_layCosts_39 rfl (lv_at hl 0 rfl) ?_
        refine lv_if_eq (tgt := 129) hx hb dX0_layCosts_40 (by decide) (fun c11 => ?_) (fun c11 => ?_)
        · have e0 : (x_layCosts_R39 S x1 x2) = (y3_39, S_39) := Eq.trans (Eq.symm hE) (Eq.trans (x_layCosts_L39_s _ _ _ _) (if_pos c11))
          exact K39 _ _ _ ((by rw [e0]; exact hJ1)) ((by rw [e0]; exact hM1)) ((by rw [e0]; exact hB1)) ((by rw [e0]; exact hZ1)) ((by rw [e0]; exact hb1)) ((by rw [e0]; exact hF1 (by assumption))) (by rw [e0]; exact hR) hS (by rw [e0]; exact lv_sub hl [0, 1, 2, 3] rfl)
        · refine lv_iconst (v := 0) hx hb dX0_layCosts_43 (by decide) ?_
          refine lv_istore_n (lv' := [(3, .int 0), (0, .ref (ad (0, 0))), (1, .ref (ad (40, x1))), (2, .int x2)]) hx hb dX0_layCosts_44 rfl hl (by decide) rfl (fun ls hl => ?_)
          refine lv_iconst (v := 0) hx hb dX0_layCosts_45 (by decide) ?_
          refine lv_istore (lv' := [(4, .int 0), (3, .int 0), (0, .ref (ad (0, 0))), (1, .ref (ad (40, x1))), (2, .int x2)]) hx hb dX0_layCosts_46 hl (by decide) rfl (fun ls hl => ?_)
          have K48 : ∀ (H : Heap) (locs : List Loc) (ls : Array Slot), (XInv (x_layCosts_R48 x1 S_39).2.2) → ((x_layCosts_R48 x1 S_39).2.2.2.2.2 = S.2.2.2) → ((x_layCosts_R48 x1 S_39).2.2.2.2.1 = S.2.2.1) → (VIc (wx S x1) (gx x2) ((x_layCosts_R48 x1 S_39).2.2.1 8)) → ((x_layCosts_R48 x1 S_39).1 = 0 ∨ (x_layCosts_R48 x1 S_39).1 = 1) → (csX ((x_layCosts_R48 x1 S_39).2.2.1 8) 144 + ((x_layCosts_R48 x1 S_39).1 : Int32).toNatClampNeg ≤ csX (S_39.1 8) 144) → (((x_layCosts_R48 x1 S_39).1 = 0 → ∀ k a : Nat, k < 144 → a < 3 → NIc (wx S x1) ((x_layCosts_R48 x1 S_39).2.2.1 8) k a)) → XR D d A ad (x_layCosts_R48 x1 S_39).2.2 H → va_S A s.heap H locs → lv_has ls 7 [(4, .int (x_layCosts_R48 x1 S_39).2.1), (3, .int (x_layCosts_R48 x1 S_39).1), (0, .ref (ad (0, 0))), (1, .ref (ad (40, x1))), (2, .int x2)] → W p l e (rm_ 3) s m av below meth c H locs 0 0 Q (F0 m 126 ls []) := by
            intro H locs ls hJ2p hM2p hB2p hZ2p hb2p hc2p hF2p hR hS hl
            refine lv_goto (tgt := 39) hx hb dX0_layCosts_126 (by decide) ?_
            exact ih (x_layCosts_R48 x1 S_39).1 (x_layCosts_R48 x1 S_39).2.2 _ _  _ (lay_d hb1 (by assumption) hc2p hf) (hJ2p) (hM2p) (hB2p) (hZ2p) (hb2p) (hF2p) (Eq.trans (Eq.symm (Eq.trans (x_layCosts_L39_s _ _ _ _) (if_neg c11))) hE) hR hS (lv_sub hl [1, 2, 3, 4] rfl)
          have L48 : ∀ (f48 : Nat) (y3_48 : Int32) (y4_48 : Int32) (S_48 : XS) (H : Heap) (locs : List Loc) (ls : Array Slot), (144 - y4_48 : Int32).toNatClampNeg < f48 → 0 ≤ y4_48 → XInv S_48 → S_48.2.2.2 = S.2.2.2 → S_48.2.2.1 = S.2.2.1 → VIc (wx S x1) (gx x2) (S_48.1 8) → y3_48 = 0 ∨ y3_48 = 1 → y4_48 ≤ 144 → csX (S_48.1 8) 144 + (y3_48 : Int32).toNatClampNeg ≤ csX (S_39.1 8) 144 → (y3_48 = 0 → ∀ k a : Nat, k < (y4_48 : Int32).toNatClampNeg → a < 3 → NIc (wx S x1) (S_48.1 8) k a) → x_layCosts_L48 x1 (f48) y3_48 y4_48 S_48 = (x_layCosts_R48 x1 S_39) → XR D d A ad S_48 H → va_S A s.heap H locs → lv_has ls 7 [(4, .int y4_48), (3, .int y3_48), (0, .ref (ad (0, 0))), (1, .ref (ad (40, x1))), (2, .int x2)] → W p l e (rm_ 3) s m av below meth c H locs 0 0 Q (F0 m 48 ls []) := by
            intro f48
            induction f48 with
            | zero => intro y3_48 y4_48 S_48 H locs ls hf; exact absurd hf (Nat.not_lt_zero _)
            | succ f48 ih =>
              intro y3_48 y4_48 S_48 H locs ls hf hi4 hJ2 hM2 hB2 hZ2 hb2 h44 hc2 hF2 hE hR hS hl
              refine lv_iload hx hb dX0_layCosts_48 (lv_at hl 0 rfl) ?_
              refine lv_sipush (v := 144) hx hb dX0_layCosts_50 (by decide) ?_
              refine lv_icmp_ge (tgt := 126) hx hb dX0_layCosts_53 (by decide) (fun c12 => ?_) (fun c12 => ?_)
              · have e0 : (x_layCosts_R48 x1 S_39) = (y3_48, y4_48, S_48) := Eq.trans (Eq.symm hE) (Eq.trans (x_layCosts_L48_s _ _ _ _ _) (if_pos c12))
                exact K48 _ _ _ ((by rw [e0]; exact hJ2)) ((by rw [e0]; exact hM2)) ((by rw [e0]; exact hB2)) ((by rw [e0]; exact hZ2)) ((by rw [e0]; exact hb2)) ((by rw [e0]; exact hc2)) ((by rw [e0]; exact fun h k a hk ha => hF2 h k a (Nat.lt_of_lt_of_le hk (ge144 (by assumption))) ha)) (by rw [e0]; exact hR) hS (by rw [e0]; exact lv_sub hl [0, 1, 2, 3, 4] rfl)
              · refine lv_iconst (v := 0) hx hb dX0_layCosts_56 (by decide) ?_
                refine lv_istore (lv' := [(5, .int 0), (4, .int y4_48), (3, .int y3_48), (0, .ref (ad (0, 0))), (1, .ref (ad (40, x1))), (2, .int x2)]) hx hb dX0_layCosts_57 hl (by decide) rfl (fun ls hl => ?_)
                have K59 : ∀ (H : Heap) (locs : List Loc) (ls : Array Slot), (XInv (x_layCosts_R59 x1 y3_48 y4_48 S_48).2.2) → ((x_layCosts_R59 x1 y3_48 y4_48 S_48).2.2.2.2.2 = S.2.2.2) → ((x_layCosts_R59 x1 y3_48 y4_48 S_48).2.2.2.2.1 = S.2.2.1) → (VIc (wx S x1) (gx x2) ((x_layCosts_R59 x1 y3_48 y4_48 S_48).2.2.1 8)) → ((x_layCosts_R59 x1 y3_48 y4_48 S_48).1 = 0 ∨ (x_layCosts_R59 x1 y3_48 y4_48 S_48).1 = 1) → (csX ((x_layCosts_R59 x1 y3_48 y4_48 S_48).2.2.1 8) 144 + ((x_layCosts_R59 x1 y3_48 y4_48 S_48).1 : Int32).toNatClampNeg ≤ csX (S_39.1 8) 144) → (((x_layCosts_R59 x1 y3_48 y4_48 S_48).1 = 0 → ∀ k a : Nat, k < ((y4_48 : Int32) + 1).toNatClampNeg → a < 3 → NIc (wx S x1) ((x_layCosts_R59 x1 y3_48 y4_48 S_48).2.2.1 8) k a)) → XR D d A ad (x_layCosts_R59 x1 y3_48 y4_48 S_48).2.2 H → va_S A s.heap H locs → lv_has ls 7 [(5, .int (x_layCosts_R59 x1 y3_48 y4_48 S_48).2.1), (4, .int y4_48), (3, .int (x_layCosts_R59 x1 y3_48 y4_48 S_48).1), (0, .ref (ad (0, 0))), (1, .ref (ad (40, x1))), (2, .int x2)] → W p l e (rm_ 3) s m av below meth c H locs 0 0 Q (F0 m 120 ls []) := by
                  intro H locs ls hJ3p hM3p hB3p hZ3p hb3p hc3p hF3p hR hS hl
                  refine lv_iinc (v := (y4_48 + 1)) (lv' := [(4, .int (y4_48 + 1)), (5, .int (x_layCosts_R59 x1 y3_48 y4_48 S_48).2.1), (3, .int (x_layCosts_R59 x1 y3_48 y4_48 S_48).1), (0, .ref (ad (0, 0))), (1, .ref (ad (40, x1))), (2, .int x2)]) hx hb dX0_layCosts_120 hl (k := 1) rfl rfl (by decide) rfl (fun ls hl => ?_)
                  refine lv_goto (tgt := 48) hx hb dX0_layCosts_123 (by decide) ?_
                  exact ih (x_layCosts_R59 x1 y3_48 y4_48 S_48).1 (y4_48 + 1) (x_layCosts_R59 x1 y3_48 y4_48 S_48).2.2 _ _  _ (Nat.lt_of_lt_of_le (up_ hi4 (x_layCosts_o33 S x1 x2 y3_39 S_39 y3_48 y4_48 S_48 hI hj hk h12 hhr hJ0p hM0p hB0p hZ0p hJ1 hM1 hB1 hZ1 hb1 hF1 c11 hi4 hJ2 hM2 hB2 hZ2 hb2 h44 hc2 hF2 c12 hJ3p hM3p hB3p hZ3p hb3p hc3p hF3p)) (Nat.le_of_lt_succ hf)) (x_layCosts_o31 S x1 x2 y3_39 S_39 y3_48 y4_48 S_48 hI hj hk h12 hhr hJ0p hM0p hB0p hZ0p hJ1 hM1 hB1 hZ1 hb1 hF1 c11 hi4 hJ2 hM2 hB2 hZ2 hb2 h44 hc2 hF2 c12 hJ3p hM3p hB3p hZ3p hb3p hc3p hF3p) (hJ3p) (hM3p) (hB3p) (hZ3p) (hb3p) (x_layCosts_o32 S x1 x2 y3_39 S_39 y3_48 y4_48 S_48 hI hj hk h12 hhr hJ0p hM0p hB0p hZ0p hJ1 hM1 hB1 hZ1 hb1 hF1 c11 hi4 hJ2 hM2 hB2 hZ2 hb2 h44 hc2 hF2 c12 hJ3p hM3p hB3p hZ3p hb3p hc3p hF3p) (hc3p) (hF3p) (Eq.trans (Eq.symm (Eq.trans (x_layCosts_L48_s _ _ _ _ _) (if_neg c12))) hE) hR hS (lv_sub hl [0, 2, 3, 4, 5] rfl)
                have L59 : ∀ (f59 : Nat) (y3_59 : Int32) (y5_59 : Int32) (S_59 : XS) (H : Heap) (locs : List Loc) (ls : Array Slot), (3 - y5_59 : Int32).toNatClampNeg < f59 → 0 ≤ y5_59 → XInv S_59 → S_59.2.2.2 = S.2.2.2 → S_59.2.2.1 = S.2.2.1 → VIc (wx S x1) (gx x2) (S_59.1 8) → y3_59 = 0 ∨ y3_59 = 1 → y5_59 ≤ 3 → csX (S_59.1 8) 144 + (y3_59 : Int32).toNatClampNeg ≤ csX (S_39.1 8) 144 → (y3_59 = 0 → (∀ k a : Nat, k < (y4_48 : Int32).toNatClampNeg → a < 3 → NIc (wx S x1) (S_59.1 8) k a) ∧ ∀ a : Nat, a < (y5_59 : Int32).toNatClampNeg → NIc (wx S x1) (S_59.1 8) (y4_48 : Int32).toNatClampNeg a) → x_layCosts_L59 x1 y4_48 (f59) y3_59 y5_59 S_59 = (x_layCosts_R59 x1 y3_48 y4_48 S_48) → XR D d A ad S_59 H → va_S A s.heap H locs → lv_has ls 7 [(5, .int y5_59), (4, .int y4_48), (3, .int y3_59), (0, .ref (ad (0, 0))), (1, .ref (ad (40, x1))), (2, .int x2)] → W p l e (rm_ 3) s m av below meth c H locs 0 0 Q (F0 m 59 ls []) := by
                  intro f59
                  induction f59 with
                  | zero => intro y3_59 y5_59 S_59 H locs ls hf; exact absurd hf (Nat.not_lt_zero _)
                  | succ f59 ih =>
                    intro y3_59 y5_59 S_59 H locs ls hf hi5 hJ3 hM3 hB3 hZ3 hb3 h55 hc3 hF3 hE hR hS hl
                    refine lv_iload hx hb dX0_layCosts_59 (lv_at hl 0 rfl) ?_
                    refine lv_iconst (v := 3) hx hb dX0_layCosts_61 (by decide) ?_
                    refine lv_icmp_ge (tgt := 120) hx hb dX0_layCosts_62 (by decide) (fun c13 => ?_) (fun c13 => ?_)
                    · have e0 : (x_layCosts_R59 x1 y3_48 y4_48 S_48) = (y3_59, y5_59, S_59) := Eq.trans (Eq.symm hE) (Eq.trans (x_layCosts_L59_s _ _ _ _ _ _) (if_pos c13))
                      exact K59 _ _ _ ((by rw [e0]; exact hJ3)) ((by rw [e0]; exact hM3)) ((by rw [e0]; exact hB3)) ((by rw [e0]; exact hZ3)) ((by rw [e0]; exact hb3)) ((by rw [e0]; exact hc3)) ((by rw [e0]; exact fun h => by rw [tn_s hi4 (Int32.lt_trans (Int32.not_le.mp (by assumption)) (by decide))]; exact nat_s2 (hF3 h).1 (fun a ha => (hF3 h).2 a (Nat.lt_of_lt_of_le ha (ge3 (by assumption)))))) (by rw [e0]; exact hR) hS (by rw [e0]; exact lv_sub hl [0, 1, 2, 3, 4, 5] rfl)
                    · have h4r : 0 ≤ y4_48 ∧ y4_48 < 144 := x_layCosts_o14 S x1 x2 y3_39 S_39 y3_48 y4_48 S_48 y3_59 y5_59 S_59 hI hj hk h12 hhr hJ0p hM0p hB0p hZ0p hJ1 hM1 hB1 hZ1 hb1 hF1 c11 hi4 hJ2 hM2 hB2 hZ2 hb2 h44 hc2 hF2 c12 hi5 hJ3 hM3 hB3 hZ3 hb3 h55 hc3 hF3 c13
                      have h5r : 0 ≤ y5_59 ∧ y5_59 < 3 := x_layCosts_o15 S x1 x2 y3_39 S_39 y3_48 y4_48 S_48 y3_59 y5_59 S_59 hI hj hk h12 hhr hJ0p hM0p hB0p hZ0p hJ1 hM1 hB1 hZ1 hb1 hF1 c11 hi4 hJ2 hM2 hB2 hZ2 hb2 h44 hc2 hF2 c12 hi5 hJ3 hM3 hB3 hZ3 hb3 h55 hc3 hF3 c13 h4r
                      refine lv_aload_n hx hb dX0_layCosts_65 rfl (lv_at hl 3 rfl) ?_
                      refine lv_aload_n hx hb dX0_layCosts_66 rfl (lv_at hl 4 rfl) ?_
                      refine lv_iload hx hb dX0_layCosts_67 (lv_at hl 1 rfl) ?_
                      refine lv_iload hx hb dX0_layCosts_69 (lv_at hl 0 rfl) ?_
                      refine x_bi hS (xr_V X hR x_lv0 (ci := 0) (fs := x_fs ad S_59) rfl rfl (xt_throughOf l D d A ad S_59 x1 y4_48 y5_59 (hJ3) (by show x1 < S_59.2.2.2 7 0; rw [hM3]; exact hj) (by show S_59.2.2.2 0 x1 = 1 ∨ S_59.2.2.2 0 x1 = 3; rw [hM3]; exact hk) (by show nI (S_59.2.2.2 1 x1) = 12; rw [hM3]; exact h12) (h4r) (h5r)) 3 (lw_V q980 q982 qs15 q58 q983) ⟨rfl, rfl⟩ (by decide +kernel) ⟨by decide, by decide⟩ ⟨by decide, by decide⟩ rfl hl.1 rfl (Nat.le_of_ble_eq_true rfl) dX0_layCosts_71) (fun H locs hR hS => ?_)
                      refine lv_istore (lv' := [(6, .int (x_throughOf S_59 x1 y4_48 y5_59)), (5, .int y5_59), (4, .int y4_48), (3, .int y3_59), (0, .ref (ad (0, 0))), (1, .ref (ad (40, x1))), (2, .int x2)]) hx hb dX0_layCosts_74 hl (by decide) rfl (fun ls hl => ?_)
                      refine lv_iload hx hb dX0_layCosts_76 (lv_at hl 0 rfl) ?_
                      refine lv_if_lt (tgt := 114) hx hb dX0_layCosts_78 (by decide) (fun c16 => ?_) (fun c16 => ?_)
                      · refine lv_iinc (v := (y5_59 + 1)) (lv' := [(5, .int (y5_59 + 1)), (6, .int (x_throughOf S_59 x1 y4_48 y5_59)), (4, .int y4_48), (3, .int y3_59), (0, .ref (ad (0, 0))), (1, .ref (ad (40, x1))), (2, .int x2)]) hx hb dX0_layCosts_114 hl (k := 1) rfl rfl (by decide) rfl (fun ls hl => ?_)
                        refine lv_goto (tgt := 59) hx hb dX0_layCosts_117 (by decide) ?_
                        exact ih y3_59 (y5_59 + 1) S_59 _ _  _ (Nat.lt_of_lt_of_le (up_ hi5 (x_layCosts_o21 S x1 x2 y3_39 S_39 y3_48 y4_48 S_48 y3_59 y5_59 S_59 hI hj hk h12 hhr hJ0p hM0p hB0p hZ0p hJ1 hM1 hB1 hZ1 hb1 hF1 c11 hi4 hJ2 hM2 hB2 hZ2 hb2 h44 hc2 hF2 c12 hi5 hJ3 hM3 hB3 hZ3 hb3 h55 hc3 hF3 c13 h4r h5r c16)) (Nat.le_of_lt_succ hf)) (x_layCosts_o19 S x1 x2 y3_39 S_39 y3_48 y4_48 S_48 y3_59 y5_59 S_59 hI hj hk h12 hhr hJ0p hM0p hB0p hZ0p hJ1 hM1 hB1 hZ1 hb1 hF1 c11 hi4 hJ2 hM2 hB2 hZ2 hb2 h44 hc2 hF2 c12 hi5 hJ3 hM3 hB3 hZ3 hb3 h55 hc3 hF3 c13 h4r h5r c16) (hJ3) (hM3) (hB3) (by first | exact hZ3 | exact (lay_Z hI hj hk h12 hB3 h4r h5r hhr hZ3 (by assumption) (by first | exact Or.inl (by assumption) | exact Or.inr (Int32.not_le.mp (by assumption)))).1) (by first | exact Or.inr rfl | exact hb3) (x_layCosts_o20 S x1 x2 y3_39 S_39 y3_48 y4_48 S_48 y3_59 y5_59 S_59 hI hj hk h12 hhr hJ0p hM0p hB0p hZ0p hJ1 hM1 hB1 hZ1 hb1 hF1 c11 hi4 hJ2 hM2 hB2 hZ2 hb2 h44 hc2 hF2 c12 hi5 hJ3 hM3 hB3 hZ3 hb3 h55 hc3 hF3 c13 h4r h5r c16) (by first | exact hc3 | exact lay_c (lay_Z hI hj hk h12 hB3 h4r h5r hhr hZ3 (by assumption) (by first | exact Or.inl (by assumption) | exact Or.inr (Int32.not_le.mp (by assumption)))).2 hc3) (by first | exact (fun h => absurd h (by decide)) | exact (fun h => ⟨(hF3 h).1, by rw [tn_s h5r.1 (Int32.lt_trans h5r.2 (by decide))]; exact nat_s (hF3 h).2 (lay_N hI hj hk h12 hB3 h4r h5r (by first | exact Or.inl (by assumption) | exact Or.inr ⟨by assumption, by assumption⟩))⟩)) (Eq.trans (Eq.symm (Eq.trans (x_layCosts_L59_s _ _ _ _ _ _) (Eq.trans (if_neg c13) (if_pos c16)))) hE) hR hS (lv_sub hl [0, 2, 3, 4, 5, 6] rfl)
                      · refine lv_aload_n hx hb dX0_layCosts_81 rfl (lv_at hl 4 rfl) ?_
                        refine xg_a X.1 hR 8 (by decide) (by decide) q105 dX0_layCosts_82 ?_
                        refine lv_iload hx hb dX0_layCosts_85 (lv_at hl 2 rfl) ?_
                        refine x_ld X.1 hR ⟨by decide, rfl⟩ (ixl 144 144 (by decide) rfl (h4r)) (v := S_59.1 8 (Int32.toNatClampNeg y4_48)) rfl dX0_layCosts_87 ?_
                        refine lv_if_lt (tgt := 103) hx hb dX0_layCosts_88 (by decide) (fun c17 => ?_) (fun c17 => ?_)
                        · refine lv_aload_n hx hb dX0_layCosts_103 rfl (lv_at hl 4 rfl) ?_
                          refine xg_a X.1 hR 8 (by decide) (by decide) q105 dX0_layCosts_104 ?_
                          refine lv_iload hx hb dX0_layCosts_107 (lv_at hl 2 rfl) ?_
                          refine lv_iload hx hb dX0_layCosts_109 (lv_at hl 0 rfl) ?_
                          refine x_st X.1 hR hS ⟨by decide, rfl⟩ (ixl 144 144 (by decide) rfl (h4r)) dX0_layCosts_111 (fun H locs hR hS => ?_)
                          refine lv_iconst (v := 1) hx hb dX0_layCosts_112 (by decide) ?_
                          refine lv_istore_n (lv' := [(3, .int 1), (6, .int (x_throughOf S_59 x1 y4_48 y5_59)), (5, .int y5_59), (4, .int y4_48), (0, .ref (ad (0, 0))), (1, .ref (ad (40, x1))), (2, .int x2)]) hx hb dX0_layCosts_113 rfl hl (by decide) rfl (fun ls hl => ?_)
                          refine lv_iinc (v := (y5_59 + 1)) (lv' := [(5, .int (y5_59 + 1)), (3, .int 1), (6, .int (x_throughOf S_59 x1 y4_48 y5_59)), (4, .int y4_48), (0, .ref (ad (0, 0))), (1, .ref (ad (40, x1))), (2, .int x2)]) hx hb dX0_layCosts_114 hl (k := 2) rfl rfl (by decide) rfl (fun ls hl => ?_)
                          refine lv_goto (tgt := 59) hx hb dX0_layCosts_117 (by decide) ?_
                          exact ih 1 (y5_59 + 1) (xu S_59 8 (Int32.toNatClampNeg y4_48) (x_throughOf S_59 x1 y4_48 y5_59)) _ _  _ (Nat.lt_of_lt_of_le (up_ hi5 (x_layCosts_o24 S x1 x2 y3_39 S_39 y3_48 y4_48 S_48 y3_59 y5_59 S_59 hI hj hk h12 hhr hJ0p hM0p hB0p hZ0p hJ1 hM1 hB1 hZ1 hb1 hF1 c11 hi4 hJ2 hM2 hB2 hZ2 hb2 h44 hc2 hF2 c12 hi5 hJ3 hM3 hB3 hZ3 hb3 h55 hc3 hF3 c13 h4r h5r c16 c17)) (Nat.le_of_lt_succ hf)) (x_layCosts_o22 S x1 x2 y3_39 S_39 y3_48 y4_48 S_48 y3_59 y5_59 S_59 hI hj hk h12 hhr hJ0p hM0p hB0p hZ0p hJ1 hM1 hB1 hZ1 hb1 hF1 c11 hi4 hJ2 hM2 hB2 hZ2 hb2 h44 hc2 hF2 c12 hi5 hJ3 hM3 hB3 hZ3 hb3 h55 hc3 hF3 c13 h4r h5r c16 c17) ((XInv_xu hJ3 _ _ _ (by decide))) (hM3) (hB3) (by first | exact hZ3 | exact (lay_Z hI hj hk h12 hB3 h4r h5r hhr hZ3 (by assumption) (by first | exact Or.inl (by assumption) | exact Or.inr (Int32.not_le.mp (by assumption)))).1) (by first | exact Or.inr rfl | exact hb3) (x_layCosts_o23 S x1 x2 y3_39 S_39 y3_48 y4_48 S_48 y3_59 y5_59 S_59 hI hj hk h12 hhr hJ0p hM0p hB0p hZ0p hJ1 hM1 hB1 hZ1 hb1 hF1 c11 hi4 hJ2 hM2 hB2 hZ2 hb2 h44 hc2 hF2 c12 hi5 hJ3 hM3 hB3 hZ3 hb3 h55 hc3 hF3 c13 h4r h5r c16 c17) (by first | exact hc3 | exact lay_c (lay_Z hI hj hk h12 hB3 h4r h5r hhr hZ3 (by assumption) (by first | exact Or.inl (by assumption) | exact Or.inr (Int32.not_le.mp (by assumption)))).2 hc3) (by first | exact (fun h => absurd h (by decide)) | exact (fun h => ⟨(hF3 h).1, by rw [tn_s h5r.1 (Int32.lt_trans h5r.2 (by decide))]; exact nat_s (hF3 h).2 (lay_N hI hj hk h12 hB3 h4r h5r (by first | exact Or.inl (by assumption) | exact Or.inr ⟨by assumption, by assumption⟩))⟩)) (Eq.trans (Eq.symm (Eq.trans (x_layCosts_L59_s _ _ _ _ _ _) (Eq.trans (if_neg c13) (Eq.trans (if_neg c16) (if_pos c17))))) hE) hR hS (lv_sub hl [0, 3, 1, 4, 5, 6] rfl)
                        · refine lv_iload hx hb dX0_layCosts_91 (lv_at hl 0 rfl) ?_
                          refine lv_aload_n hx hb dX0_layCosts_93 rfl (lv_at hl 4 rfl) ?_
                          refine xg_a X.1 hR 8 (by decide) (by decide) q105 dX0_layCosts_94 ?_
                          refine lv_iload hx hb dX0_layCosts_97 (lv_at hl 2 rfl) ?_
                          refine x_ld X.1 hR ⟨by decide, rfl⟩ (ixl 144 144 (by decide) rfl (h4r)) (v := S_59.1 8 (Int32.toNatClampNeg y4_48)) rfl dX0_layCosts_99 ?_
                          refine lv_icmp_ge (tgt := 114) hx hb dX0_layCosts_100 (by decide) (fun c18 => ?_) (fun c18 => ?_)
                          · refine lv_iinc (v := (y5_59 + 1)) (lv' := [(5, .int (y5_59 + 1)), (6, .int (x_throughOf S_59 x1 y4_48 y5_59)), (4, .int y4_48), (3, .int y3_59), (0, .ref (ad (0, 0))), (1, .ref (ad (40, x1))), (2, .int x2)]) hx hb dX0_layCosts_114 hl (k := 1) rfl rfl (by decide) rfl (fun ls hl => ?_)
                            refine lv_goto (tgt := 59) hx hb dX0_layCosts_117 (by decide) ?_
                            exact ih y3_59 (y5_59 + 1) S_59 _ _  _ (Nat.lt_of_lt_of_le (up_ hi5 (x_layCosts_o27 S x1 x2 y3_39 S_39 y3_48 y4_48 S_48 y3_59 y5_59 S_59 hI hj hk h12 hhr hJ0p hM0p hB0p hZ0p hJ1 hM1 hB1 hZ1 hb1 hF1 c11 hi4 hJ2 hM2 hB2 hZ2 hb2 h44 hc2 hF2 c12 hi5 hJ3 hM3 hB3 hZ3 hb3 h55 hc3 hF3 c13 h4r h5r c16 c17 c18)) (Nat.le_of_lt_succ hf)) (x_layCosts_o25 S x1 x2 y3_39 S_39 y3_48 y4_48 S_48 y3_59 y5_59 S_59 hI hj hk h12 hhr hJ0p hM0p hB0p hZ0p hJ1 hM1 hB1 hZ1 hb1 hF1 c11 hi4 hJ2 hM2 hB2 hZ2 hb2 h44 hc2 hF2 c12 hi5 hJ3 hM3 hB3 hZ3 hb3 h55 hc3 hF3 c13 h4r h5r c16 c17 c18) (hJ3) (hM3) (hB3) (by first | exact hZ3 | exact (lay_Z hI hj hk h12 hB3 h4r h5r hhr hZ3 (by assumption) (by first | exact Or.inl (by assumption) | exact Or.inr (Int32.not_le.mp (by assumption)))).1) (by first | exact Or.inr rfl | exact hb3) (x_layCosts_o26 S x1 x2 y3_39 S_39 y3_48 y4_48 S_48 y3_59 y5_59 S_59 hI hj hk h12 hhr hJ0p hM0p hB0p hZ0p hJ1 hM1 hB1 hZ1 hb1 hF1 c11 hi4 hJ2 hM2 hB2 hZ2 hb2 h44 hc2 hF2 c12 hi5 hJ3 hM3 hB3 hZ3 hb3 h55 hc3 hF3 c13 h4r h5r c16 c17 c18) (by first | exact hc3 | exact lay_c (lay_Z hI hj hk h12 hB3 h4r h5r hhr hZ3 (by assumption) (by first | exact Or.inl (by assumption) | exact Or.inr (Int32.not_le.mp (by assumption)))).2 hc3) (by first | exact (fun h => absurd h (by decide)) | exact (fun h => ⟨(hF3 h).1, by rw [tn_s h5r.1 (Int32.lt_trans h5r.2 (by decide))]; exact nat_s (hF3 h).2 (lay_N hI hj hk h12 hB3 h4r h5r (by first | exact Or.inl (by assumption) | exact Or.inr ⟨by assumption, by assumption⟩))⟩)) (Eq.trans (Eq.symm (Eq.trans (x_layCosts_L59_s _ _ _ _ _ _) (Eq.trans (if_neg c13) (Eq.trans (if_neg c16) (Eq.trans (if_neg c17) (if_pos c18)))))) hE) hR hS (lv_sub hl [0, 2, 3, 4, 5, 6] rfl)
                          · refine lv_aload_n hx hb dX0_layCosts_103 rfl (lv_at hl 4 rfl) ?_
                            refine xg_a X.1 hR 8 (by decide) (by decide) q105 dX0_layCosts_104 ?_
                            refine lv_iload hx hb dX0_layCosts_107 (lv_at hl 2 rfl) ?_
                            refine lv_iload hx hb dX0_layCosts_109 (lv_at hl 0 rfl) ?_
                            refine x_st X.1 hR hS ⟨by decide, rfl⟩ (ixl 144 144 (by decide) rfl (h4r)) dX0_layCosts_111 (fun H locs hR hS => ?_)
                            refine lv_iconst (v := 1) hx hb dX0_layCosts_112 (by decide) ?_
                            refine lv_istore_n (lv' := [(3, .int 1), (6, .int (x_throughOf S_59 x1 y4_48 y5_59)), (5, .int y5_59), (4, .int y4_48), (0, .ref (ad (0, 0))), (1, .ref (ad (40, x1))), (2, .int x2)]) hx hb dX0_layCosts_113 rfl hl (by decide) rfl (fun ls hl => ?_)
                            refine lv_iinc (v := (y5_59 + 1)) (lv' := [(5, .int (y5_59 + 1)), (3, .int 1), (6, .int (x_throughOf S_59 x1 y4_48 y5_59)), (4, .int y4_48), (0, .ref (ad (0, 0))), (1, .ref (ad (40, x1))), (2, .int x2)]) hx hb dX0_layCosts_114 hl (k := 2) rfl rfl (by decide) rfl (fun ls hl => ?_)
                            refine lv_goto (tgt := 59) hx hb dX0_layCosts_117 (by decide) ?_
                            exact ih 1 (y5_59 + 1) (xu S_59 8 (Int32.toNatClampNeg y4_48) (x_throughOf S_59 x1 y4_48 y5_59)) _ _  _ (Nat.lt_of_lt_of_le (up_ hi5 (x_layCosts_o30 S x1 x2 y3_39 S_39 y3_48 y4_48 S_48 y3_59 y5_59 S_59 hI hj hk h12 hhr hJ0p hM0p hB0p hZ0p hJ1 hM1 hB1 hZ1 hb1 hF1 c11 hi4 hJ2 hM2 hB2 hZ2 hb2 h44 hc2 hF2 c12 hi5 hJ3 hM3 hB3 hZ3 hb3 h55 hc3 hF3 c13 h4r h5r c16 c17 c18)) (Nat.le_of_lt_succ hf)) (x_layCosts_o28 S x1 x2 y3_39 S_39 y3_48 y4_48 S_48 y3_59 y5_59 S_59 hI hj hk h12 hhr hJ0p hM0p hB0p hZ0p hJ1 hM1 hB1 hZ1 hb1 hF1 c11 hi4 hJ2 hM2 hB2 hZ2 hb2 h44 hc2 hF2 c12 hi5 hJ3 hM3 hB3 hZ3 hb3 h55 hc3 hF3 c13 h4r h5r c16 c17 c18) ((XInv_xu hJ3 _ _ _ (by decide))) (hM3) (hB3) (by first | exact hZ3 | exact (lay_Z hI hj hk h12 hB3 h4r h5r hhr hZ3 (by assumption) (by first | exact Or.inl (by assumption) | exact Or.inr (Int32.not_le.mp (by assumption)))).1) (by first | exact Or.inr rfl | exact hb3) (x_layCosts_o29 S x1 x2 y3_39 S_39 y3_48 y4_48 S_48 y3_59 y5_59 S_59 hI hj hk h12 hhr hJ0p hM0p hB0p hZ0p hJ1 hM1 hB1 hZ1 hb1 hF1 c11 hi4 hJ2 hM2 hB2 hZ2 hb2 h44 hc2 hF2 c12 hi5 hJ3 hM3 hB3 hZ3 hb3 h55 hc3 hF3 c13 h4r h5r c16 c17 c18) (by first | exact hc3 | exact lay_c (lay_Z hI hj hk h12 hB3 h4r h5r hhr hZ3 (by assumption) (by first | exact Or.inl (by assumption) | exact Or.inr (Int32.not_le.mp (by assumption)))).2 hc3) (by first | exact (fun h => absurd h (by decide)) | exact (fun h => ⟨(hF3 h).1, by rw [tn_s h5r.1 (Int32.lt_trans h5r.2 (by decide))]; exact nat_s (hF3 h).2 (lay_N hI hj hk h12 hB3 h4r h5r (by first | exact Or.inl (by assumption) | exact Or.inr ⟨by assumption, by assumption⟩))⟩)) (Eq.trans (Eq.symm (Eq.trans (x_layCosts_L59_s _ _ _ _ _ _) (Eq.trans (if_neg c13) (Eq.trans (if_neg c16) (Eq.trans (if_neg c17) (if_neg c18)))))) hE) hR hS (lv_sub hl [0, 3, 1, 4, 5, 6] rfl)
                exact L59 _ y3_48 0 S_48 _ _  _ (fz_lt _) (by decide) (hJ2) (hM2) (hB2) (hZ2) (hb2) (by decide) (hc2) (fun h => ⟨hF2 h, fun a h => absurd h (Nat.not_lt_zero a)⟩) rfl hR hS (lv_sub hl [0, 1, 2, 3, 4, 5] rfl)
          exact L48 _ 0 0 S_39 _ _  _ (fz_lt _) (by decide) (hJ1) (hM1) (hB1) (hZ1) (Or.inl rfl) (by decide) (Nat.le_refl _) (fun _ k a h => absurd h (Nat.not_lt_zero k)) rfl hR hS (lv_sub hl [0, 1, 2, 3, 4] rfl)
    exact L39 _ 1 (x_layCosts_R2 S x2).2 _ _  _ (fz_lt _) (hJ0p) (hM0p) (hB0p) (hZ0p) (Or.inr rfl) (fun h => absurd h (by decide)) rfl hR hS (lv_sub hl [0, 1, 2, 3] rfl)
  have L2 : ∀ (f2 : Nat) (y3_2 : Int32) (S_2 : XS) (H : Heap) (locs : List Loc) (ls : Array Slot), (144 - y3_2 : Int32).toNatClampNeg < f2 → 0 ≤ y3_2 → XInv S_2 → S_2.2.2.2 = S.2.2.2 → S_2.2.2.1 = S.2.2.1 → y3_2 ≤ 144 → (∀ i : Nat, i < (y3_2 : Int32).toNatClampNeg → S_2.1 8 i = if i = 13 * gx x2 then 0 else -9) → x_layCosts_L2 x2 (f2) y3_2 S_2 = (x_layCosts_R2 S x2) → XR D d A ad S_2 H → va_S A s.heap H locs → lv_has ls 7 [(3, .int y3_2), (0, .ref (ad (0, 0))), (1, .ref (ad (40, x1))), (2, .int x2)] → W p l e (rm_ 3) s m av below meth c H locs 0 0 Q (F0 m 2 ls []) := by
    intro f2
    induction f2 with
    | zero => intro y3_2 S_2 H locs ls hf; exact absurd hf (Nat.not_lt_zero _)
    | succ f2 ih =>
      intro y3_2 S_2 H locs ls hf hi3 hJ0 hM0 hB0 h144 hC0 hE hR hS hl
      refine lv_iload_n hx hb dX0_layCosts_2 rfl (lv_at hl 0 rfl) ?_
      refine lv_sipush (v := 144) hx hb dX0_layCosts_3 (by decide) ?_
      refine lv_icmp_ge (tgt := 37) hx hb dX0_layCosts_6 (by decide) (fun c1 => ?_) (fun c1 => ?_)
      · have e0 : (x_layCosts_R2 S x2) = (y3_2, S_2) := Eq.trans (Eq.symm hE) (Eq.trans (x_layCosts_L2_s _ _ _ _) (if_pos c1))
        exact K2 _ _ _ ((by rw [e0]; exact hJ0)) ((by rw [e0]; exact hM0)) ((by rw [e0]; exact hB0)) ((by rw [e0]; exact lay_0 _ (gx_lt hhr).1 (fun i h => hC0 i (Nat.lt_of_lt_of_le h (ge144 (by assumption)))))) (by rw [e0]; exact hR) hS (lv_sub hl [1, 2, 3] rfl)
      · refine lv_aload_n hx hb dX0_layCosts_9 rfl (lv_at hl 1 rfl) ?_
        refine xg_a X.1 hR 8 (by decide) (by decide) q105 dX0_layCosts_10 ?_
        refine lv_iload_n hx hb dX0_layCosts_13 rfl (lv_at hl 0 rfl) ?_
        refine lv_iload_n hx hb dX0_layCosts_14 rfl (lv_at hl 0 rfl) ?_
        refine lv_bipush (v := 13) hx hb dX0_layCosts_15 (by decide) ?_
        refine lv_iload_n hx hb dX0_layCosts_17 rfl (lv_at hl 3 rfl) ?_
        refine lv_iconst (v := 1) hx hb dX0_layCosts_18 (by decide) ?_
        refine lv_isub hx hb dX0_layCosts_19 ?_
        refine lv_imul hx hb dX0_layCosts_20 ?_
        refine lv_icmp_ne (tgt := 28) hx hb dX0_layCosts_21 (by decide) (fun c2 => ?_) (fun c2 => ?_)
        · refine lv_bipush (v := (-9)) hx hb dX0_layCosts_28 (by decide) ?_
          refine x_st X.1 hR hS ⟨by decide, rfl⟩ (ixl 144 144 (by decide) rfl (x_layCosts_o3 S x1 x2 y3_2 S_2 hI hj hk h12 hhr hi3 hJ0 hM0 hB0 h144 hC0 c1 c2)) dX0_layCosts_30 (fun H locs hR hS => ?_)
          refine lv_iinc (v := (y3_2 + 1)) (lv' := [(3, .int (y3_2 + 1)), (0, .ref (ad (0, 0))), (1, .ref (ad (40, x1))), (2, .int x2)]) hx hb dX0_layCosts_31 hl (k := 0) rfl rfl (by decide) rfl (fun ls hl => ?_)
          refine lv_goto (tgt := 2) hx hb dX0_layCosts_34 (by decide) ?_
          exact ih (y3_2 + 1) (xu S_2 8 (Int32.toNatClampNeg y3_2) (-9)) _ _  _ (Nat.lt_of_lt_of_le (up_ hi3 (x_layCosts_o10 S x1 x2 y3_2 S_2 hI hj hk h12 hhr hi3 hJ0 hM0 hB0 h144 hC0 c1 c2)) (Nat.le_of_lt_succ hf)) (x_layCosts_o8 S x1 x2 y3_2 S_2 hI hj hk h12 hhr hi3 hJ0 hM0 hB0 h144 hC0 c1 c2) ((XInv_xu hJ0 _ _ _ (by decide))) (hM0) (hB0) (x_layCosts_o9 S x1 x2 y3_2 S_2 hI hj hk h12 hhr hi3 hJ0 hM0 hB0 h144 hC0 c1 c2) (lay_s hhr hi3 (Int32.not_le.mp (by assumption)) hC0 (by first | exact Or.inl ⟨by assumption, rfl⟩ | exact Or.inr ⟨by assumption, rfl⟩)) (Eq.trans (Eq.symm (Eq.trans (x_layCosts_L2_s _ _ _ _) (Eq.trans (if_neg c1) (if_neg c2)))) hE) hR hS (lv_sub hl [0, 1, 2, 3] rfl)
        · refine lv_iconst (v := 0) hx hb dX0_layCosts_24 (by decide) ?_
          refine lv_goto (tgt := 30) hx hb dX0_layCosts_25 (by decide) ?_
          refine x_st X.1 hR hS ⟨by decide, rfl⟩ (ixl 144 144 (by decide) rfl (x_layCosts_o4 S x1 x2 y3_2 S_2 hI hj hk h12 hhr hi3 hJ0 hM0 hB0 h144 hC0 c1 c2)) dX0_layCosts_30 (fun H locs hR hS => ?_)
          refine lv_iinc (v := (y3_2 + 1)) (lv' := [(3, .int (y3_2 + 1)), (0, .ref (ad (0, 0))), (1, .ref (ad (40, x1))), (2, .int x2)]) hx hb dX0_layCosts_31 hl (k := 0) rfl rfl (by decide) rfl (fun ls hl => ?_)
          refine lv_goto (tgt := 2) hx hb dX0_layCosts_34 (by decide) ?_
          exact ih (y3_2 + 1) (xu S_2 8 (Int32.toNatClampNeg y3_2) 0) _ _  _ (Nat.lt_of_lt_of_le (up_ hi3 (x_layCosts_o7 S x1 x2 y3_2 S_2 hI hj hk h12 hhr hi3 hJ0 hM0 hB0 h144 hC0 c1 c2)) (Nat.le_of_lt_succ hf)) (x_layCosts_o5 S x1 x2 y3_2 S_2 hI hj hk h12 hhr hi3 hJ0 hM0 hB0 h144 hC0 c1 c2) ((XInv_xu hJ0 _ _ _ (by decide))) (hM0) (hB0) (x_layCosts_o6 S x1 x2 y3_2 S_2 hI hj hk h12 hhr hi3 hJ0 hM0 hB0 h144 hC0 c1 c2) (lay_s hhr hi3 (Int32.not_le.mp (by assumption)) hC0 (by first | exact Or.inl ⟨by assumption, rfl⟩ | exact Or.inr ⟨by assumption, rfl⟩)) (Eq.trans (Eq.symm (Eq.trans (x_layCosts_L2_s _ _ _ _) (Eq.trans (if_neg c1) (if_pos c2)))) hE) hR hS (lv_sub hl [0, 1, 2, 3] rfl)
  exact L2 _ 0 S _ _  _ (fz_lt _) (by decide) (hI) (rfl) (rfl) (by decide) (fun i h => absurd h (Nat.not_lt_zero i)) rfl hR hS (lv_sub hl [0, 1, 2, 3] rfl)
