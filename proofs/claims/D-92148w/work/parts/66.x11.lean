/-! PRINTED by gen/run_x11.py -/
set_option maxRecDepth 100000
def x_gcd_L6 : Nat → Int64 → Int64 → Int64 × Int64
  | 0, y4_6, y6_6 => (y4_6, y6_6)
  | f6 + 1, y4_6, y6_6 => (if y6_6 = 0 then (y4_6, y6_6) else (x_gcd_L6 f6 y6_6 (y4_6 - y4_6 / y6_6 * y6_6)))
theorem x_gcd_L6_s (f6 : Nat) (y4_6 : Int64) (y6_6 : Int64) : x_gcd_L6 (f6 + 1) y4_6 y6_6 = (if y6_6 = 0 then (y4_6, y6_6) else (x_gcd_L6 f6 y6_6 (y4_6 - y4_6 / y6_6 * y6_6))) := rfl
def x_gcd_R6 (x1 : Int64) (x2 : Int64) : Int64 × Int64 := x_gcd_L6 ((x2 : Int64).toInt.toNat + 1) x1 x2
def x_gcd (x1 : Int64) (x2 : Int64) : Int64 := (x_gcd_R6 x1 x2).1
set_option maxHeartbeats 4000000 in
theorem st_x_gcd (l : Launch) (x1 : Int64) (x2 : Int64) (hp : 0 < x1 ∧ 0 < x2) : SL l yX0_gcd cX0_gcd 10 (rm_ 0) [.long x1, .long x2] (x_gcd x1 x2) := by
  refine s_startL RX0 rfl (by decide) (Nat.le_of_ble_eq_true rfl) ?_
  intro p e s m av below meth c ls Q X hrt hlk hl hQ
  have hx := X.1
  have hb := X.2.1
  have hown := X.2.2.2.1
  have hts := X.2.2.2.2
  have hl : lv_has ls 10 [(0, .long x1), (2, .long x2)] := hl
  refine lv_lload_n hx hb dX0_gcd_0 rfl (lv_at hl 0 rfl) ?_
  refine lv_lstore (lv' := [(4, .long x1), (0, .long x1), (2, .long x2)]) hx hb dX0_gcd_1 hl (by decide) rfl (fun ls hl => ?_)
  refine lv_lload_n hx hb dX0_gcd_3 rfl (lv_at hl 2 rfl) ?_
  refine lv_lstore (lv' := [(6, .long x2), (4, .long x1), (0, .long x1), (2, .long x2)]) hx hb dX0_gcd_4 hl (by decide) rfl (fun ls hl => ?_)
  have K6 : ∀ (ls : Array Slot), True → lv_has ls 10 [(6, .long (x_gcd_R6 x1 x2).2), (4, .long (x_gcd_R6 x1 x2).1), (0, .long x1), (2, .long x2)] → W p l e (rm_ 0) s m av below meth c s.heap [] 0 0 Q (F0 m 31 ls []) := by
    intro  ls hT hl
    refine lv_lload hx hb dX0_gcd_31 (lv_at hl 1 rfl) ?_
    exact s_rl (y := yX0_gcd) hx hb hrt hlk hQ (Eq.symm rfl) dX0_gcd_33
  have L6 : ∀ (f6 : Nat) (y4_6 : Int64) (y6_6 : Int64) (ls : Array Slot), (y6_6 : Int64).toInt.toNat < f6 → 0 < y4_6 → 0 ≤ y6_6 → x_gcd_L6 (f6) y4_6 y6_6 = (x_gcd_R6 x1 x2) → True → lv_has ls 10 [(6, .long y6_6), (4, .long y4_6), (0, .long x1), (2, .long x2)] → W p l e (rm_ 0) s m av below meth c s.heap [] 0 0 Q (F0 m 6 ls []) := by
    intro f6
    induction f6 with
    | zero => intro y4_6 y6_6  ls hf; exact absurd hf (Nat.not_lt_zero _)
    | succ f6 ih =>
      intro y4_6 y6_6  ls hf hp4 hp6 hE hT hl
      refine lv_lload hx hb dX0_gcd_6 (lv_at hl 0 rfl) ?_
      refine lv_lconst (v := 0) hx hb dX0_gcd_8 (by decide) ?_
      refine hl_eq (tgt := 31) hx hb dX0_gcd_9 dX0_gcd_10 (by decide) (fun c1 => ?_) (fun c1 => ?_)
      · have e0 : (x_gcd_R6 x1 x2) = (y4_6, y6_6) := Eq.trans (Eq.symm hE) (Eq.trans (x_gcd_L6_s _ _ _) (if_pos c1))
        exact K6 _ trivial (by rw [e0]; exact lv_sub hl [0, 1, 2, 3] rfl)
      · refine lv_lload hx hb dX0_gcd_13 (lv_at hl 1 rfl) ?_
        refine lv_lload hx hb dX0_gcd_15 (lv_at hl 0 rfl) ?_
        refine lv_lrem hx hb dX0_gcd_17 (by assumption) ?_
        refine lv_lstore (lv' := [(8, .long (y4_6 - y4_6 / y6_6 * y6_6)), (6, .long y6_6), (4, .long y4_6), (0, .long x1), (2, .long x2)]) hx hb dX0_gcd_18 hl (by decide) rfl (fun ls hl => ?_)
        refine lv_lload hx hb dX0_gcd_20 (lv_at hl 1 rfl) ?_
        refine lv_lstore (lv' := [(4, .long y6_6), (8, .long (y4_6 - y4_6 / y6_6 * y6_6)), (6, .long y6_6), (0, .long x1), (2, .long x2)]) hx hb dX0_gcd_22 hl (by decide) rfl (fun ls hl => ?_)
        refine lv_lload hx hb dX0_gcd_24 (lv_at hl 1 rfl) ?_
        refine lv_lstore (lv' := [(6, .long (y4_6 - y4_6 / y6_6 * y6_6)), (4, .long y6_6), (8, .long (y4_6 - y4_6 / y6_6 * y6_6)), (0, .long x1), (2, .long x2)]) hx hb dX0_gcd_26 hl (by decide) rfl (fun ls hl => ?_)
        refine lv_goto (tgt := 6) hx hb dX0_gcd_28 (by decide) ?_
        exact ih y6_6 (y4_6 - y4_6 / y6_6 * y6_6)  _ (Nat.lt_of_lt_of_le (lrem_ok (Int64.le_of_lt hp4) (pos_ne64 hp6 (by assumption))).2.2 (Nat.le_of_lt_succ hf)) (pos_ne64 hp6 (by assumption)) ((lrem_ok (Int64.le_of_lt hp4) (pos_ne64 hp6 (by assumption))).1) (Eq.trans (Eq.symm (Eq.trans (x_gcd_L6_s _ _ _) (if_neg c1))) hE) trivial (lv_sub hl [0, 1, 3, 4] rfl)
  exact L6 _ x1 x2  _ (Nat.lt_succ_self _) (hp.1) (Int64.le_of_lt hp.2) rfl trivial (lv_sub hl [0, 1, 2, 3] rfl)
theorem x_gcd_L6_pos : ∀ (f : Nat) (a b : Int64), 0 < a → 0 ≤ b → 0 < (x_gcd_L6 f a b).1 := by
  intro f
  induction f with
  | zero => intro a b ha hb; exact ha
  | succ f ih =>
    intro a b ha hb
    rw [x_gcd_L6_s]
    refine ifI (P := fun (z : Int64 × Int64) => 0 < z.1) (fun c => ha) (fun c => ?_)
    exact ih _ _ (pos_ne64 hb c) (lrem_ok (Int64.le_of_lt ha) (pos_ne64 hb c)).1
theorem x_gcd_pos {x1 x2 : Int64} (hp : 0 < x1 ∧ 0 < x2) : 0 < x_gcd x1 x2 := by
  unfold x_gcd x_gcd_R6
  exact x_gcd_L6_pos _ _ _ hp.1 (Int64.le_of_lt hp.2)
def x_fraction (S : XS) (x1 : Int64) (x2 : Int64) : Int32 × XS := (1, (xl (xl S 18 (x1 / (x_gcd x1 x2))) 19 (x2 / (x_gcd x1 x2))))
theorem x_fraction_N (S : XS) (x1 : Int64) (x2 : Int64) : (x_fraction S x1 x2).2.2.2.2 = S.2.2.2 := by
  unfold x_fraction
  exact rfl
theorem x_fraction_inv (S : XS) (x1 : Int64) (x2 : Int64) (hI : XInv S) (hp : 0 < x1 ∧ 0 < x2) : XInv (x_fraction S x1 x2).2 := by
  unfold x_fraction
  exact (XInv_xl (XInv_xl hI _ _) _ _)
set_option maxHeartbeats 4000000 in
theorem xt_fraction (l : Launch) (D : va_G) (d : Nat → ClassId) (A : Nat → Prop) (ad : XK → Nat) (S : XS) (x1 : Int64) (x2 : Int64) (hI : XInv S) (hp : 0 < x1 ∧ 0 < x2) : XI l yX0_fraction cX0_fraction 7 .int (rm_ 1) D d A ad S [.ref (ad (0, 0)), .long x1, .long x2] (x_fraction S x1 x2) := by
  refine x_startI RX0 rfl (by decide) (Nat.le_of_ble_eq_true rfl) ?_
  intro p e s m av below meth c ls Q X hrt hlk hl hR hQ
  have hx := X.1.1.1
  have hb := X.1.1.2.1
  have hown := X.1.1.2.2.2.1
  have hts := X.1.1.2.2.2.2
  have hS : va_S A s.heap s.heap [] := va_S.rf
  have hl : lv_has ls 7 [(0, .ref (ad (0, 0))), (1, .long x1), (3, .long x2)] := hl
  refine lv_lload_n hx hb dX0_fraction_0 rfl (lv_at hl 1 rfl) ?_
  refine lv_lload_n hx hb dX0_fraction_1 rfl (lv_at hl 2 rfl) ?_
  refine s_cl X.1.1 (st_x_gcd l x1 x2 (hp)) 2 (lw_S q1069 q1070 q58 q1071) ⟨rfl, rfl⟩ (by decide +kernel) ⟨by decide, by decide⟩ ⟨by decide, by decide⟩ rfl hl.1 rfl (Nat.le_of_ble_eq_true rfl) dX0_fraction_2 ?_
  refine lv_lstore (lv' := [(5, .long (x_gcd x1 x2)), (0, .ref (ad (0, 0))), (1, .long x1), (3, .long x2)]) hx hb dX0_fraction_5 hl (by decide) rfl (fun ls hl => ?_)
  refine lv_aload_n hx hb dX0_fraction_7 rfl (lv_at hl 1 rfl) ?_
  refine lv_lload_n hx hb dX0_fraction_8 rfl (lv_at hl 2 rfl) ?_
  refine lv_lload hx hb dX0_fraction_9 (lv_at hl 0 rfl) ?_
  refine lv_ldiv hx hb dX0_fraction_11 (ne_pos64 (x_gcd_pos hp)) ?_
  refine xp_l X.1 hR hS 18 (by decide) rfl rfl rfl q115 dX0_fraction_12 (fun H locs hR hS => ?_)
  refine lv_aload_n hx hb dX0_fraction_15 rfl (lv_at hl 1 rfl) ?_
  refine lv_lload_n hx hb dX0_fraction_16 rfl (lv_at hl 3 rfl) ?_
  refine lv_lload hx hb dX0_fraction_17 (lv_at hl 0 rfl) ?_
  refine lv_ldiv hx hb dX0_fraction_19 (ne_pos64 (x_gcd_pos hp)) ?_
  refine xp_l X.1 hR hS 19 (by decide) rfl rfl rfl q116 dX0_fraction_20 (fun H locs hR hS => ?_)
  refine lv_iconst (v := 1) hx hb dX0_fraction_23 (by decide) ?_
  exact x_ri hx hb hrt (rfl) hlk hR hS hQ rfl dX0_fraction_24
def XT (S : XS) (x1 x2 x3 : Int32) : Prop := (x3 = 1 → 0 < (x_tg2 (xl S 26 0) 0 (2 * x3) (Int32.toInt64 x1) (Int32.toInt64 x2) 1 1).2.1 25 ∧ 0 < (x_tg2 (xl S 26 0) 0 (2 * x3) (Int32.toInt64 x1) (Int32.toInt64 x2) 1 1).2.1 26) ∧ (¬ x3 = 1 → 0 < (x_tg4 (xl S 26 0) 0 (2 * x3) (Int32.toInt64 x1) (Int32.toInt64 x2) 1 1).2.1 25 ∧ 0 < (x_tg4 (xl S 26 0) 0 (2 * x3) (Int32.toInt64 x1) (Int32.toInt64 x2) 1 1).2.1 26)
theorem n12 {x : Int32} (h : ¬ x_in x 1 2 = 0) (h1 : ¬ x = 1) : x = 2 := by
  rw [x_in_eq, Classical.not_not] at h
  simp only [i_le, i_eq, Int32.reduceToInt] at *
  omega
def x_nearest (S : XS) (x1 : Int32) (x2 : Int32) (x3 : Int32) : Int32 × XS := (if (x_in x1 1 10000) = 0 then ((-1), S) else (if (x_in x2 1 10000) = 0 then ((-1), S) else (if (x_in x3 1 2) = 0 then ((-1), S) else (if (2 * x3) ≤ (S.1 20 0) then (if x3 = 1 then ((x_fraction (x_tg2 (xl S 26 0) 0 (2 * x3) (Int32.toInt64 x1) (Int32.toInt64 x2) 1 1) ((x_tg2 (xl S 26 0) 0 (2 * x3) (Int32.toInt64 x1) (Int32.toInt64 x2) 1 1).2.1 25) ((x_tg2 (xl S 26 0) 0 (2 * x3) (Int32.toInt64 x1) (Int32.toInt64 x2) 1 1).2.1 26)).1, (x_fraction (x_tg2 (xl S 26 0) 0 (2 * x3) (Int32.toInt64 x1) (Int32.toInt64 x2) 1 1) ((x_tg2 (xl S 26 0) 0 (2 * x3) (Int32.toInt64 x1) (Int32.toInt64 x2) 1 1).2.1 25) ((x_tg2 (xl S 26 0) 0 (2 * x3) (Int32.toInt64 x1) (Int32.toInt64 x2) 1 1).2.1 26)).2) else ((x_fraction (x_tg4 (xl S 26 0) 0 (2 * x3) (Int32.toInt64 x1) (Int32.toInt64 x2) 1 1) ((x_tg4 (xl S 26 0) 0 (2 * x3) (Int32.toInt64 x1) (Int32.toInt64 x2) 1 1).2.1 25) ((x_tg4 (xl S 26 0) 0 (2 * x3) (Int32.toInt64 x1) (Int32.toInt64 x2) 1 1).2.1 26)).1, (x_fraction (x_tg4 (xl S 26 0) 0 (2 * x3) (Int32.toInt64 x1) (Int32.toInt64 x2) 1 1) ((x_tg4 (xl S 26 0) 0 (2 * x3) (Int32.toInt64 x1) (Int32.toInt64 x2) 1 1).2.1 25) ((x_tg4 (xl S 26 0) 0 (2 * x3) (Int32.toInt64 x1) (Int32.toInt64 x2) 1 1).2.1 26)).2)) else ((x_found S 4).1, (x_found S 4).2)))))
theorem x_nearest_N (S : XS) (x1 : Int32) (x2 : Int32) (x3 : Int32) (hI : XInv S) (hT : ¬ (x_in x1 1 10000) = 0 → ¬ (x_in x2 1 10000) = 0 → ¬ (x_in x3 1 2) = 0 → (2 * x3) ≤ (S.1 20 0) → XT S x1 x2 x3) : (x_nearest S x1 x2 x3).2.2.2.2 = S.2.2.2 := by
  have hW : 0 ≤ S.1 20 0 ∧ S.1 20 0 ≤ 12 := xi_wm hI
  unfold x_nearest
  refine ifI (P := fun (z : Int32 × XS) => z.2.2.2.2 = S.2.2.2) (fun c1 => ?_) (fun c1 => ?_)
  · exact rfl
  · refine ifI (P := fun (z : Int32 × XS) => z.2.2.2.2 = S.2.2.2) (fun c2 => ?_) (fun c2 => ?_)
    · exact rfl
    · refine ifI (P := fun (z : Int32 × XS) => z.2.2.2.2 = S.2.2.2) (fun c3 => ?_) (fun c3 => ?_)
      · exact rfl
      · refine ifI (P := fun (z : Int32 × XS) => z.2.2.2.2 = S.2.2.2) (fun c4 => ?_) (fun c4 => ?_)
        · refine ifI (P := fun (z : Int32 × XS) => z.2.2.2.2 = S.2.2.2) (fun cs54 => ?_) (fun cs54 => ?_)
          · have hN65 : (x_tg2 (xl S 26 0) 0 (2 * x3) (Int32.toInt64 x1) (Int32.toInt64 x2) 1 1).2.2.2 = S.2.2.2 := x_tg2_N (xl S 26 0) 0 (2 * x3) (Int32.toInt64 x1) (Int32.toInt64 x2) 1 1 ((XInv_xl hI _ _)) (by first | exact ⟨by decide, by decide, by rw [cs54]; decide⟩ | exact ⟨by decide, by decide, by rw [n12 (by assumption) cs54]; decide⟩)
            have hN77 : (x_fraction (x_tg2 (xl S 26 0) 0 (2 * x3) (Int32.toInt64 x1) (Int32.toInt64 x2) 1 1) ((x_tg2 (xl S 26 0) 0 (2 * x3) (Int32.toInt64 x1) (Int32.toInt64 x2) 1 1).2.1 25) ((x_tg2 (xl S 26 0) 0 (2 * x3) (Int32.toInt64 x1) (Int32.toInt64 x2) 1 1).2.1 26)).2.2.2.2 = (x_tg2 (xl S 26 0) 0 (2 * x3) (Int32.toInt64 x1) (Int32.toInt64 x2) 1 1).2.2.2 := x_fraction_N (x_tg2 (xl S 26 0) 0 (2 * x3) (Int32.toInt64 x1) (Int32.toInt64 x2) 1 1) ((x_tg2 (xl S 26 0) 0 (2 * x3) (Int32.toInt64 x1) (Int32.toInt64 x2) 1 1).2.1 25) ((x_tg2 (xl S 26 0) 0 (2 * x3) (Int32.toInt64 x1) (Int32.toInt64 x2) 1 1).2.1 26)
            exact (hN77.trans hN65)
          · have hN65_1 : (x_tg4 (xl S 26 0) 0 (2 * x3) (Int32.toInt64 x1) (Int32.toInt64 x2) 1 1).2.2.2 = S.2.2.2 := x_tg4_N (xl S 26 0) 0 (2 * x3) (Int32.toInt64 x1) (Int32.toInt64 x2) 1 1 ((XInv_xl hI _ _)) (by first | exact ⟨by decide, by decide, by rw [cs54]; decide⟩ | exact ⟨by decide, by decide, by rw [n12 (by assumption) cs54]; decide⟩)
            have hN77_1 : (x_fraction (x_tg4 (xl S 26 0) 0 (2 * x3) (Int32.toInt64 x1) (Int32.toInt64 x2) 1 1) ((x_tg4 (xl S 26 0) 0 (2 * x3) (Int32.toInt64 x1) (Int32.toInt64 x2) 1 1).2.1 25) ((x_tg4 (xl S 26 0) 0 (2 * x3) (Int32.toInt64 x1) (Int32.toInt64 x2) 1 1).2.1 26)).2.2.2.2 = (x_tg4 (xl S 26 0) 0 (2 * x3) (Int32.toInt64 x1) (Int32.toInt64 x2) 1 1).2.2.2 := x_fraction_N (x_tg4 (xl S 26 0) 0 (2 * x3) (Int32.toInt64 x1) (Int32.toInt64 x2) 1 1) ((x_tg4 (xl S 26 0) 0 (2 * x3) (Int32.toInt64 x1) (Int32.toInt64 x2) 1 1).2.1 25) ((x_tg4 (xl S 26 0) 0 (2 * x3) (Int32.toInt64 x1) (Int32.toInt64 x2) 1 1).2.1 26)
            exact (hN77_1.trans hN65_1)
        · have hN45 : (x_found S 4).2.2.2.2 = S.2.2.2 := x_found_N S 4
          exact hN45
theorem x_nearest_inv (S : XS) (x1 : Int32) (x2 : Int32) (x3 : Int32) (hI : XInv S) (hT : ¬ (x_in x1 1 10000) = 0 → ¬ (x_in x2 1 10000) = 0 → ¬ (x_in x3 1 2) = 0 → (2 * x3) ≤ (S.1 20 0) → XT S x1 x2 x3) : XInv (x_nearest S x1 x2 x3).2 := by
  have hW : 0 ≤ S.1 20 0 ∧ S.1 20 0 ≤ 12 := xi_wm hI
  unfold x_nearest
  refine ifI (P := fun (z : Int32 × XS) => XInv z.2) (fun c1 => ?_) (fun c1 => ?_)
  · exact hI
  · refine ifI (P := fun (z : Int32 × XS) => XInv z.2) (fun c2 => ?_) (fun c2 => ?_)
    · exact hI
    · refine ifI (P := fun (z : Int32 × XS) => XInv z.2) (fun c3 => ?_) (fun c3 => ?_)
      · exact hI
      · refine ifI (P := fun (z : Int32 × XS) => XInv z.2) (fun c4 => ?_) (fun c4 => ?_)
        · refine ifI (P := fun (z : Int32 × XS) => XInv z.2) (fun cs54 => ?_) (fun cs54 => ?_)
          · have hI65 : XInv (x_tg2 (xl S 26 0) 0 (2 * x3) (Int32.toInt64 x1) (Int32.toInt64 x2) 1 1) := x_tg2_inv (xl S 26 0) 0 (2 * x3) (Int32.toInt64 x1) (Int32.toInt64 x2) 1 1 ((XInv_xl hI _ _)) (by first | exact ⟨by decide, by decide, by rw [cs54]; decide⟩ | exact ⟨by decide, by decide, by rw [n12 (by assumption) cs54]; decide⟩)
            have hI77 : XInv (x_fraction (x_tg2 (xl S 26 0) 0 (2 * x3) (Int32.toInt64 x1) (Int32.toInt64 x2) 1 1) ((x_tg2 (xl S 26 0) 0 (2 * x3) (Int32.toInt64 x1) (Int32.toInt64 x2) 1 1).2.1 25) ((x_tg2 (xl S 26 0) 0 (2 * x3) (Int32.toInt64 x1) (Int32.toInt64 x2) 1 1).2.1 26)).2 := x_fraction_inv (x_tg2 (xl S 26 0) 0 (2 * x3) (Int32.toInt64 x1) (Int32.toInt64 x2) 1 1) ((x_tg2 (xl S 26 0) 0 (2 * x3) (Int32.toInt64 x1) (Int32.toInt64 x2) 1 1).2.1 25) ((x_tg2 (xl S 26 0) 0 (2 * x3) (Int32.toInt64 x1) (Int32.toInt64 x2) 1 1).2.1 26) (hI65) (by first | exact (hT (by assumption) (by assumption) (by assumption) (by assumption)).1 (by assumption) | exact (hT (by assumption) (by assumption) (by assumption) (by assumption)).2 (by assumption))
            exact hI77
          · have hI65_1 : XInv (x_tg4 (xl S 26 0) 0 (2 * x3) (Int32.toInt64 x1) (Int32.toInt64 x2) 1 1) := x_tg4_inv (xl S 26 0) 0 (2 * x3) (Int32.toInt64 x1) (Int32.toInt64 x2) 1 1 ((XInv_xl hI _ _)) (by first | exact ⟨by decide, by decide, by rw [cs54]; decide⟩ | exact ⟨by decide, by decide, by rw [n12 (by assumption) cs54]; decide⟩)
            have hI77_1 : XInv (x_fraction (x_tg4 (xl S 26 0) 0 (2 * x3) (Int32.toInt64 x1) (Int32.toInt64 x2) 1 1) ((x_tg4 (xl S 26 0) 0 (2 * x3) (Int32.toInt64 x1) (Int32.toInt64 x2) 1 1).2.1 25) ((x_tg4 (xl S 26 0) 0 (2 * x3) (Int32.toInt64 x1) (Int32.toInt64 x2) 1 1).2.1 26)).2 := x_fraction_inv (x_tg4 (xl S 26 0) 0 (2 * x3) (Int32.toInt64 x1) (Int32.toInt64 x2) 1 1) ((x_tg4 (xl S 26 0) 0 (2 * x3) (Int32.toInt64 x1) (Int32.toInt64 x2) 1 1).2.1 25) ((x_tg4 (xl S 26 0) 0 (2 * x3) (Int32.toInt64 x1) (Int32.toInt64 x2) 1 1).2.1 26) (hI65_1) (by first | exact (hT (by assumption) (by assumption) (by assumption) (by assumption)).1 (by assumption) | exact (hT (by assumption) (by assumption) (by assumption) (by assumption)).2 (by assumption))
            exact hI77_1
        · have hI45 : XInv (x_found S 4).2 := x_found_invx S 4 hI
          exact hI45
set_option maxHeartbeats 4000000 in
theorem xt_nearest (l : Launch) (D : va_G) (d : Nat → ClassId) (A : Nat → Prop) (ad : XK → Nat) (S : XS) (x1 : Int32) (x2 : Int32) (x3 : Int32) (hI : XInv S) (hT : ¬ (x_in x1 1 10000) = 0 → ¬ (x_in x2 1 10000) = 0 → ¬ (x_in x3 1 2) = 0 → (2 * x3) ≤ (S.1 20 0) → XT S x1 x2 x3) : XI l yX0_nearest cX0_nearest 4 .int (rm_ 6) D d A ad S [.ref (ad (0, 0)), .int x1, .int x2, .int x3] (x_nearest S x1 x2 x3) := by
  refine x_startI RX0 rfl (by decide) (Nat.le_of_ble_eq_true rfl) ?_
  intro p e s m av below meth c ls Q X hrt hlk hl hR hQ
  have hx := X.1.1.1
  have hb := X.1.1.2.1
  have hown := X.1.1.2.2.2.1
  have hts := X.1.1.2.2.2.2
  have hS : va_S A s.heap s.heap [] := va_S.rf
  have hl : lv_has ls 4 [(0, .ref (ad (0, 0))), (1, .int x1), (2, .int x2), (3, .int x3)] := hl
  have hW : 0 ≤ S.1 20 0 ∧ S.1 20 0 ≤ 12 := xi_wm hI
  refine lv_iload_n hx hb dX0_nearest_0 rfl (lv_at hl 1 rfl) ?_
  refine lv_iconst (v := 1) hx hb dX0_nearest_1 (by decide) ?_
  refine lv_sipush (v := 10000) hx hb dX0_nearest_2 (by decide) ?_
  refine s_ci X.1.1 (st_x_in l x1 1 10000) 3 (lw_S q280 q281 q58 q282) ⟨rfl, rfl⟩ (by decide +kernel) ⟨by decide, by decide⟩ ⟨by decide, by decide⟩ rfl hl.1 rfl (Nat.le_of_ble_eq_true rfl) dX0_nearest_5 ?_
  refine lv_if_eq (tgt := 31) hx hb dX0_nearest_8 (by decide) (fun c1 => ?_) (fun c1 => ?_)
  · refine lv_iconst (v := (-1)) hx hb dX0_nearest_31 (by decide) ?_
    exact x_ri hx hb hrt (rfl) hlk hR hS hQ (if_pos c1) dX0_nearest_32
  · refine lv_iload_n hx hb dX0_nearest_11 rfl (lv_at hl 2 rfl) ?_
    refine lv_iconst (v := 1) hx hb dX0_nearest_12 (by decide) ?_
    refine lv_sipush (v := 10000) hx hb dX0_nearest_13 (by decide) ?_
    refine s_ci X.1.1 (st_x_in l x2 1 10000) 3 (lw_S q280 q281 q58 q282) ⟨rfl, rfl⟩ (by decide +kernel) ⟨by decide, by decide⟩ ⟨by decide, by decide⟩ rfl hl.1 rfl (Nat.le_of_ble_eq_true rfl) dX0_nearest_16 ?_
    refine lv_if_eq (tgt := 31) hx hb dX0_nearest_19 (by decide) (fun c2 => ?_) (fun c2 => ?_)
    · refine lv_iconst (v := (-1)) hx hb dX0_nearest_31 (by decide) ?_
      exact x_ri hx hb hrt (rfl) hlk hR hS hQ (Eq.trans (if_neg c1) (if_pos c2)) dX0_nearest_32
    · refine lv_iload_n hx hb dX0_nearest_22 rfl (lv_at hl 3 rfl) ?_
      refine lv_iconst (v := 1) hx hb dX0_nearest_23 (by decide) ?_
      refine lv_iconst (v := 2) hx hb dX0_nearest_24 (by decide) ?_
      refine s_ci X.1.1 (st_x_in l x3 1 2) 3 (lw_S q280 q281 q58 q282) ⟨rfl, rfl⟩ (by decide +kernel) ⟨by decide, by decide⟩ ⟨by decide, by decide⟩ rfl hl.1 rfl (Nat.le_of_ble_eq_true rfl) dX0_nearest_25 ?_
      refine lv_if_ne (tgt := 33) hx hb dX0_nearest_28 (by decide) (fun c3 => ?_) (fun c3 => ?_)
      · refine lv_aload_n hx hb dX0_nearest_33 rfl (lv_at hl 0 rfl) ?_
        refine xg_i X.1 hR 20 (by decide) rfl q117 rfl dX0_nearest_34 ?_
        refine lv_iconst (v := 2) hx hb dX0_nearest_37 (by decide) ?_
        refine lv_iload_n hx hb dX0_nearest_38 rfl (lv_at hl 3 rfl) ?_
        refine lv_imul hx hb dX0_nearest_39 ?_
        refine lv_icmp_ge (tgt := 49) hx hb dX0_nearest_40 (by decide) (fun c4 => ?_) (fun c4 => ?_)
        · refine lv_aload_n hx hb dX0_nearest_49 rfl (lv_at hl 0 rfl) ?_
          refine lv_lconst (v := 0) hx hb dX0_nearest_50 (by decide) ?_
          refine xp_l X.1 hR hS 26 (by decide) rfl rfl rfl q123 dX0_nearest_51 (fun H locs hR hS => ?_)
          by_cases cs54 : x3 = 1
          · refine lv_aload_n hx hb dX0_nearest_54 rfl (lv_at hl 0 rfl) ?_
            refine lv_iconst (v := 0) hx hb dX0_nearest_55 (by decide) ?_
            refine lv_iconst (v := 2) hx hb dX0_nearest_56 (by decide) ?_
            refine lv_iload_n hx hb dX0_nearest_57 rfl (lv_at hl 3 rfl) ?_
            refine lv_imul hx hb dX0_nearest_58 ?_
            refine lv_iload_n hx hb dX0_nearest_59 rfl (lv_at hl 1 rfl) ?_
            refine lv_i2l hx hb dX0_nearest_60 rfl ?_
            refine lv_iload_n hx hb dX0_nearest_61 rfl (lv_at hl 2 rfl) ?_
            refine lv_i2l hx hb dX0_nearest_62 rfl ?_
            refine lv_lconst (v := 1) hx hb dX0_nearest_63 (by decide) ?_
            refine lv_lconst (v := 1) hx hb dX0_nearest_64 (by decide) ?_
            refine x_bv hS (xr_V X hR x_lv0 (ci := 0) (fs := x_fs ad (xl S 26 0)) rfl rfl (xt_tg2 l D d A ad (xl S 26 0) 0 (2 * x3) (Int32.toInt64 x1) (Int32.toInt64 x2) 1 1 ((XInv_xl hI _ _)) (by first | exact ⟨by decide, by decide, by rw [cs54]; decide⟩ | exact ⟨by decide, by decide, by rw [n12 (by assumption) cs54]; decide⟩)) 6 (lw_V q1061 q1063 qs20 q58 q1064) ⟨rfl, rfl⟩ (by decide +kernel) ⟨by decide, by decide⟩ ⟨by decide, by decide⟩ rfl hl.1 rfl (Nat.le_of_ble_eq_true rfl) dX0_nearest_65) (fun H locs hR hS => ?_)
            have hN65 : (x_tg2 (xl S 26 0) 0 (2 * x3) (Int32.toInt64 x1) (Int32.toInt64 x2) 1 1).2.2.2 = S.2.2.2 := x_tg2_N (xl S 26 0) 0 (2 * x3) (Int32.toInt64 x1) (Int32.toInt64 x2) 1 1 ((XInv_xl hI _ _)) (by first | exact ⟨by decide, by decide, by rw [cs54]; decide⟩ | exact ⟨by decide, by decide, by rw [n12 (by assumption) cs54]; decide⟩)
            have hI65 : XInv (x_tg2 (xl S 26 0) 0 (2 * x3) (Int32.toInt64 x1) (Int32.toInt64 x2) 1 1) := x_tg2_inv (xl S 26 0) 0 (2 * x3) (Int32.toInt64 x1) (Int32.toInt64 x2) 1 1 ((XInv_xl hI _ _)) (by first | exact ⟨by decide, by decide, by rw [cs54]; decide⟩ | exact ⟨by decide, by decide, by rw [n12 (by assumption) cs54]; decide⟩)
            refine lv_aload_n hx hb dX0_nearest_68 rfl (lv_at hl 0 rfl) ?_
            refine lv_aload_n hx hb dX0_nearest_69 rfl (lv_at hl 0 rfl) ?_
            refine xg_l X.1 hR 25 (by decide) rfl q122 (v := (x_tg2 (xl S 26 0) 0 (2 * x3) (Int32.toInt64 x1) (Int32.toInt64 x2) 1 1).2.1 25) rfl dX0_nearest_70 ?_
            refine lv_aload_n hx hb dX0_nearest_73 rfl (lv_at hl 0 rfl) ?_
            refine xg_l X.1 hR 26 (by decide) rfl q123 (v := (x_tg2 (xl S 26 0) 0 (2 * x3) (Int32.toInt64 x1) (Int32.toInt64 x2) 1 1).2.1 26) rfl dX0_nearest_74 ?_
            refine x_bi hS (xr_V X hR x_lv0 (ci := 0) (fs := x_fs ad (x_tg2 (xl S 26 0) 0 (2 * x3) (Int32.toInt64 x1) (Int32.toInt64 x2) 1 1)) rfl rfl (xt_fraction l D d A ad (x_tg2 (xl S 26 0) 0 (2 * x3) (Int32.toInt64 x1) (Int32.toInt64 x2) 1 1) ((x_tg2 (xl S 26 0) 0 (2 * x3) (Int32.toInt64 x1) (Int32.toInt64 x2) 1 1).2.1 25) ((x_tg2 (xl S 26 0) 0 (2 * x3) (Int32.toInt64 x1) (Int32.toInt64 x2) 1 1).2.1 26) (hI65) (by first | exact (hT (by assumption) (by assumption) (by assumption) (by assumption)).1 (by assumption) | exact (hT (by assumption) (by assumption) (by assumption) (by assumption)).2 (by assumption))) 2 (lw_V q1065 q1067 qs21 q58 q1068) ⟨rfl, rfl⟩ (by decide +kernel) ⟨by decide, by decide⟩ ⟨by decide, by decide⟩ rfl hl.1 rfl (Nat.le_of_ble_eq_true rfl) dX0_nearest_77) (fun H locs hR hS => ?_)
            have hN77 : (x_fraction (x_tg2 (xl S 26 0) 0 (2 * x3) (Int32.toInt64 x1) (Int32.toInt64 x2) 1 1) ((x_tg2 (xl S 26 0) 0 (2 * x3) (Int32.toInt64 x1) (Int32.toInt64 x2) 1 1).2.1 25) ((x_tg2 (xl S 26 0) 0 (2 * x3) (Int32.toInt64 x1) (Int32.toInt64 x2) 1 1).2.1 26)).2.2.2.2 = (x_tg2 (xl S 26 0) 0 (2 * x3) (Int32.toInt64 x1) (Int32.toInt64 x2) 1 1).2.2.2 := x_fraction_N (x_tg2 (xl S 26 0) 0 (2 * x3) (Int32.toInt64 x1) (Int32.toInt64 x2) 1 1) ((x_tg2 (xl S 26 0) 0 (2 * x3) (Int32.toInt64 x1) (Int32.toInt64 x2) 1 1).2.1 25) ((x_tg2 (xl S 26 0) 0 (2 * x3) (Int32.toInt64 x1) (Int32.toInt64 x2) 1 1).2.1 26)
            have hI77 : XInv (x_fraction (x_tg2 (xl S 26 0) 0 (2 * x3) (Int32.toInt64 x1) (Int32.toInt64 x2) 1 1) ((x_tg2 (xl S 26 0) 0 (2 * x3) (Int32.toInt64 x1) (Int32.toInt64 x2) 1 1).2.1 25) ((x_tg2 (xl S 26 0) 0 (2 * x3) (Int32.toInt64 x1) (Int32.toInt64 x2) 1 1).2.1 26)).2 := x_fraction_inv (x_tg2 (xl S 26 0) 0 (2 * x3) (Int32.toInt64 x1) (Int32.toInt64 x2) 1 1) ((x_tg2 (xl S 26 0) 0 (2 * x3) (Int32.toInt64 x1) (Int32.toInt64 x2) 1 1).2.1 25) ((x_tg2 (xl S 26 0) 0 (2 * x3) (Int32.toInt64 x1) (Int32.toInt64 x2) 1 1).2.1 26) (hI65) (by first | exact (hT (by assumption) (by assumption) (by assumption) (by assumption)).1 (by assumption) | exact (hT (by assumption) (by assumption) (by assumption) (by assumption)).2 (by assumption))
            exact x_ri hx hb hrt (rfl) hlk hR hS hQ (Eq.trans (if_neg c1) (Eq.trans (if_neg c2) (Eq.trans (if_neg c3) (Eq.trans (if_pos c4) (if_pos cs54))))) dX0_nearest_80
          · refine lv_aload_n hx hb dX0_nearest_54 rfl (lv_at hl 0 rfl) ?_
            refine lv_iconst (v := 0) hx hb dX0_nearest_55 (by decide) ?_
            refine lv_iconst (v := 2) hx hb dX0_nearest_56 (by decide) ?_
            refine lv_iload_n hx hb dX0_nearest_57 rfl (lv_at hl 3 rfl) ?_
            refine lv_imul hx hb dX0_nearest_58 ?_
            refine lv_iload_n hx hb dX0_nearest_59 rfl (lv_at hl 1 rfl) ?_
            refine lv_i2l hx hb dX0_nearest_60 rfl ?_
            refine lv_iload_n hx hb dX0_nearest_61 rfl (lv_at hl 2 rfl) ?_
            refine lv_i2l hx hb dX0_nearest_62 rfl ?_
            refine lv_lconst (v := 1) hx hb dX0_nearest_63 (by decide) ?_
            refine lv_lconst (v := 1) hx hb dX0_nearest_64 (by decide) ?_
            refine x_bv hS (xr_V X hR x_lv0 (ci := 0) (fs := x_fs ad (xl S 26 0)) rfl rfl (xt_tg4 l D d A ad (xl S 26 0) 0 (2 * x3) (Int32.toInt64 x1) (Int32.toInt64 x2) 1 1 ((XInv_xl hI _ _)) (by first | exact ⟨by decide, by decide, by rw [cs54]; decide⟩ | exact ⟨by decide, by decide, by rw [n12 (by assumption) cs54]; decide⟩)) 6 (lw_V q1061 q1063 qs20 q58 q1064) ⟨rfl, rfl⟩ (by decide +kernel) ⟨by decide, by decide⟩ ⟨by decide, by decide⟩ rfl hl.1 rfl (Nat.le_of_ble_eq_true rfl) dX0_nearest_65) (fun H locs hR hS => ?_)
            have hN65_1 : (x_tg4 (xl S 26 0) 0 (2 * x3) (Int32.toInt64 x1) (Int32.toInt64 x2) 1 1).2.2.2 = S.2.2.2 := x_tg4_N (xl S 26 0) 0 (2 * x3) (Int32.toInt64 x1) (Int32.toInt64 x2) 1 1 ((XInv_xl hI _ _)) (by first | exact ⟨by decide, by decide, by rw [cs54]; decide⟩ | exact ⟨by decide, by decide, by rw [n12 (by assumption) cs54]; decide⟩)
            have hI65_1 : XInv (x_tg4 (xl S 26 0) 0 (2 * x3) (Int32.toInt64 x1) (Int32.toInt64 x2) 1 1) := x_tg4_inv (xl S 26 0) 0 (2 * x3) (Int32.toInt64 x1) (Int32.toInt64 x2) 1 1 ((XInv_xl hI _ _)) (by first | exact ⟨by decide, by decide, by rw [cs54]; decide⟩ | exact ⟨by decide, by decide, by rw [n12 (by assumption) cs54]; decide⟩)
            refine lv_aload_n hx hb dX0_nearest_68 rfl (lv_at hl 0 rfl) ?_
            refine lv_aload_n hx hb dX0_nearest_69 rfl (lv_at hl 0 rfl) ?_
            refine xg_l X.1 hR 25 (by decide) rfl q122 (v := (x_tg4 (xl S 26 0) 0 (2 * x3) (Int32.toInt64 x1) (Int32.toInt64 x2) 1 1).2.1 25) rfl dX0_nearest_70 ?_
            refine lv_aload_n hx hb dX0_nearest_73 rfl (lv_at hl 0 rfl) ?_
            refine xg_l X.1 hR 26 (by decide) rfl q123 (v := (x_tg4 (xl S 26 0) 0 (2 * x3) (Int32.toInt64 x1) (Int32.toInt64 x2) 1 1).2.1 26) rfl dX0_nearest_74 ?_
            refine x_bi hS (xr_V X hR x_lv0 (ci := 0) (fs := x_fs ad (x_tg4 (xl S 26 0) 0 (2 * x3) (Int32.toInt64 x1) (Int32.toInt64 x2) 1 1)) rfl rfl (xt_fraction l D d A ad (x_tg4 (xl S 26 0) 0 (2 * x3) (Int32.toInt64 x1) (Int32.toInt64 x2) 1 1) ((x_tg4 (xl S 26 0) 0 (2 * x3) (Int32.toInt64 x1) (Int32.toInt64 x2) 1 1).2.1 25) ((x_tg4 (xl S 26 0) 0 (2 * x3) (Int32.toInt64 x1) (Int32.toInt64 x2) 1 1).2.1 26) (hI65_1) (by first | exact (hT (by assumption) (by assumption) (by assumption) (by assumption)).1 (by assumption) | exact (hT (by assumption) (by assumption) (by assumption) (by assumption)).2 (by assumption))) 2 (lw_V q1065 q1067 qs21 q58 q1068) ⟨rfl, rfl⟩ (by decide +kernel) ⟨by decide, by decide⟩ ⟨by decide, by decide⟩ rfl hl.1 rfl (Nat.le_of_ble_eq_true rfl) dX0_nearest_77) (fun H locs hR hS => ?_)
            have hN77_1 : (x_fraction (x_tg4 (xl S 26 0) 0 (2 * x3) (Int32.toInt64 x1) (Int32.toInt64 x2) 1 1) ((x_tg4 (xl S 26 0) 0 (2 * x3) (Int32.toInt64 x1) (Int32.toInt64 x2) 1 1).2.1 25) ((x_tg4 (xl S 26 0) 0 (2 * x3) (Int32.toInt64 x1) (Int32.toInt64 x2) 1 1).2.1 26)).2.2.2.2 = (x_tg4 (xl S 26 0) 0 (2 * x3) (Int32.toInt64 x1) (Int32.toInt64 x2) 1 1).2.2.2 := x_fraction_N (x_tg4 (xl S 26 0) 0 (2 * x3) (Int32.toInt64 x1) (Int32.toInt64 x2) 1 1) ((x_tg4 (xl S 26 0) 0 (2 * x3) (Int32.toInt64 x1) (Int32.toInt64 x2) 1 1).2.1 25) ((x_tg4 (xl S 26 0) 0 (2 * x3) (Int32.toInt64 x1) (Int32.toInt64 x2) 1 1).2.1 26)
            have hI77_1 : XInv (x_fraction (x_tg4 (xl S 26 0) 0 (2 * x3) (Int32.toInt64 x1) (Int32.toInt64 x2) 1 1) ((x_tg4 (xl S 26 0) 0 (2 * x3) (Int32.toInt64 x1) (Int32.toInt64 x2) 1 1).2.1 25) ((x_tg4 (xl S 26 0) 0 (2 * x3) (Int32.toInt64 x1) (Int32.toInt64 x2) 1 1).2.1 26)).2 := x_fraction_inv (x_tg4 (xl S 26 0) 0 (2 * x3) (Int32.toInt64 x1) (Int32.toInt64 x2) 1 1) ((x_tg4 (xl S 26 0) 0 (2 * x3) (Int32.toInt64 x1) (Int32.toInt64 x2) 1 1).2.1 25) ((x_tg4 (xl S 26 0) 0 (2 * x3) (Int32.toInt64 x1) (Int32.toInt64 x2) 1 1).2.1 26) (hI65_1) (by first | exact (hT (by assumption) (by assumption) (by assumption) (by assumption)).1 (by assumption) | exact (hT (by assumption) (by assumption) (by assumption) (by assumption)).2 (by assumption))
            exact x_ri hx hb hrt (rfl) hlk hR hS hQ (Eq.trans (if_neg c1) (Eq.trans (if_neg c2) (Eq.trans (if_neg c3) (Eq.trans (if_pos c4) (if_neg cs54))))) dX0_nearest_80
        · refine lv_aload_n hx hb dX0_nearest_43 rfl (lv_at hl 0 rfl) ?_
          refine lv_iconst (v := 4) hx hb dX0_nearest_44 (by decide) ?_
          refine x_bi hS (xr_V X hR x_lv0 (ci := 0) (fs := x_fs ad S) rfl rfl (xt_found l D d A ad S 4 (by decide)) 1 (lw_V q283 q285 qs2 q58 q286) ⟨rfl, rfl⟩ (by decide +kernel) ⟨by decide, by decide⟩ ⟨by decide, by decide⟩ rfl hl.1 rfl (Nat.le_of_ble_eq_true rfl) dX0_nearest_45) (fun H locs hR hS => ?_)
          have hN45 : (x_found S 4).2.2.2.2 = S.2.2.2 := x_found_N S 4
          have hI45 : XInv (x_found S 4).2 := x_found_invx S 4 hI
          exact x_ri hx hb hrt (rfl) hlk hR hS hQ (Eq.trans (if_neg c1) (Eq.trans (if_neg c2) (Eq.trans (if_neg c3) (if_neg c4)))) dX0_nearest_48
      · refine lv_iconst (v := (-1)) hx hb dX0_nearest_31 (by decide) ?_
        exact x_ri hx hb hrt (rfl) hlk hR hS hQ (Eq.trans (if_neg c1) (Eq.trans (if_neg c2) (if_pos c3))) dX0_nearest_32
