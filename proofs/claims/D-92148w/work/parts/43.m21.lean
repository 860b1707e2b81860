/-! PRINTED by gen/run_m11.py -/
set_option maxRecDepth 100000
def MInv2 (S : MS) : Prop := (∀ t, t < 4 → (-3600) ≤ S.1 28 t ∧ S.1 28 t ≤ 3600) ∧ ∀ n i : Int32, (0 ≤ n ∧ n < 16) → (0 ≤ i ∧ i < S.1 12 n.toNatClampNeg) → 1 ≤ S.1 13 (Int32.toNatClampNeg ((24 * n) + i)) ∧ S.1 13 (Int32.toNatClampNeg ((24 * n) + i)) ≤ 24
theorem mi_r {S : MS} (h : MInv2 S) {t : Int32} (ht : 0 ≤ t ∧ t < 4) : (-3600) ≤ S.1 28 t.toNatClampNeg ∧ S.1 28 t.toNatClampNeg ≤ 3600 := h.1 _ (tn_ 4 4 (by decide) rfl ht)
theorem ne_pace {r : Int32} (h : (-3600) ≤ r ∧ r ≤ 3600) : ¬ (Int32.toInt64 (86400 + r)) = 0 := by
  intro e
  simp only [i_le, Int32.reduceToInt] at h
  have e1 := a32 (x := 86400) (y := r) (by simp only [Int32.reduceToInt]; omega)
  simp only [Int32.reduceToInt] at e1
  have e2 : (Int32.toInt64 (86400 + r)).toInt = 0 := by rw [e]; rfl
  rw [Int32.toInt_toInt64, e1] at e2
  omega
theorem lrem_ok {x y : Int64} (hx : 0 ≤ x) (hy : 0 < y) : 0 ≤ x - x / y * y ∧ x - x / y * y < y ∧ (x - x / y * y).toInt.toNat < y.toInt.toNat := by
  obtain ⟨a, ha, rfl⟩ := pk_lOf (x := x) (Int64.not_lt.mpr hx)
  obtain ⟨b, hb, rfl⟩ := pk_lOf (x := y) (fun h => Int64.lt_irrefl (Int64.lt_trans h hy))
  have hb0 : 0 < b := by
    rcases Nat.eq_zero_or_pos b with h | h
    · subst h; exact absurd hy (by decide)
    · exact h
  have hm : a % b < b := Nat.mod_lt _ hb0
  rw [pk_lRem ha hb0 hb, pk_lT hb, pk_lT (by omega)]
  refine ⟨?_, (pk_lLT (by omega) hb).mpr hm, by omega⟩
  rw [show (0 : Int64) = lN 0 from rfl, pk_lLE (by decide) (by omega)]
  omega
theorem ne_pos64 {x : Int64} (h : 0 < x) : ¬ x = 0 := by
  intro e
  rw [e] at h
  exact absurd h (by decide)
theorem pos_ne64 {x : Int64} (h : 0 ≤ x) (h2 : ¬ x = 0) : 0 < x := by
  rw [Int64.le_iff_toInt_le] at h
  rw [Int64.lt_iff_toInt_lt]
  rw [← Int64.toInt_inj] at h2
  have e : (0 : Int64).toInt = 0 := rfl
  rw [e] at h h2 ⊢
  omega
def m_lasting_v65 (S : MS) (x1 : Int32) : Int64 := (((Int32.toInt64 (S.1 29 (Int32.toNatClampNeg x1))) * 86400) - (Int32.toInt64 (S.1 30 (Int32.toNatClampNeg x1))))
def m_lasting_v76 (S : MS) (x1 : Int32) : Int64 := (Int32.toInt64 (86400 + (S.1 28 (Int32.toNatClampNeg x1))))
def m_lasting_j97_s0 (S : MS) (x1 : Int32) : Int64 := (if 0 < (m_lasting_v65 S x1) then ((((m_lasting_v65 S x1) + (m_lasting_v76 S x1)) - 1) / (m_lasting_v76 S x1)) else 1)
def m_lasting (S : MS) (x1 : Int32) : Int32 × MS := (if 0 ≤ (m_askedFor S x1).1 then (if (S.1 29 (Int32.toNatClampNeg x1)) = 0 then (if (S.1 31 (Int32.toNatClampNeg x1)) = 0 then ((-9), S) else (0, S)) else (if (S.1 31 (Int32.toNatClampNeg x1)) = 0 then (if (S.1 31 (Int32.toNatClampNeg x1)) = 0 then ((-9), S) else (0, S)) else (if (m_lasting_j97_s0 S x1) ≤ 1000000 then ((Int64.toInt32 (m_lasting_j97_s0 S x1)), S) else (1000001, S)))) else ((m_askedFor S x1).1, (m_askedFor S x1).2))
set_option maxHeartbeats 4000000 in
theorem mt_lasting (l : Launch) (D : va_G) (d : Nat → ClassId) (A : Nat → Prop) (a : Nat → Nat) (S : MS) (x1 : Int32) (hI2 : MInv2 S) : MI l yX1_lasting cX1_lasting 9 .int (rm_ 3) D d A a S [.int x1] (m_lasting S x1) := by
  refine m_startI rfl (Nat.le_of_ble_eq_true rfl) ?_
  intro p e s m av below meth c ls Q X hrt hlk hl hR hQ
  have hx := X.1.1
  have hb := X.1.2.1
  have hown := X.1.2.2.2.1
  have hts := X.1.2.2.2.2
  have hS : va_S A s.heap s.heap [] := va_S.rf
  have hl : lv_has ls 9 [(0, .ref (a 0)), (1, .int x1)] := hl
  refine lv_aload_n hx hb dX1_lasting_0 rfl (lv_at hl 0 rfl) ?_
  refine lv_iload_n hx hb dX1_lasting_1 rfl (lv_at hl 1 rfl) ?_
  refine m_ci X hR hS (mt_askedFor l D d A a S x1) 1 (lw_V q1452 q1454 qs35 q59 q1455) ⟨rfl, rfl⟩ (by decide +kernel) ⟨by decide, by decide⟩ ⟨by decide, by decide⟩ rfl hl.1 rfl (Nat.le_of_ble_eq_true rfl) dX1_lasting_2 (fun H locs hR hS => ?_)
  refine lv_istore_n (lv' := [(2, .int ((m_askedFor S x1).1)), (0, .ref (a 0)), (1, .int x1)]) hx hb dX1_lasting_5 rfl hl (by decide) rfl (fun ls hl => ?_)
  refine lv_iload_n hx hb dX1_lasting_6 rfl (lv_at hl 0 rfl) ?_
  refine lv_if_ge (tgt := 12) hx hb dX1_lasting_7 (by decide) (fun c1 => ?_) (fun c1 => ?_)
  · have okc1 := m_askedFor_ok S x1 c1
    have hR : MR D d A a S H := okc1.1 ▸ hR
    have okc1_0 : 0 ≤ x1 ∧ x1 < 4 := okc1.2.1
    refine lv_aload_n hx hb dX1_lasting_12 rfl (lv_at hl 1 rfl) ?_
    refine mg_a X hR 29 (by decide) (by decide) q1166 dX1_lasting_13 ?_
    refine lv_iload_n hx hb dX1_lasting_16 rfl (lv_at hl 2 rfl) ?_
    refine m_ld X hR ⟨by decide, rfl, by decide⟩ (ixl 4 4 (by decide) rfl (okc1_0)) (v := S.1 29 (Int32.toNatClampNeg x1)) rfl dX1_lasting_17 ?_
    refine lv_if_eq (tgt := 30) hx hb dX1_lasting_18 (by decide) (fun c2 => ?_) (fun c2 => ?_)
    · refine lv_aload_n hx hb dX1_lasting_30 rfl (lv_at hl 1 rfl) ?_
      refine mg_a X hR 31 (by decide) (by decide) q1168 dX1_lasting_31 ?_
      refine lv_iload_n hx hb dX1_lasting_34 rfl (lv_at hl 2 rfl) ?_
      refine m_zld X hR ⟨by decide, rfl, by decide⟩ (ixl 4 4 (by decide) rfl (okc1_0)) (v := S.1 31 (Int32.toNatClampNeg x1)) rfl dX1_lasting_35 ?_
      refine lv_if_eq (tgt := 43) hx hb dX1_lasting_36 (by decide) (fun c3 => ?_) (fun c3 => ?_)
      · refine lv_bipush (v := (-9)) hx hb dX1_lasting_43 (by decide) ?_
        exact m_ri hx hb hrt (rfl) hlk hR hS hQ (Eq.trans (if_pos c1) (Eq.trans (if_pos c2) (if_pos c3))) dX1_lasting_45
      · refine lv_iconst (v := 0) hx hb dX1_lasting_39 (by decide) ?_
        refine lv_goto (tgt := 45) hx hb dX1_lasting_40 (by decide) ?_
        exact m_ri hx hb hrt (rfl) hlk hR hS hQ (Eq.trans (if_pos c1) (Eq.trans (if_pos c2) (if_neg c3))) dX1_lasting_45
    · refine lv_aload_n hx hb dX1_lasting_21 rfl (lv_at hl 1 rfl) ?_
      refine mg_a X hR 31 (by decide) (by decide) q1168 dX1_lasting_22 ?_
      refine lv_iload_n hx hb dX1_lasting_25 rfl (lv_at hl 2 rfl) ?_
      refine m_zld X hR ⟨by decide, rfl, by decide⟩ (ixl 4 4 (by decide) rfl (okc1_0)) (v := S.1 31 (Int32.toNatClampNeg x1)) rfl dX1_lasting_26 ?_
      refine lv_if_ne (tgt := 46) hx hb dX1_lasting_27 (by decide) (fun c4 => ?_) (fun c4 => ?_)
      · refine lv_aload_n hx hb dX1_lasting_46 rfl (lv_at hl 1 rfl) ?_
        refine mg_a X hR 29 (by decide) (by decide) q1166 dX1_lasting_47 ?_
        refine lv_iload_n hx hb dX1_lasting_50 rfl (lv_at hl 2 rfl) ?_
        refine m_ld X hR ⟨by decide, rfl, by decide⟩ (ixl 4 4 (by decide) rfl (okc1_0)) (v := S.1 29 (Int32.toNatClampNeg x1)) rfl dX1_lasting_51 ?_
        refine lv_i2l hx hb dX1_lasting_52 rfl ?_
        refine lv_ldc2 hx hb hown (hts _ q1567) dX1_lasting_53 ?_
        refine lv_lmul hx hb dX1_lasting_56 ?_
        refine lv_aload_n hx hb dX1_lasting_57 rfl (lv_at hl 1 rfl) ?_
        refine mg_a X hR 30 (by decide) (by decide) q1167 dX1_lasting_58 ?_
        refine lv_iload_n hx hb dX1_lasting_61 rfl (lv_at hl 2 rfl) ?_
        refine m_ld X hR ⟨by decide, rfl, by decide⟩ (ixl 4 4 (by decide) rfl (okc1_0)) (v := S.1 30 (Int32.toNatClampNeg x1)) rfl dX1_lasting_62 ?_
        refine lv_i2l hx hb dX1_lasting_63 rfl ?_
        refine lv_lsub hx hb dX1_lasting_64 ?_
        refine lv_lstore_n (lv' := [(3, .long (m_lasting_v65 S x1)), (2, .int ((m_askedFor S x1).1)), (0, .ref (a 0)), (1, .int x1)]) hx hb dX1_lasting_65 rfl hl (by decide) rfl (fun ls hl => ?_)
        refine lv_ldc hx hb hown (hts _ q1537) dX1_lasting_66 ?_
        refine lv_aload_n hx hb dX1_lasting_68 rfl (lv_at hl 2 rfl) ?_
        refine mg_a X hR 28 (by decide) (by decide) q1165 dX1_lasting_69 ?_
        refine lv_iload_n hx hb dX1_lasting_72 rfl (lv_at hl 3 rfl) ?_
        refine m_ld X hR ⟨by decide, rfl, by decide⟩ (ixl 4 4 (by decide) rfl (okc1_0)) (v := S.1 28 (Int32.toNatClampNeg x1)) rfl dX1_lasting_73 ?_
        refine lv_iadd hx hb dX1_lasting_74 ?_
        refine lv_i2l hx hb dX1_lasting_75 rfl ?_
        refine lv_lstore (lv' := [(5, .long (m_lasting_v76 S x1)), (3, .long (m_lasting_v65 S x1)), (2, .int ((m_askedFor S x1).1)), (0, .ref (a 0)), (1, .int x1)]) hx hb dX1_lasting_76 hl (by decide) rfl (fun ls hl => ?_)
        refine lv_lload_n hx hb dX1_lasting_78 rfl (lv_at hl 1 rfl) ?_
        refine lv_lconst (v := 0) hx hb dX1_lasting_79 (by decide) ?_
        have J7 : ∀ (w6 : Int64) (H : Heap) (locs : List Loc) (ls : Array Slot), w6 = (m_lasting_j97_s0 S x1) → MR D d A a S H → va_S A s.heap H locs → lv_has ls 9 [(5, .long (m_lasting_v76 S x1)), (3, .long (m_lasting_v65 S x1)), (2, .int ((m_askedFor S x1).1)), (0, .ref (a 0)), (1, .int x1)] → W p l e (rm_ 3) s m av below meth c H locs 0 0 Q (F0 m 97 ls [.long w6]) := by
          intro w6 H locs ls ew6 hR hS hl
          subst ew6
          refine lv_lstore (lv' := [(7, .long (m_lasting_j97_s0 S x1)), (5, .long (m_lasting_v76 S x1)), (3, .long (m_lasting_v65 S x1)), (2, .int ((m_askedFor S x1).1)), (0, .ref (a 0)), (1, .int x1)]) hx hb dX1_lasting_97 hl (by decide) rfl (fun ls hl => ?_)
          refine lv_lload hx hb dX1_lasting_99 (lv_at hl 0 rfl) ?_
          refine lv_ldc2 hx hb hown (hts _ q1681) dX1_lasting_101 ?_
          refine hl_le (tgt := 114) hx hb dX1_lasting_104 dX1_lasting_105 (by decide) (fun c8 => ?_) (fun c8 => ?_)
          · refine lv_lload hx hb dX1_lasting_114 (lv_at hl 0 rfl) ?_
            refine lv_l2i hx hb dX1_lasting_116 rfl ?_
            exact m_ri hx hb hrt (rfl) hlk hR hS hQ (Eq.trans (if_pos c1) (Eq.trans (if_neg c2) (Eq.trans (if_neg c4) (if_pos c8)))) dX1_lasting_117
          · refine lv_ldcw hx hb hown (hts _ q1682) dX1_lasting_108 ?_
            refine lv_goto (tgt := 117) hx hb dX1_lasting_111 (by decide) ?_
            exact m_ri hx hb hrt (rfl) hlk hR hS hQ (Eq.trans (if_pos c1) (Eq.trans (if_neg c2) (Eq.trans (if_neg c4) (if_neg c8)))) dX1_lasting_117
        refine hl_gt (tgt := 88) hx hb dX1_lasting_80 dX1_lasting_81 (by decide) (fun c5 => ?_) (fun c5 => ?_)
        · refine lv_lload_n hx hb dX1_lasting_88 rfl (lv_at hl 1 rfl) ?_
          refine lv_lload hx hb dX1_lasting_89 (lv_at hl 0 rfl) ?_
          refine lv_ladd hx hb dX1_lasting_91 ?_
          refine lv_lconst (v := 1) hx hb dX1_lasting_92 (by decide) ?_
          refine lv_lsub hx hb dX1_lasting_93 ?_
          refine lv_lload hx hb dX1_lasting_94 (lv_at hl 0 rfl) ?_
          refine lv_ldiv hx hb dX1_lasting_96 (ne_pace (mi_r hI2 okc1_0)) ?_
          exact J7 _ _ _  _ (Eq.symm (if_pos c5)) hR hS  (lv_sub hl [0, 1, 2, 3, 4] rfl)
        · refine lv_lconst (v := 1) hx hb dX1_lasting_84 (by decide) ?_
          refine lv_goto (tgt := 97) hx hb dX1_lasting_85 (by decide) ?_
          exact J7 _ _ _  _ (Eq.symm (if_neg c5)) hR hS  (lv_sub hl [0, 1, 2, 3, 4] rfl)
      · refine lv_aload_n hx hb dX1_lasting_30 rfl (lv_at hl 1 rfl) ?_
        refine mg_a X hR 31 (by decide) (by decide) q1168 dX1_lasting_31 ?_
        refine lv_iload_n hx hb dX1_lasting_34 rfl (lv_at hl 2 rfl) ?_
        refine m_zld X hR ⟨by decide, rfl, by decide⟩ (ixl 4 4 (by decide) rfl (okc1_0)) (v := S.1 31 (Int32.toNatClampNeg x1)) rfl dX1_lasting_35 ?_
        refine lv_if_eq (tgt := 43) hx hb dX1_lasting_36 (by decide) (fun c9 => ?_) (fun c9 => ?_)
        · refine lv_bipush (v := (-9)) hx hb dX1_lasting_43 (by decide) ?_
          exact m_ri hx hb hrt (rfl) hlk hR hS hQ (Eq.trans (if_pos c1) (Eq.trans (if_neg c2) (Eq.trans (if_pos c4) (if_pos c9)))) dX1_lasting_45
        · refine lv_iconst (v := 0) hx hb dX1_lasting_39 (by decide) ?_
          refine lv_goto (tgt := 45) hx hb dX1_lasting_40 (by decide) ?_
          exact m_ri hx hb hrt (rfl) hlk hR hS hQ (Eq.trans (if_pos c1) (Eq.trans (if_neg c2) (Eq.trans (if_pos c4) (if_neg c9)))) dX1_lasting_45
  · refine lv_iload_n hx hb dX1_lasting_10 rfl (lv_at hl 0 rfl) ?_
    exact m_ri hx hb hrt (rfl) hlk hR hS hQ (if_neg c1) dX1_lasting_11
def m_tell_L6 : Nat → Int64 → Int64 → Int64 × Int64
  | 0, y5_6, y7_6 => (y5_6, y7_6)
  | f6 + 1, y5_6, y7_6 => (if y7_6 = 0 then (y5_6, y7_6) else (m_tell_L6 f6 y7_6 (y5_6 - y5_6 / y7_6 * y7_6)))
theorem m_tell_L6_s (f6 : Nat) (y5_6 : Int64) (y7_6 : Int64) : m_tell_L6 (f6 + 1) y5_6 y7_6 = (if y7_6 = 0 then (y5_6, y7_6) else (m_tell_L6 f6 y7_6 (y5_6 - y5_6 / y7_6 * y7_6))) := rfl
def m_tell_R6 (x1 : Int64) (x2 : Int64) : Int64 × Int64 := m_tell_L6 ((x2 : Int64).toInt.toNat + 1) x1 x2
def m_tell (S : MS) (x1 : Int64) (x2 : Int64) : Int32 × MS := (1, (ml (ml S 3 (x1 / (m_tell_R6 x1 x2).1)) 4 (x2 / (m_tell_R6 x1 x2).1)))
set_option maxHeartbeats 4000000 in
theorem mt_tell (l : Launch) (D : va_G) (d : Nat → ClassId) (A : Nat → Prop) (a : Nat → Nat) (S : MS) (x1 : Int64) (x2 : Int64) (hp : 0 < x1 ∧ 0 < x2) : MI l yX1_tell cX1_tell 11 .int (rm_ 0) D d A a S [.long x1, .long x2] (m_tell S x1 x2) := by
  refine m_startI rfl (Nat.le_of_ble_eq_true rfl) ?_
  intro p e s m av below meth c ls Q X hrt hlk hl hR hQ
  have hx := X.1.1
  have hb := X.1.2.1
  have hown := X.1.2.2.2.1
  have hts := X.1.2.2.2.2
  have hS : va_S A s.heap s.heap [] := va_S.rf
  have hl : lv_has ls 11 [(0, .ref (a 0)), (1, .long x1), (3, .long x2)] := hl
  refine lv_lload_n hx hb dX1_tell_0 rfl (lv_at hl 1 rfl) ?_
  refine lv_lstore (lv' := [(5, .long x1), (0, .ref (a 0)), (1, .long x1), (3, .long x2)]) hx hb dX1_tell_1 hl (by decide) rfl (fun ls hl => ?_)
  refine lv_lload_n hx hb dX1_tell_3 rfl (lv_at hl 3 rfl) ?_
  refine lv_lstore (lv' := [(7, .long x2), (5, .long x1), (0, .ref (a 0)), (1, .long x1), (3, .long x2)]) hx hb dX1_tell_4 hl (by decide) rfl (fun ls hl => ?_)
  have K6 : ∀ (H : Heap) (locs : List Loc) (ls : Array Slot), (0 < ((m_tell_R6 x1 x2).1)) → MR D d A a S H → va_S A s.heap H locs → lv_has ls 11 [(7, .long ((m_tell_R6 x1 x2).2)), (5, .long ((m_tell_R6 x1 x2).1)), (0, .ref (a 0)), (1, .long x1), (3, .long x2)] → W p l e (rm_ 0) s m av below meth c H locs 0 0 Q (F0 m 31 ls []) := by
    intro H locs ls hp5 hR hS hl
    refine lv_aload_n hx hb dX1_tell_31 rfl (lv_at hl 2 rfl) ?_
    refine lv_lload_n hx hb dX1_tell_32 rfl (lv_at hl 3 rfl) ?_
    refine lv_lload hx hb dX1_tell_33 (lv_at hl 1 rfl) ?_
    refine lv_ldiv hx hb dX1_tell_35 (ne_pos64 hp5) ?_
    refine mp_l X hR hS 3 (by decide) rfl rfl rfl q1140 dX1_tell_36 (fun H locs hR hS => ?_)
    refine lv_aload_n hx hb dX1_tell_39 rfl (lv_at hl 2 rfl) ?_
    refine lv_lload_n hx hb dX1_tell_40 rfl (lv_at hl 4 rfl) ?_
    refine lv_lload hx hb dX1_tell_41 (lv_at hl 1 rfl) ?_
    refine lv_ldiv hx hb dX1_tell_43 (ne_pos64 hp5) ?_
    refine mp_l X hR hS 4 (by decide) rfl rfl rfl q1141 dX1_tell_44 (fun H locs hR hS => ?_)
    refine lv_iconst (v := 1) hx hb dX1_tell_47 (by decide) ?_
    exact m_ri hx hb hrt (rfl) hlk hR hS hQ rfl dX1_tell_48
  have L6 : ∀ (f6 : Nat) (y5_6 : Int64) (y7_6 : Int64) (H : Heap) (locs : List Loc) (ls : Array Slot), (y7_6 : Int64).toInt.toNat < f6 → 0 < y5_6 → 0 ≤ y7_6 → m_tell_L6 (f6) y5_6 y7_6 = (m_tell_R6 x1 x2) → MR D d A a S H → va_S A s.heap H locs → lv_has ls 11 [(7, .long y7_6), (5, .long y5_6), (0, .ref (a 0)), (1, .long x1), (3, .long x2)] → W p l e (rm_ 0) s m av below meth c H locs 0 0 Q (F0 m 6 ls []) := by
    intro f6
    induction f6 with
    | zero => intro y5_6 y7_6 H locs ls hf; exact absurd hf (Nat.not_lt_zero _)
    | succ f6 ih =>
      intro y5_6 y7_6 H locs ls hf hp5 hp7 hE hR hS hl
      refine lv_lload hx hb dX1_tell_6 (lv_at hl 0 rfl) ?_
      refine lv_lconst (v := 0) hx hb dX1_tell_8 (by decide) ?_
      refine hl_eq (tgt := 31) hx hb dX1_tell_9 dX1_tell_10 (by decide) (fun c1 => ?_) (fun c1 => ?_)
      · have e0 : (m_tell_R6 x1 x2) = (y5_6, y7_6) := Eq.trans (Eq.symm hE) (Eq.trans (m_tell_L6_s _ _ _) (if_pos c1))
        exact K6 _ _ _ (by rw [e0]; exact hp5) hR hS (by rw [e0]; exact lv_sub hl [0, 1, 2, 3, 4] rfl)
      · refine lv_lload hx hb dX1_tell_13 (lv_at hl 1 rfl) ?_
        refine lv_lload hx hb dX1_tell_15 (lv_at hl 0 rfl) ?_
        refine lv_lrem hx hb dX1_tell_17 (by assumption) ?_
        refine lv_lstore (lv' := [(9, .long (y5_6 - y5_6 / y7_6 * y7_6)), (7, .long y7_6), (5, .long y5_6), (0, .ref (a 0)), (1, .long x1), (3, .long x2)]) hx hb dX1_tell_18 hl (by decide) rfl (fun ls hl => ?_)
        refine lv_lload hx hb dX1_tell_20 (lv_at hl 1 rfl) ?_
        refine lv_lstore (lv' := [(5, .long y7_6), (9, .long (y5_6 - y5_6 / y7_6 * y7_6)), (7, .long y7_6), (0, .ref (a 0)), (1, .long x1), (3, .long x2)]) hx hb dX1_tell_22 hl (by decide) rfl (fun ls hl => ?_)
        refine lv_lload hx hb dX1_tell_24 (lv_at hl 1 rfl) ?_
        refine lv_lstore (lv' := [(7, .long (y5_6 - y5_6 / y7_6 * y7_6)), (5, .long y7_6), (9, .long (y5_6 - y5_6 / y7_6 * y7_6)), (0, .ref (a 0)), (1, .long x1), (3, .long x2)]) hx hb dX1_tell_26 hl (by decide) rfl (fun ls hl => ?_)
        refine lv_goto (tgt := 6) hx hb dX1_tell_28 (by decide) ?_
        exact ih y7_6 (y5_6 - y5_6 / y7_6 * y7_6) _ _  _ (Nat.lt_of_lt_of_le (lrem_ok (Int64.le_of_lt hp5) (pos_ne64 hp7 (by assumption))).2.2 (Nat.le_of_lt_succ hf)) (pos_ne64 hp7 (by assumption)) ((lrem_ok (Int64.le_of_lt hp5) (pos_ne64 hp7 (by assumption))).1) (Eq.trans (Eq.symm (Eq.trans (m_tell_L6_s _ _ _) (if_neg c1))) hE) hR hS (lv_sub hl [0, 1, 3, 4, 5] rfl)
  exact L6 _ x1 x2 _ _  _ (Nat.lt_succ_self _) (hp.1) (Int64.le_of_lt hp.2) rfl hR hS (lv_sub hl [0, 1, 2, 3, 4] rfl)
theorem m_dayOf_102 (S : MS) (x1 x2 x3 k : Int32) (hI2 : MInv2 S) (hn : 0 ≤ x1 ∧ x1 < 16) (hm : 0 ≤ S.1 11 (Int32.toNatClampNeg x1) ∧ S.1 11 (Int32.toNatClampNeg x1) ≤ 3 ∧ 0 ≤ S.1 12 (Int32.toNatClampNeg x1) ∧ S.1 12 (Int32.toNatClampNeg x1) ≤ 24 ∧ (S.1 11 (Int32.toNatClampNeg x1) = 0 ∨ 1 ≤ S.1 12 (Int32.toNatClampNeg x1)) ∧ 0 ≤ S.1 14 (Int32.toNatClampNeg x1) ∧ (S.1 14 (Int32.toNatClampNeg x1) < S.1 12 (Int32.toNatClampNeg x1) ∨ S.1 14 (Int32.toNatClampNeg x1) = 0)) (hk : 0 ≤ k ∧ k < 96) (hf : 0 ≤ x3 ∧ x3 ≤ 24) : 1 ≤ (m_dayOf_j102_s0 S x1 x2 x3 k) ∧ (m_dayOf_j102_s0 S x1 x2 x3 k) ≤ 24 := by
  unfold m_dayOf_j102_s0
  split
  · decide
  · rename_i h0
    exact hI2.2 x1 _ hn (m_dayOf_100 S x1 x2 x3 k hk hf (hm.2.2.2.2.1.resolve_left h0))
theorem m_dayOf_L_b (S : MS) (x1 x2 x3 : Int32) (hI2 : MInv2 S) (hn : 0 ≤ x1 ∧ x1 < 16) (hm : 0 ≤ S.1 11 (Int32.toNatClampNeg x1) ∧ S.1 11 (Int32.toNatClampNeg x1) ≤ 3 ∧ 0 ≤ S.1 12 (Int32.toNatClampNeg x1) ∧ S.1 12 (Int32.toNatClampNeg x1) ≤ 24 ∧ (S.1 11 (Int32.toNatClampNeg x1) = 0 ∨ 1 ≤ S.1 12 (Int32.toNatClampNeg x1)) ∧ 0 ≤ S.1 14 (Int32.toNatClampNeg x1) ∧ (S.1 14 (Int32.toNatClampNeg x1) < S.1 12 (Int32.toNatClampNeg x1) ∨ S.1 14 (Int32.toNatClampNeg x1) = 0)) (hf : 0 ≤ x3 ∧ x3 ≤ 24) : ∀ (f : Nat) (y4 y6 : Int32), ((m_dayOf_j14_s0 x2) - y6).toNatClampNeg < f → (0 ≤ y6 ∧ y6 ≤ (m_dayOf_j14_s0 x2)) → (y6 ≤ y4 ∧ y4 ≤ 24 * y6) → (m_dayOf_j14_s0 x2) ≤ (m_dayOf_L19 S x1 x2 x3 f y4 y6).1 ∧ (m_dayOf_L19 S x1 x2 x3 f y4 y6).1 ≤ 2304 := by
  have h14 : (m_dayOf_j14_s0 x2) = 24 ∨ (m_dayOf_j14_s0 x2) = 96 := by unfold m_dayOf_j14_s0; split <;> simp
  intro f
  induction f with
  | zero => intro y4 y6 h; exact absurd h (Nat.not_lt_zero _)
  | succ f ih =>
    intro y4 y6 h h6 h4
    rw [m_dayOf_L19_s]
    split
    · rename_i c
      show (m_dayOf_j14_s0 x2) ≤ y4 ∧ y4 ≤ 2304
      clear ih h hm hI2
      generalize (m_dayOf_j14_s0 x2) = J at *
      simp only [i_le, i_lt, i_eq, Int32.reduceToInt] at *
      have e := m32 (x := 24) (y := y6) (by simp only [Int32.reduceToInt]; omega)
      simp only [Int32.reduceToInt] at e
      omega
    · rename_i c
      have hk : 0 ≤ y6 ∧ y6 < 96 := by
        clear ih h hm hI2
        generalize (m_dayOf_j14_s0 x2) = J at *
        simp only [i_le, i_lt, i_eq, Int32.reduceToInt] at *
        omega
      have h102 := m_dayOf_102 S x1 x2 x3 y6 hI2 hn hm hk hf
      refine ih _ _ (Nat.lt_of_lt_of_le (up_ h6.1 (Int32.not_le.mp c)) (Nat.le_of_lt_succ h)) ?_ ?_
      · clear ih h hm hI2 h102
        generalize (m_dayOf_j14_s0 x2) = J at *
        simp only [i_le, i_lt, i_eq, Int32.reduceToInt] at *
        have e := a32 (x := y6) (y := 1) (by simp only [Int32.reduceToInt]; omega)
        simp only [Int32.reduceToInt] at e
        omega
      · unfold m_dayOf_v103
        clear ih h hm hI2
        generalize (m_dayOf_j102_s0 S x1 x2 x3 y6) = v at *
        generalize (m_dayOf_j14_s0 x2) = J at *
        simp only [i_le, i_lt, i_eq, Int32.reduceToInt] at *
        have e := a32 (x := y6) (y := 1) (by simp only [Int32.reduceToInt]; omega)
        simp only [Int32.reduceToInt] at e
        have e1 := m32 (x := 24) (y := y6) (by simp only [Int32.reduceToInt]; omega)
        simp only [Int32.reduceToInt] at e1
        have e2 := m32 (x := 24) (y := y6 + 1) (by simp only [Int32.reduceToInt]; omega)
        simp only [Int32.reduceToInt] at e2
        have e3 := a32 (x := y4) (y := v) (by omega)
        omega
theorem m_dayOf_b (S : MS) (x1 x2 x3 : Int32) (hI2 : MInv2 S) (hn : 0 ≤ x1 ∧ x1 < 16) (hm : 0 ≤ S.1 11 (Int32.toNatClampNeg x1) ∧ S.1 11 (Int32.toNatClampNeg x1) ≤ 3 ∧ 0 ≤ S.1 12 (Int32.toNatClampNeg x1) ∧ S.1 12 (Int32.toNatClampNeg x1) ≤ 24 ∧ (S.1 11 (Int32.toNatClampNeg x1) = 0 ∨ 1 ≤ S.1 12 (Int32.toNatClampNeg x1)) ∧ 0 ≤ S.1 14 (Int32.toNatClampNeg x1) ∧ (S.1 14 (Int32.toNatClampNeg x1) < S.1 12 (Int32.toNatClampNeg x1) ∨ S.1 14 (Int32.toNatClampNeg x1) = 0)) (hf : 0 ≤ x3 ∧ x3 ≤ 24) : 24 ≤ (m_dayOf S x1 x2 x3) ∧ (m_dayOf S x1 x2 x3) ≤ 2304 := by
  have h14 : 24 ≤ (m_dayOf_j14_s0 x2) := by unfold m_dayOf_j14_s0; split <;> decide
  have h := m_dayOf_L_b S x1 x2 x3 hI2 hn hm hf _ 0 0 (Nat.lt_succ_self _) ⟨by decide, Int32.le_trans (by decide) h14⟩ (by decide)
  exact ⟨Int32.le_trans h14 h.1, h.2⟩
theorem sub_dn {x y : Int32} (h : ¬ x < y) (hy : 24 ≤ y) : (x - y).toNatClampNeg < x.toNatClampNeg := by
  rw [i_lt] at h
  rw [i_le] at hy
  simp only [Int32.reduceToInt] at hy
  have a := Int32.toInt_lt x
  have e := s32 (x := x) (y := y) (by omega)
  unfold Int32.toNatClampNeg
  omega
theorem m_lastingDays_o2 (S : MS) (x1 : Int32) (hI : MInv S) (hI2 : MInv2 S) (hn : ¬ (m_isTrain S x1) = 0 → 0 ≤ x1 ∧ x1 < 16) (hm : 0 ≤ x1 ∧ x1 < 16 → 0 ≤ S.1 11 (Int32.toNatClampNeg x1) ∧ S.1 11 (Int32.toNatClampNeg x1) ≤ 3 ∧ 0 ≤ S.1 12 (Int32.toNatClampNeg x1) ∧ S.1 12 (Int32.toNatClampNeg x1) ≤ 24 ∧ (S.1 11 (Int32.toNatClampNeg x1) = 0 ∨ 1 ≤ S.1 12 (Int32.toNatClampNeg x1)) ∧ 0 ≤ S.1 14 (Int32.toNatClampNeg x1) ∧ (S.1 14 (Int32.toNatClampNeg x1) < S.1 12 (Int32.toNatClampNeg x1) ∨ S.1 14 (Int32.toNatClampNeg x1) = 0)) (c1 : ¬ (m_isTrain S x1) = 0) : 0 ≤ x1 ∧ x1 < 16 := by 
  clear hI hI2
  try simp only [i_le, i_lt, i_eq, Int32.reduceToInt] at *
  try simp only [Int32.reduceToInt] at *
  omega
def m_lastingDays_v16 (S : MS) (x1 : Int32) : Int32 := (S.1 20 (Int32.toNatClampNeg x1))
def m_lastingDays_v23 (S : MS) (x1 : Int32) : Int32 := (S.1 14 (Int32.toNatClampNeg x1))
theorem m_lastingDays_o3 (S : MS) (x1 : Int32) (hI : MInv S) (hI2 : MInv2 S) (hn : ¬ (m_isTrain S x1) = 0 → 0 ≤ x1 ∧ x1 < 16) (hm : 0 ≤ x1 ∧ x1 < 16 → 0 ≤ S.1 11 (Int32.toNatClampNeg x1) ∧ S.1 11 (Int32.toNatClampNeg x1) ≤ 3 ∧ 0 ≤ S.1 12 (Int32.toNatClampNeg x1) ∧ S.1 12 (Int32.toNatClampNeg x1) ≤ 24 ∧ (S.1 11 (Int32.toNatClampNeg x1) = 0 ∨ 1 ≤ S.1 12 (Int32.toNatClampNeg x1)) ∧ 0 ≤ S.1 14 (Int32.toNatClampNeg x1) ∧ (S.1 14 (Int32.toNatClampNeg x1) < S.1 12 (Int32.toNatClampNeg x1) ∨ S.1 14 (Int32.toNatClampNeg x1) = 0)) (c1 : ¬ (m_isTrain S x1) = 0) (hn_ : 0 ≤ x1 ∧ x1 < 16) (hm_ : 0 ≤ S.1 11 (Int32.toNatClampNeg x1) ∧ S.1 11 (Int32.toNatClampNeg x1) ≤ 3 ∧ 0 ≤ S.1 12 (Int32.toNatClampNeg x1) ∧ S.1 12 (Int32.toNatClampNeg x1) ≤ 24 ∧ (S.1 11 (Int32.toNatClampNeg x1) = 0 ∨ 1 ≤ S.1 12 (Int32.toNatClampNeg x1)) ∧ 0 ≤ S.1 14 (Int32.toNatClampNeg x1) ∧ (S.1 14 (Int32.toNatClampNeg x1) < S.1 12 (Int32.toNatClampNeg x1) ∨ S.1 14 (Int32.toNatClampNeg x1) = 0)) : 0 ≤ (m_lastingDays_v23 S x1) ∧ (m_lastingDays_v23 S x1) ≤ 24 := by 
  clear hI hI2
  try simp only [m_lastingDays_v23] at *
  try simp only [i_le, i_lt, i_eq, Int32.reduceToInt] at *
  try simp only [Int32.reduceToInt] at *
  omega
def m_lastingDays_v36 (S : MS) (x1 : Int32) (x2 : Int32) : Int32 := (m_dayOf S x1 x2 (m_lastingDays_v23 S x1))
def m_lastingDays_j78_s0 (x2 : Int32) : Int32 := (if x2 = 0 then 24 else 96)
def m_lastingDays_j86_s0 (S : MS) (x1 : Int32) (x2 : Int32) (y4_38 : Int32) : Int32 := (if (S.1 12 (Int32.toNatClampNeg x1)) = 0 then 0 else ((y4_38 + (m_lastingDays_j78_s0 x2)) - (y4_38 + (m_lastingDays_j78_s0 x2)) / (S.1 12 (Int32.toNatClampNeg x1)) * (S.1 12 (Int32.toNatClampNeg x1))))
def m_lastingDays_v96 (S : MS) (x1 : Int32) (x2 : Int32) (y4_38 : Int32) : Int32 := (m_dayOf S x1 x2 (m_lastingDays_j86_s0 S x1 x2 y4_38))
def m_lastingDays_L38 (S : MS) (x1 : Int32) (x2 : Int32) : Nat → Int32 → Int32 → Int32 → Int32 → Int32 × Int32 × Int32 × Int32
  | 0, y3_38, y4_38, y5_38, y6_38 => (y3_38, y4_38, y5_38, y6_38)
  | f38 + 1, y3_38, y4_38, y5_38, y6_38 => (if y3_38 < y6_38 then (y3_38, y4_38, y5_38, y6_38) else (m_lastingDays_L38 S x1 x2 f38 (y3_38 - y6_38) (m_lastingDays_j86_s0 S x1 x2 y4_38) (y5_38 + 1) (m_lastingDays_v96 S x1 x2 y4_38)))
theorem m_lastingDays_L38_s (S : MS) (x1 : Int32) (x2 : Int32) (f38 : Nat) (y3_38 : Int32) (y4_38 : Int32) (y5_38 : Int32) (y6_38 : Int32) : m_lastingDays_L38 S x1 x2 (f38 + 1) y3_38 y4_38 y5_38 y6_38 = (if y3_38 < y6_38 then (y3_38, y4_38, y5_38, y6_38) else (m_lastingDays_L38 S x1 x2 f38 (y3_38 - y6_38) (m_lastingDays_j86_s0 S x1 x2 y4_38) (y5_38 + 1) (m_lastingDays_v96 S x1 x2 y4_38))) := rfl
def m_lastingDays_R38 (S : MS) (x1 : Int32) (x2 : Int32) : Int32 × Int32 × Int32 × Int32 := m_lastingDays_L38 S x1 x2 (((m_lastingDays_v16 S x1) : Int32).toNatClampNeg + 1) (m_lastingDays_v16 S x1) (m_lastingDays_v23 S x1) 0 (m_lastingDays_v36 S x1 x2)
theorem m_lastingDays_40 (S : MS) (x1 : Int32) (hm : 0 ≤ S.1 11 (Int32.toNatClampNeg x1) ∧ S.1 11 (Int32.toNatClampNeg x1) ≤ 3 ∧ 0 ≤ S.1 12 (Int32.toNatClampNeg x1) ∧ S.1 12 (Int32.toNatClampNeg x1) ≤ 24 ∧ (S.1 11 (Int32.toNatClampNeg x1) = 0 ∨ 1 ≤ S.1 12 (Int32.toNatClampNeg x1)) ∧ 0 ≤ S.1 14 (Int32.toNatClampNeg x1) ∧ (S.1 14 (Int32.toNatClampNeg x1) < S.1 12 (Int32.toNatClampNeg x1) ∨ S.1 14 (Int32.toNatClampNeg x1) = 0)) : 0 ≤ S.1 14 (Int32.toNatClampNeg x1) ∧ S.1 14 (Int32.toNatClampNeg x1) ≤ 24 := by
  simp only [i_le, i_lt, i_eq, Int32.reduceToInt] at *
  omega
theorem m_lastingDays_86 (S : MS) (x1 x2 f : Int32) (hm : 0 ≤ S.1 11 (Int32.toNatClampNeg x1) ∧ S.1 11 (Int32.toNatClampNeg x1) ≤ 3 ∧ 0 ≤ S.1 12 (Int32.toNatClampNeg x1) ∧ S.1 12 (Int32.toNatClampNeg x1) ≤ 24 ∧ (S.1 11 (Int32.toNatClampNeg x1) = 0 ∨ 1 ≤ S.1 12 (Int32.toNatClampNeg x1)) ∧ 0 ≤ S.1 14 (Int32.toNatClampNeg x1) ∧ (S.1 14 (Int32.toNatClampNeg x1) < S.1 12 (Int32.toNatClampNeg x1) ∨ S.1 14 (Int32.toNatClampNeg x1) = 0)) (hf : 0 ≤ f ∧ f ≤ 24) : 0 ≤ (m_lastingDays_j86_s0 S x1 x2 f) ∧ (m_lastingDays_j86_s0 S x1 x2 f) ≤ 24 := by
  unfold m_lastingDays_j86_s0
  split
  · decide
  · rename_i h0
    have hp : 0 < S.1 12 (Int32.toNatClampNeg x1) := by
      clear hf
      simp only [i_le, i_lt, i_eq, Int32.reduceToInt] at *
      omega
    have hq : 0 ≤ f + (m_lastingDays_j78_s0 x2) := by
      have h78 : (m_lastingDays_j78_s0 x2) = 24 ∨ (m_lastingDays_j78_s0 x2) = 96 := by unfold m_lastingDays_j78_s0; split <;> simp
      clear hm h0 hp
      generalize (m_lastingDays_j78_s0 x2) = v at *
      simp only [i_le, i_lt, i_eq, Int32.reduceToInt] at *
      have e := a32 (x := f) (y := v) (by omega)
      omega
    have h2 := (dv_ hq hp).2.2
    refine ⟨h2.1, ?_⟩
    have h3 := Int32.le_of_lt h2.2
    exact Int32.le_trans h3 hm.2.2.2.1
def m_lastingDays (S : MS) (x1 : Int32) (x2 : Int32) : Int32 := (if (m_isTrain S x1) = 0 then (-1) else (m_lastingDays_R38 S x1 x2).2.2.1)
set_option maxHeartbeats 4000000 in
theorem mt_lastingDays (l : Launch) (D : va_G) (d : Nat → ClassId) (A : Nat → Prop) (a : Nat → Nat) (S : MS) (x1 : Int32) (x2 : Int32) (hI : MInv S) (hI2 : MInv2 S) : MI l yX1_lastingDays cX1_lastingDays 7 .int (rm_ 2) D d A a S [.int x1, .int x2] ((m_lastingDays S x1 x2), S) := by
  refine m_startI rfl (Nat.le_of_ble_eq_true rfl) ?_
  intro p e s m av below meth c ls Q X hrt hlk hl hR hQ
  have hx := X.1.1
  have hb := X.1.2.1
  have hown := X.1.2.2.2.1
  have hts := X.1.2.2.2.2
  have hS : va_S A s.heap s.heap [] := va_S.rf
  have hl : lv_has ls 7 [(0, .ref (a 0)), (1, .int x1), (2, .int x2)] := hl
  have hn : ¬ (m_isTrain S x1) = 0 → 0 ≤ x1 ∧ x1 < 16 := isTrain_ok hI
  have hm : 0 ≤ x1 ∧ x1 < 16 → 0 ≤ S.1 11 (Int32.toNatClampNeg x1) ∧ S.1 11 (Int32.toNatClampNeg x1) ≤ 3 ∧ 0 ≤ S.1 12 (Int32.toNatClampNeg x1) ∧ S.1 12 (Int32.toNatClampNeg x1) ≤ 24 ∧ (S.1 11 (Int32.toNatClampNeg x1) = 0 ∨ 1 ≤ S.1 12 (Int32.toNatClampNeg x1)) ∧ 0 ≤ S.1 14 (Int32.toNatClampNeg x1) ∧ (S.1 14 (Int32.toNatClampNeg x1) < S.1 12 (Int32.toNatClampNeg x1) ∨ S.1 14 (Int32.toNatClampNeg x1) = 0) := mi_n hI
  refine lv_aload_n hx hb dX1_lastingDays_0 rfl (lv_at hl 0 rfl) ?_
  refine lv_iload_n hx hb dX1_lastingDays_1 rfl (lv_at hl 1 rfl) ?_
  refine m_cr X hR hS (mt_isTrain l D d A a S x1) 1 (lw_V q1373 q1375 qs28 q59 q1376) ⟨rfl, rfl⟩ (by decide +kernel) ⟨by decide, by decide⟩ ⟨by decide, by decide⟩ rfl hl.1 rfl (Nat.le_of_ble_eq_true rfl) dX1_lastingDays_2 (fun H locs hR hS => ?_)
  refine lv_if_ne (tgt := 10) hx hb dX1_lastingDays_5 (by decide) (fun c1 => ?_) (fun c1 => ?_)
  · have hn_ : 0 ≤ x1 ∧ x1 < 16 := m_lastingDays_o2 S x1 hI hI2 hn hm c1
    have hm_ : 0 ≤ S.1 11 (Int32.toNatClampNeg x1) ∧ S.1 11 (Int32.toNatClampNeg x1) ≤ 3 ∧ 0 ≤ S.1 12 (Int32.toNatClampNeg x1) ∧ S.1 12 (Int32.toNatClampNeg x1) ≤ 24 ∧ (S.1 11 (Int32.toNatClampNeg x1) = 0 ∨ 1 ≤ S.1 12 (Int32.toNatClampNeg x1)) ∧ 0 ≤ S.1 14 (Int32.toNatClampNeg x1) ∧ (S.1 14 (Int32.toNatClampNeg x1) < S.1 12 (Int32.toNatClampNeg x1) ∨ S.1 14 (Int32.toNatClampNeg x1) = 0) := hm hn_
    refine lv_aload_n hx hb dX1_lastingDays_10 rfl (lv_at hl 0 rfl) ?_
    refine mg_a X hR 20 (by decide) (by decide) q1157 dX1_lastingDays_11 ?_
    refine lv_iload_n hx hb dX1_lastingDays_14 rfl (lv_at hl 1 rfl) ?_
    refine m_ld X hR ⟨by decide, rfl, by decide⟩ (ixl 16 16 (by decide) rfl (hn_)) (v := S.1 20 (Int32.toNatClampNeg x1)) rfl dX1_lastingDays_15 ?_
    refine lv_istore_n (lv' := [(3, .int (m_lastingDays_v16 S x1)), (0, .ref (a 0)), (1, .int x1), (2, .int x2)]) hx hb dX1_lastingDays_16 rfl hl (by decide) rfl (fun ls hl => ?_)
    refine lv_aload_n hx hb dX1_lastingDays_17 rfl (lv_at hl 1 rfl) ?_
    refine mg_a X hR 14 (by decide) (by decide) q1151 dX1_lastingDays_18 ?_
    refine lv_iload_n hx hb dX1_lastingDays_21 rfl (lv_at hl 2 rfl) ?_
    refine m_ld X hR ⟨by decide, rfl, by decide⟩ (ixl 16 16 (by decide) rfl (hn_)) (v := S.1 14 (Int32.toNatClampNeg x1)) rfl dX1_lastingDays_22 ?_
    refine lv_istore (lv' := [(4, .int (m_lastingDays_v23 S x1)), (3, .int (m_lastingDays_v16 S x1)), (0, .ref (a 0)), (1, .int x1), (2, .int x2)]) hx hb dX1_lastingDays_23 hl (by decide) rfl (fun ls hl => ?_)
    refine lv_iconst (v := 0) hx hb dX1_lastingDays_25 (by decide) ?_
    refine lv_istore (lv' := [(5, .int 0), (4, .int (m_lastingDays_v23 S x1)), (3, .int (m_lastingDays_v16 S x1)), (0, .ref (a 0)), (1, .int x1), (2, .int x2)]) hx hb dX1_lastingDays_26 hl (by decide) rfl (fun ls hl => ?_)
    refine lv_aload_n hx hb dX1_lastingDays_28 rfl (lv_at hl 3 rfl) ?_
    refine lv_iload_n hx hb dX1_lastingDays_29 rfl (lv_at hl 4 rfl) ?_
    refine lv_iload_n hx hb dX1_lastingDays_30 rfl (lv_at hl 5 rfl) ?_
    refine lv_iload hx hb dX1_lastingDays_31 (lv_at hl 1 rfl) ?_
    refine m_cr X hR hS (mt_dayOf l D d A a S x1 x2 (m_lastingDays_v23 S x1) (hn_) (hm_) (m_lastingDays_o3 S x1 hI hI2 hn hm c1 hn_ hm_)) 3 (lw_V q1673 q1675 qs56 q59 q1676) ⟨rfl, rfl⟩ (by decide +kernel) ⟨by decide, by decide⟩ ⟨by decide, by decide⟩ rfl hl.1 rfl (Nat.le_of_ble_eq_true rfl) dX1_lastingDays_33 (fun H locs hR hS => ?_)
    refine lv_istore (lv' := [(6, .int (m_lastingDays_v36 S x1 x2)), (5, .int 0), (4, .int (m_lastingDays_v23 S x1)), (3, .int (m_lastingDays_v16 S x1)), (0, .ref (a 0)), (1, .int x1), (2, .int x2)]) hx hb dX1_lastingDays_36 hl (by decide) rfl (fun ls hl => ?_)
    have K38 : ∀ (H : Heap) (locs : List Loc) (ls : Array Slot), MR D d A a S H → va_S A s.heap H locs → lv_has ls 7 [(6, .int ((m_lastingDays_R38 S x1 x2).2.2.2)), (5, .int ((m_lastingDays_R38 S x1 x2).2.2.1)), (4, .int ((m_lastingDays_R38 S x1 x2).2.1)), (3, .int ((m_lastingDays_R38 S x1 x2).1)), (0, .ref (a 0)), (1, .int x1), (2, .int x2)] → W p l e (rm_ 2) s m av below meth c H locs 0 0 Q (F0 m 101 ls []) := by
      intro H locs ls hR hS hl
      refine lv_iload hx hb dX1_lastingDays_101 (lv_at hl 1 rfl) ?_
      exact m_ri hx hb hrt (rfl) hlk hR hS hQ (hF1 (if_neg c1)) dX1_lastingDays_103
    have L38 : ∀ (f38 : Nat) (y3_38 : Int32) (y4_38 : Int32) (y5_38 : Int32) (y6_38 : Int32) (H : Heap) (locs : List Loc) (ls : Array Slot), (y3_38 : Int32).toNatClampNeg < f38 → 24 ≤ y6_38 ∧ y6_38 ≤ 2304 → 0 ≤ y4_38 ∧ y4_38 ≤ 24 → m_lastingDays_L38 S x1 x2 (f38) y3_38 y4_38 y5_38 y6_38 = (m_lastingDays_R38 S x1 x2) → MR D d A a S H → va_S A s.heap H locs → lv_has ls 7 [(6, .int y6_38), (5, .int y5_38), (4, .int y4_38), (3, .int y3_38), (0, .ref (a 0)), (1, .int x1), (2, .int x2)] → W p l e (rm_ 2) s m av below meth c H locs 0 0 Q (F0 m 38 ls []) := by
      intro f38
      induction f38 with
      | zero => intro y3_38 y4_38 y5_38 y6_38 H locs ls hf; exact absurd hf (Nat.not_lt_zero _)
      | succ f38 ih =>
        intro y3_38 y4_38 y5_38 y6_38 H locs ls hf h6 h4 hE hR hS hl
        refine lv_iload_n hx hb dX1_lastingDays_38 rfl (lv_at hl 3 rfl) ?_
        refine lv_iload hx hb dX1_lastingDays_39 (lv_at hl 0 rfl) ?_
        refine lv_icmp_lt (tgt := 101) hx hb dX1_lastingDays_41 (by decide) (fun c4 => ?_) (fun c4 => ?_)
        · have e0 : (m_lastingDays_R38 S x1 x2) = (y3_38, y4_38, y5_38, y6_38) := Eq.trans (Eq.symm hE) (Eq.trans (m_lastingDays_L38_s _ _ _ _ _ _ _ _) (if_pos c4))
          exact K38 _ _ _ hR hS (by rw [e0]; exact lv_sub hl [0, 1, 2, 3, 4, 5, 6] rfl)
        · refine lv_iload_n hx hb dX1_lastingDays_44 rfl (lv_at hl 3 rfl) ?_
          refine lv_iload hx hb dX1_lastingDays_45 (lv_at hl 0 rfl) ?_
          refine lv_isub hx hb dX1_lastingDays_47 ?_
          refine lv_istore_n (lv' := [(3, .int (y3_38 - y6_38)), (6, .int y6_38), (5, .int y5_38), (4, .int y4_38), (0, .ref (a 0)), (1, .int x1), (2, .int x2)]) hx hb dX1_lastingDays_48 rfl hl (by decide) rfl (fun ls hl => ?_)
          refine lv_iinc (v := (y5_38 + 1)) (lv' := [(5, .int (y5_38 + 1)), (3, .int (y3_38 - y6_38)), (6, .int y6_38), (4, .int y4_38), (0, .ref (a 0)), (1, .int x1), (2, .int x2)]) hx hb dX1_lastingDays_49 hl (k := 2) rfl rfl (by decide) rfl (fun ls hl => ?_)
          refine lv_aload_n hx hb dX1_lastingDays_52 rfl (lv_at hl 4 rfl) ?_
          refine mg_a X hR 12 (by decide) (by decide) q1149 dX1_lastingDays_53 ?_
          refine lv_iload_n hx hb dX1_lastingDays_56 rfl (lv_at hl 5 rfl) ?_
          refine m_ld X hR ⟨by decide, rfl, by decide⟩ (ixl 16 16 (by decide) rfl (hn_)) (v := S.1 12 (Int32.toNatClampNeg x1)) rfl dX1_lastingDays_57 ?_
          have J10 : ∀ (w9 : Int32) (H : Heap) (locs : List Loc) (ls : Array Slot), w9 = (m_lastingDays_j86_s0 S x1 x2 y4_38) → MR D d A a S H → va_S A s.heap H locs → lv_has ls 7 [(5, .int (y5_38 + 1)), (3, .int (y3_38 - y6_38)), (6, .int y6_38), (4, .int y4_38), (0, .ref (a 0)), (1, .int x1), (2, .int x2)] → W p l e (rm_ 2) s m av below meth c H locs 0 0 Q (F0 m 86 ls [.int w9]) := by
            intro w9 H locs ls ew9 hR hS hl
            subst ew9
            refine lv_istore (lv' := [(4, .int (m_lastingDays_j86_s0 S x1 x2 y4_38)), (5, .int (y5_38 + 1)), (3, .int (y3_38 - y6_38)), (6, .int y6_38), (0, .ref (a 0)), (1, .int x1), (2, .int x2)]) hx hb dX1_lastingDays_86 hl (by decide) rfl (fun ls hl => ?_)
            refine lv_aload_n hx hb dX1_lastingDays_88 rfl (lv_at hl 4 rfl) ?_
            refine lv_iload_n hx hb dX1_lastingDays_89 rfl (lv_at hl 5 rfl) ?_
            refine lv_iload_n hx hb dX1_lastingDays_90 rfl (lv_at hl 6 rfl) ?_
            refine lv_iload hx hb dX1_lastingDays_91 (lv_at hl 0 rfl) ?_
            refine m_cr X hR hS (mt_dayOf l D d A a S x1 x2 (m_lastingDays_j86_s0 S x1 x2 y4_38) (hn_) (hm_) (m_lastingDays_86 S x1 x2 _ hm_ h4)) 3 (lw_V q1673 q1675 qs56 q59 q1676) ⟨rfl, rfl⟩ (by decide +kernel) ⟨by decide, by decide⟩ ⟨by decide, by decide⟩ rfl hl.1 rfl (Nat.le_of_ble_eq_true rfl) dX1_lastingDays_93 (fun H locs hR hS => ?_)
            refine lv_istore (lv' := [(6, .int (m_lastingDays_v96 S x1 x2 y4_38)), (4, .int (m_lastingDays_j86_s0 S x1 x2 y4_38)), (5, .int (y5_38 + 1)), (3, .int (y3_38 - y6_38)), (0, .ref (a 0)), (1, .int x1), (2, .int x2)]) hx hb dX1_lastingDays_96 hl (by decide) rfl (fun ls hl => ?_)
            refine lv_goto (tgt := 38) hx hb dX1_lastingDays_98 (by decide) ?_
            exact ih (y3_38 - y6_38) (m_lastingDays_j86_s0 S x1 x2 y4_38) (y5_38 + 1) (m_lastingDays_v96 S x1 x2 y4_38) _ _  _ (Nat.lt_of_lt_of_le (sub_dn (by assumption) h6.1) (Nat.le_of_lt_succ hf)) (m_dayOf_b S x1 x2 _ hI2 hn_ hm_ (m_lastingDays_86 S x1 x2 _ hm_ h4)) (m_lastingDays_86 S x1 x2 _ hm_ h4) (Eq.trans (Eq.symm (Eq.trans (m_lastingDays_L38_s _ _ _ _ _ _ _ _) (if_neg c4))) hE) hR hS (lv_sub hl [0, 2, 1, 3, 4, 5, 6] rfl)
          refine lv_if_ne (tgt := 65) hx hb dX1_lastingDays_58 (by decide) (fun c5 => ?_) (fun c5 => ?_)
          · refine lv_iload hx hb dX1_lastingDays_65 (lv_at hl 3 rfl) ?_
            refine lv_iload_n hx hb dX1_lastingDays_67 rfl (lv_at hl 6 rfl) ?_
            have J8 : ∀ (w7 : Int32) (H : Heap) (locs : List Loc) (ls : Array Slot), w7 = (m_lastingDays_j78_s0 x2) → MR D d A a S H → va_S A s.heap H locs → lv_has ls 7 [(5, .int (y5_38 + 1)), (3, .int (y3_38 - y6_38)), (6, .int y6_38), (4, .int y4_38), (0, .ref (a 0)), (1, .int x1), (2, .int x2)] → W p l e (rm_ 2) s m av below meth c H locs 0 0 Q (F0 m 78 ls [.int w7, .int y4_38]) := by
              intro w7 H locs ls ew7 hR hS hl
              subst ew7
              refine lv_iadd hx hb dX1_lastingDays_78 ?_
              refine lv_aload_n hx hb dX1_lastingDays_79 rfl (lv_at hl 4 rfl) ?_
              refine mg_a X hR 12 (by decide) (by decide) q1149 dX1_lastingDays_80 ?_
              refine lv_iload_n hx hb dX1_lastingDays_83 rfl (lv_at hl 5 rfl) ?_
              refine m_ld X hR ⟨by decide, rfl, by decide⟩ (ixl 16 16 (by decide) rfl (hn_)) (v := S.1 12 (Int32.toNatClampNeg x1)) rfl dX1_lastingDays_84 ?_
              refine lv_irem hx hb dX1_lastingDays_85 (by assumption) ?_
              exact J10 _ _ _  _ (Eq.symm (if_neg c5)) hR hS  (lv_sub hl [0, 1, 2, 3, 4, 5, 6] rfl)
            refine lv_if_eq (tgt := 76) hx hb dX1_lastingDays_68 (by decide) (fun c6 => ?_) (fun c6 => ?_)
            · refine lv_bipush (v := 24) hx hb dX1_lastingDays_76 (by decide) ?_
              exact J8 _ _ _  _ (Eq.symm (if_pos c6)) hR hS  (lv_sub hl [0, 1, 2, 3, 4, 5, 6] rfl)
            · refine lv_bipush (v := 96) hx hb dX1_lastingDays_71 (by decide) ?_
              refine lv_goto (tgt := 78) hx hb dX1_lastingDays_73 (by decide) ?_
              exact J8 _ _ _  _ (Eq.symm (if_neg c6)) hR hS  (lv_sub hl [0, 1, 2, 3, 4, 5, 6] rfl)
          · refine lv_iconst (v := 0) hx hb dX1_lastingDays_61 (by decide) ?_
            refine lv_goto (tgt := 86) hx hb dX1_lastingDays_62 (by decide) ?_
            exact J10 _ _ _  _ (Eq.symm (if_pos c5)) hR hS  (lv_sub hl [0, 1, 2, 3, 4, 5, 6] rfl)
    have h40 : 0 ≤ (m_lastingDays_v23 S x1) ∧ (m_lastingDays_v23 S x1) ≤ 24 := m_lastingDays_40 S x1 hm_
    exact L38 _ (m_lastingDays_v16 S x1) (m_lastingDays_v23 S x1) 0 (m_lastingDays_v36 S x1 x2) _ _  _ (Nat.lt_succ_self _) (m_dayOf_b S x1 x2 _ hI2 hn_ hm_ h40) (h40) rfl hR hS (lv_sub hl [0, 1, 2, 3, 4, 5, 6] rfl)
  · refine lv_iconst (v := (-1)) hx hb dX1_lastingDays_8 (by decide) ?_
    exact m_ri hx hb hrt (rfl) hlk hR hS hQ (hF1 (if_pos c1)) dX1_lastingDays_9
