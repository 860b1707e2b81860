/-! PRINTED by gen/run_m9.py -/
set_option maxRecDepth 100000
def m_ahead_v34 (S : MS) (x1 : Int32) (x2 : Int32) : Int32 := ((((S.1 27 (Int32.toNatClampNeg x1)) + 1440) - (S.1 27 (Int32.toNatClampNeg x2))) - (((S.1 27 (Int32.toNatClampNeg x1)) + 1440) - (S.1 27 (Int32.toNatClampNeg x2))) / 1440 * 1440)
def m_ahead (S : MS) (x1 : Int32) (x2 : Int32) : Int32 × MS := (if 0 ≤ (m_askedTwo S x1 x2).1 then (if (m_ahead_v34 S x1 x2) ≤ 720 then ((m_ahead_v34 S x1 x2), S) else (((m_ahead_v34 S x1 x2) - 1440), S)) else ((m_askedTwo S x1 x2).1, (m_askedTwo S x1 x2).2))
set_option maxHeartbeats 4000000 in
theorem mt_ahead (l : Launch) (D : va_G) (d : Nat → ClassId) (A : Nat → Prop) (a : Nat → Nat) (S : MS) (x1 : Int32) (x2 : Int32) : MI l yX1_ahead cX1_ahead 5 .int (rm_ 3) D d A a S [.int x1, .int x2] (m_ahead S x1 x2) := by
  refine m_startI rfl (Nat.le_of_ble_eq_true rfl) ?_
  intro p e s m av below meth c ls Q X hrt hlk hl hR hQ
  have hx := X.1.1
  have hb := X.1.2.1
  have hown := X.1.2.2.2.1
  have hts := X.1.2.2.2.2
  have hS : va_S A s.heap s.heap [] := va_S.rf
  have hl : lv_has ls 5 [(0, .ref (a 0)), (1, .int x1), (2, .int x2)] := hl
  refine lv_aload_n hx hb dX1_ahead_0 rfl (lv_at hl 0 rfl) ?_
  refine lv_iload_n hx hb dX1_ahead_1 rfl (lv_at hl 1 rfl) ?_
  refine lv_iload_n hx hb dX1_ahead_2 rfl (lv_at hl 2 rfl) ?_
  refine m_ci X hR hS (mt_askedTwo l D d A a S x1 x2) 2 (lw_V q1558 q1560 qs46 q59 q1561) ⟨rfl, rfl⟩ (by decide +kernel) ⟨by decide, by decide⟩ ⟨by decide, by decide⟩ rfl hl.1 rfl (Nat.le_of_ble_eq_true rfl) dX1_ahead_3 (fun H locs hR hS => ?_)
  refine lv_istore_n (lv' := [(3, .int ((m_askedTwo S x1 x2).1)), (0, .ref (a 0)), (1, .int x1), (2, .int x2)]) hx hb dX1_ahead_6 rfl hl (by decide) rfl (fun ls hl => ?_)
  refine lv_iload_n hx hb dX1_ahead_7 rfl (lv_at hl 0 rfl) ?_
  refine lv_if_ge (tgt := 13) hx hb dX1_ahead_8 (by decide) (fun c1 => ?_) (fun c1 => ?_)
  · have okc1 := m_askedTwo_ok S x1 x2 c1
    have hR : MR D d A a S H := okc1.1 ▸ hR
    have okc1_0 : 0 ≤ x1 ∧ x1 < 4 := okc1.2.1
    have okc1_1 : 0 ≤ x2 ∧ x2 < 4 := okc1.2.2
    refine lv_aload_n hx hb dX1_ahead_13 rfl (lv_at hl 1 rfl) ?_
    refine mg_a X hR 27 (by decide) (by decide) q1164 dX1_ahead_14 ?_
    refine lv_iload_n hx hb dX1_ahead_17 rfl (lv_at hl 2 rfl) ?_
    refine m_ld X hR ⟨by decide, rfl, by decide⟩ (ixl 4 4 (by decide) rfl (okc1_0)) (v := S.1 27 (Int32.toNatClampNeg x1)) rfl dX1_ahead_18 ?_
    refine lv_sipush (v := 1440) hx hb dX1_ahead_19 (by decide) ?_
    refine lv_iadd hx hb dX1_ahead_22 ?_
    refine lv_aload_n hx hb dX1_ahead_23 rfl (lv_at hl 1 rfl) ?_
    refine mg_a X hR 27 (by decide) (by decide) q1164 dX1_ahead_24 ?_
    refine lv_iload_n hx hb dX1_ahead_27 rfl (lv_at hl 3 rfl) ?_
    refine m_ld X hR ⟨by decide, rfl, by decide⟩ (ixl 4 4 (by decide) rfl (okc1_1)) (v := S.1 27 (Int32.toNatClampNeg x2)) rfl dX1_ahead_28 ?_
    refine lv_isub hx hb dX1_ahead_29 ?_
    refine lv_sipush (v := 1440) hx hb dX1_ahead_30 (by decide) ?_
    refine lv_irem hx hb dX1_ahead_33 (by decide) ?_
    refine lv_istore (lv' := [(4, .int (m_ahead_v34 S x1 x2)), (3, .int ((m_askedTwo S x1 x2).1)), (0, .ref (a 0)), (1, .int x1), (2, .int x2)]) hx hb dX1_ahead_34 hl (by decide) rfl (fun ls hl => ?_)
    refine lv_iload hx hb dX1_ahead_36 (lv_at hl 0 rfl) ?_
    refine lv_sipush (v := 720) hx hb dX1_ahead_38 (by decide) ?_
    refine lv_icmp_le (tgt := 53) hx hb dX1_ahead_41 (by decide) (fun c2 => ?_) (fun c2 => ?_)
    · refine lv_iload hx hb dX1_ahead_53 (lv_at hl 0 rfl) ?_
      exact m_ri hx hb hrt (rfl) hlk hR hS hQ (Eq.trans (if_pos c1) (if_pos c2)) dX1_ahead_55
    · refine lv_iload hx hb dX1_ahead_44 (lv_at hl 0 rfl) ?_
      refine lv_sipush (v := 1440) hx hb dX1_ahead_46 (by decide) ?_
      refine lv_isub hx hb dX1_ahead_49 ?_
      refine lv_goto (tgt := 55) hx hb dX1_ahead_50 (by decide) ?_
      exact m_ri hx hb hrt (rfl) hlk hR hS hQ (Eq.trans (if_pos c1) (if_neg c2)) dX1_ahead_55
  · refine lv_iload_n hx hb dX1_ahead_11 rfl (lv_at hl 0 rfl) ?_
    exact m_ri hx hb hrt (rfl) hlk hR hS hQ (if_neg c1) dX1_ahead_12
theorem ne_abs (b : Int64) (h : ¬ b = 0) : ¬ (if b ≤ 0 then -b else b) = 0 := by
  split
  · intro e; apply h; grind
  · exact h
def m_meet_v73 (S : MS) (x1 : Int32) (x2 : Int32) : Int64 := ((((Int32.toInt64 ((S.1 27 (Int32.toNatClampNeg x1)) - (S.1 27 (Int32.toNatClampNeg x2)))) * 86400) + (Int32.toInt64 (S.1 30 (Int32.toNatClampNeg x1)))) - (Int32.toInt64 (S.1 30 (Int32.toNatClampNeg x2))))
def m_meet_v86 (S : MS) (x1 : Int32) (x2 : Int32) : Int64 := ((((m_meet_v73 S x1 x2) - (m_meet_v73 S x1 x2) / 124416000 * 124416000) + 124416000) - (((m_meet_v73 S x1 x2) - (m_meet_v73 S x1 x2) / 124416000 * 124416000) + 124416000) / 124416000 * 124416000)
def m_meet_v102 (S : MS) (x1 : Int32) (x2 : Int32) : Int64 := (Int32.toInt64 ((S.1 28 (Int32.toNatClampNeg x1)) - (S.1 28 (Int32.toNatClampNeg x2))))
def m_meet_j149_s0 (S : MS) (x1 : Int32) (x2 : Int32) : Int64 := (if (m_meet_v102 S x1 x2) ≤ 0 then (m_meet_v86 S x1 x2) else (124416000 - (m_meet_v86 S x1 x2)))
def m_meet_j166_s0 (S : MS) (x1 : Int32) (x2 : Int32) : Int64 := (if (m_meet_v102 S x1 x2) ≤ 0 then (-(m_meet_v102 S x1 x2)) else (m_meet_v102 S x1 x2))
def m_meet (S : MS) (x1 : Int32) (x2 : Int32) : Int32 × MS := (if 0 ≤ (m_askedTwo S x1 x2).1 then (if (S.1 31 (Int32.toNatClampNeg x1)) = 0 then ((-4), S) else (if (S.1 31 (Int32.toNatClampNeg x2)) = 0 then ((-4), S) else (if (m_meet_v86 S x1 x2) = 0 then (if (m_meet_v86 S x1 x2) = 0 then (0, S) else ((-9), S)) else (if (m_meet_v102 S x1 x2) = 0 then (if (m_meet_v86 S x1 x2) = 0 then (0, S) else ((-9), S)) else ((Int64.toInt32 ((((m_meet_j149_s0 S x1 x2) + (m_meet_j166_s0 S x1 x2)) - 1) / (m_meet_j166_s0 S x1 x2))), S))))) else ((m_askedTwo S x1 x2).1, (m_askedTwo S x1 x2).2))
set_option maxHeartbeats 4000000 in
theorem mt_meet (l : Launch) (D : va_G) (d : Nat → ClassId) (A : Nat → Prop) (a : Nat → Nat) (S : MS) (x1 : Int32) (x2 : Int32) : MI l yX1_meet cX1_meet 14 .int (rm_ 3) D d A a S [.int x1, .int x2] (m_meet S x1 x2) := by
  refine m_startI rfl (Nat.le_of_ble_eq_true rfl) ?_
  intro p e s m av below meth c ls Q X hrt hlk hl hR hQ
  have hx := X.1.1
  have hb := X.1.2.1
  have hown := X.1.2.2.2.1
  have hts := X.1.2.2.2.2
  have hS : va_S A s.heap s.heap [] := va_S.rf
  have hl : lv_has ls 14 [(0, .ref (a 0)), (1, .int x1), (2, .int x2)] := hl
  refine lv_aload_n hx hb dX1_meet_0 rfl (lv_at hl 0 rfl) ?_
  refine lv_iload_n hx hb dX1_meet_1 rfl (lv_at hl 1 rfl) ?_
  refine lv_iload_n hx hb dX1_meet_2 rfl (lv_at hl 2 rfl) ?_
  refine m_ci X hR hS (mt_askedTwo l D d A a S x1 x2) 2 (lw_V q1558 q1560 qs46 q59 q1561) ⟨rfl, rfl⟩ (by decide +kernel) ⟨by decide, by decide⟩ ⟨by decide, by decide⟩ rfl hl.1 rfl (Nat.le_of_ble_eq_true rfl) dX1_meet_3 (fun H locs hR hS => ?_)
  refine lv_istore_n (lv' := [(3, .int ((m_askedTwo S x1 x2).1)), (0, .ref (a 0)), (1, .int x1), (2, .int x2)]) hx hb dX1_meet_6 rfl hl (by decide) rfl (fun ls hl => ?_)
  refine lv_iload_n hx hb dX1_meet_7 rfl (lv_at hl 0 rfl) ?_
  refine lv_if_ge (tgt := 13) hx hb dX1_meet_8 (by decide) (fun c1 => ?_) (fun c1 => ?_)
  · have okc1 := m_askedTwo_ok S x1 x2 c1
    have hR : MR D d A a S H := okc1.1 ▸ hR
    have okc1_0 : 0 ≤ x1 ∧ x1 < 4 := okc1.2.1
    have okc1_1 : 0 ≤ x2 ∧ x2 < 4 := okc1.2.2
    refine lv_aload_n hx hb dX1_meet_13 rfl (lv_at hl 1 rfl) ?_
    refine mg_a X hR 31 (by decide) (by decide) q1168 dX1_meet_14 ?_
    refine lv_iload_n hx hb dX1_meet_17 rfl (lv_at hl 2 rfl) ?_
    refine m_zld X hR ⟨by decide, rfl, by decide⟩ (ixl 4 4 (by decide) rfl (okc1_0)) (v := S.1 31 (Int32.toNatClampNeg x1)) rfl dX1_meet_18 ?_
    refine lv_if_eq (tgt := 31) hx hb dX1_meet_19 (by decide) (fun c2 => ?_) (fun c2 => ?_)
    · refine lv_bipush (v := (-4)) hx hb dX1_meet_31 (by decide) ?_
      exact m_ri hx hb hrt (rfl) hlk hR hS hQ (Eq.trans (if_pos c1) (if_pos c2)) dX1_meet_33
    · refine lv_aload_n hx hb dX1_meet_22 rfl (lv_at hl 1 rfl) ?_
      refine mg_a X hR 31 (by decide) (by decide) q1168 dX1_meet_23 ?_
      refine lv_iload_n hx hb dX1_meet_26 rfl (lv_at hl 3 rfl) ?_
      refine m_zld X hR ⟨by decide, rfl, by decide⟩ (ixl 4 4 (by decide) rfl (okc1_1)) (v := S.1 31 (Int32.toNatClampNeg x2)) rfl dX1_meet_27 ?_
      refine lv_if_ne (tgt := 34) hx hb dX1_meet_28 (by decide) (fun c3 => ?_) (fun c3 => ?_)
      · refine lv_ldc2 hx hb hown (hts _ q1566) dX1_meet_34 ?_
        refine lv_lstore (lv' := [(4, .long 124416000), (3, .int ((m_askedTwo S x1 x2).1)), (0, .ref (a 0)), (1, .int x1), (2, .int x2)]) hx hb dX1_meet_37 hl (by decide) rfl (fun ls hl => ?_)
        refine lv_aload_n hx hb dX1_meet_39 rfl (lv_at hl 2 rfl) ?_
        refine mg_a X hR 27 (by decide) (by decide) q1164 dX1_meet_40 ?_
        refine lv_iload_n hx hb dX1_meet_43 rfl (lv_at hl 3 rfl) ?_
        refine m_ld X hR ⟨by decide, rfl, by decide⟩ (ixl 4 4 (by decide) rfl (okc1_0)) (v := S.1 27 (Int32.toNatClampNeg x1)) rfl dX1_meet_44 ?_
        refine lv_aload_n hx hb dX1_meet_45 rfl (lv_at hl 2 rfl) ?_
        refine mg_a X hR 27 (by decide) (by decide) q1164 dX1_meet_46 ?_
        refine lv_iload_n hx hb dX1_meet_49 rfl (lv_at hl 4 rfl) ?_
        refine m_ld X hR ⟨by decide, rfl, by decide⟩ (ixl 4 4 (by decide) rfl (okc1_1)) (v := S.1 27 (Int32.toNatClampNeg x2)) rfl dX1_meet_50 ?_
        refine lv_isub hx hb dX1_meet_51 ?_
        refine lv_i2l hx hb dX1_meet_52 rfl ?_
        refine lv_ldc2 hx hb hown (hts _ q1567) dX1_meet_53 ?_
        refine lv_lmul hx hb dX1_meet_56 ?_
        refine lv_aload_n hx hb dX1_meet_57 rfl (lv_at hl 2 rfl) ?_
        refine mg_a X hR 30 (by decide) (by decide) q1167 dX1_meet_58 ?_
        refine lv_iload_n hx hb dX1_meet_61 rfl (lv_at hl 3 rfl) ?_
        refine m_ld X hR ⟨by decide, rfl, by decide⟩ (ixl 4 4 (by decide) rfl (okc1_0)) (v := S.1 30 (Int32.toNatClampNeg x1)) rfl dX1_meet_62 ?_
        refine lv_i2l hx hb dX1_meet_63 rfl ?_
        refine lv_ladd hx hb dX1_meet_64 ?_
        refine lv_aload_n hx hb dX1_meet_65 rfl (lv_at hl 2 rfl) ?_
        refine mg_a X hR 30 (by decide) (by decide) q1167 dX1_meet_66 ?_
        refine lv_iload_n hx hb dX1_meet_69 rfl (lv_at hl 4 rfl) ?_
        refine m_ld X hR ⟨by decide, rfl, by decide⟩ (ixl 4 4 (by decide) rfl (okc1_1)) (v := S.1 30 (Int32.toNatClampNeg x2)) rfl dX1_meet_70 ?_
        refine lv_i2l hx hb dX1_meet_71 rfl ?_
        refine lv_lsub hx hb dX1_meet_72 ?_
        refine lv_lstore (lv' := [(6, .long (m_meet_v73 S x1 x2)), (4, .long 124416000), (3, .int ((m_askedTwo S x1 x2).1)), (0, .ref (a 0)), (1, .int x1), (2, .int x2)]) hx hb dX1_meet_73 hl (by decide) rfl (fun ls hl => ?_)
        refine lv_lload hx hb dX1_meet_75 (lv_at hl 0 rfl) ?_
        refine lv_lload hx hb dX1_meet_77 (lv_at hl 1 rfl) ?_
        refine lv_lrem hx hb dX1_meet_79 (by decide) ?_
        refine lv_lload hx hb dX1_meet_80 (lv_at hl 1 rfl) ?_
        refine lv_ladd hx hb dX1_meet_82 ?_
        refine lv_lload hx hb dX1_meet_83 (lv_at hl 1 rfl) ?_
        refine lv_lrem hx hb dX1_meet_85 (by decide) ?_
        refine lv_lstore (lv' := [(6, .long (m_meet_v86 S x1 x2)), (4, .long 124416000), (3, .int ((m_askedTwo S x1 x2).1)), (0, .ref (a 0)), (1, .int x1), (2, .int x2)]) hx hb dX1_meet_86 hl (by decide) rfl (fun ls hl => ?_)
        refine lv_aload_n hx hb dX1_meet_88 rfl (lv_at hl 3 rfl) ?_
        refine mg_a X hR 28 (by decide) (by decide) q1165 dX1_meet_89 ?_
        refine lv_iload_n hx hb dX1_meet_92 rfl (lv_at hl 4 rfl) ?_
        refine m_ld X hR ⟨by decide, rfl, by decide⟩ (ixl 4 4 (by decide) rfl (okc1_0)) (v := S.1 28 (Int32.toNatClampNeg x1)) rfl dX1_meet_93 ?_
        refine lv_aload_n hx hb dX1_meet_94 rfl (lv_at hl 3 rfl) ?_
        refine mg_a X hR 28 (by decide) (by decide) q1165 dX1_meet_95 ?_
        refine lv_iload_n hx hb dX1_meet_98 rfl (lv_at hl 5 rfl) ?_
        refine m_ld X hR ⟨by decide, rfl, by decide⟩ (ixl 4 4 (by decide) rfl (okc1_1)) (v := S.1 28 (Int32.toNatClampNeg x2)) rfl dX1_meet_99 ?_
        refine lv_isub hx hb dX1_meet_100 ?_
        refine lv_i2l hx hb dX1_meet_101 rfl ?_
        refine lv_lstore (lv' := [(8, .long (m_meet_v102 S x1 x2)), (6, .long (m_meet_v86 S x1 x2)), (4, .long 124416000), (3, .int ((m_askedTwo S x1 x2).1)), (0, .ref (a 0)), (1, .int x1), (2, .int x2)]) hx hb dX1_meet_102 hl (by decide) rfl (fun ls hl => ?_)
        refine lv_lload hx hb dX1_meet_104 (lv_at hl 1 rfl) ?_
        refine lv_lconst (v := 0) hx hb dX1_meet_106 (by decide) ?_
        refine hl_eq (tgt := 118) hx hb dX1_meet_107 dX1_meet_108 (by decide) (fun c4 => ?_) (fun c4 => ?_)
        · refine lv_lload hx hb dX1_meet_118 (lv_at hl 1 rfl) ?_
          refine lv_lconst (v := 0) hx hb dX1_meet_120 (by decide) ?_
          refine hl_ne (tgt := 129) hx hb dX1_meet_121 dX1_meet_122 (by decide) (fun c5 => ?_) (fun c5 => ?_)
          · refine lv_bipush (v := (-9)) hx hb dX1_meet_129 (by decide) ?_
            exact m_ri hx hb hrt (rfl) hlk hR hS hQ (Eq.trans (if_pos c1) (Eq.trans (if_neg c2) (Eq.trans (if_neg c3) (Eq.trans (if_pos c4) (if_neg c5))))) dX1_meet_131
          · refine lv_iconst (v := 0) hx hb dX1_meet_125 (by decide) ?_
            refine lv_goto (tgt := 131) hx hb dX1_meet_126 (by decide) ?_
            exact m_ri hx hb hrt (rfl) hlk hR hS hQ (Eq.trans (if_pos c1) (Eq.trans (if_neg c2) (Eq.trans (if_neg c3) (Eq.trans (if_pos c4) (if_pos c5))))) dX1_meet_131
        · refine lv_lload hx hb dX1_meet_111 (lv_at hl 0 rfl) ?_
          refine lv_lconst (v := 0) hx hb dX1_meet_113 (by decide) ?_
          refine hl_ne (tgt := 132) hx hb dX1_meet_114 dX1_meet_115 (by decide) (fun c6 => ?_) (fun c6 => ?_)
          · refine lv_lload hx hb dX1_meet_132 (lv_at hl 0 rfl) ?_
            refine lv_lconst (v := 0) hx hb dX1_meet_134 (by decide) ?_
            have J9 : ∀ (w8 : Int64) (H : Heap) (locs : List Loc) (ls : Array Slot), w8 = (m_meet_j149_s0 S x1 x2) → MR D d A a S H → va_S A s.heap H locs → lv_has ls 14 [(8, .long (m_meet_v102 S x1 x2)), (6, .long (m_meet_v86 S x1 x2)), (4, .long 124416000), (3, .int ((m_askedTwo S x1 x2).1)), (0, .ref (a 0)), (1, .int x1), (2, .int x2)] → W p l e (rm_ 3) s m av below meth c H locs 0 0 Q (F0 m 149 ls [.long w8]) := by
              intro w8 H locs ls ew8 hR hS hl
              subst ew8
              refine lv_lstore (lv' := [(10, .long (m_meet_j149_s0 S x1 x2)), (8, .long (m_meet_v102 S x1 x2)), (6, .long (m_meet_v86 S x1 x2)), (4, .long 124416000), (3, .int ((m_askedTwo S x1 x2).1)), (0, .ref (a 0)), (1, .int x1), (2, .int x2)]) hx hb dX1_meet_149 hl (by decide) rfl (fun ls hl => ?_)
              refine lv_lload hx hb dX1_meet_151 (lv_at hl 1 rfl) ?_
              refine lv_lconst (v := 0) hx hb dX1_meet_153 (by decide) ?_
              have J12 : ∀ (w11 : Int64) (H : Heap) (locs : List Loc) (ls : Array Slot), w11 = (m_meet_j166_s0 S x1 x2) → MR D d A a S H → va_S A s.heap H locs → lv_has ls 14 [(10, .long (m_meet_j149_s0 S x1 x2)), (8, .long (m_meet_v102 S x1 x2)), (6, .long (m_meet_v86 S x1 x2)), (4, .long 124416000), (3, .int ((m_askedTwo S x1 x2).1)), (0, .ref (a 0)), (1, .int x1), (2, .int x2)] → W p l e (rm_ 3) s m av below meth c H locs 0 0 Q (F0 m 166 ls [.long w11]) := by
                intro w11 H locs ls ew11 hR hS hl
                subst ew11
                refine lv_lstore (lv' := [(12, .long (m_meet_j166_s0 S x1 x2)), (10, .long (m_meet_j149_s0 S x1 x2)), (8, .long (m_meet_v102 S x1 x2)), (6, .long (m_meet_v86 S x1 x2)), (4, .long 124416000), (3, .int ((m_askedTwo S x1 x2).1)), (0, .ref (a 0)), (1, .int x1), (2, .int x2)]) hx hb dX1_meet_166 hl (by decide) rfl (fun ls hl => ?_)
                refine lv_lload hx hb dX1_meet_168 (lv_at hl 1 rfl) ?_
                refine lv_lload hx hb dX1_meet_170 (lv_at hl 0 rfl) ?_
                refine lv_ladd hx hb dX1_meet_172 ?_
                refine lv_lconst (v := 1) hx hb dX1_meet_173 (by decide) ?_
                refine lv_lsub hx hb dX1_meet_174 ?_
                refine lv_lload hx hb dX1_meet_175 (lv_at hl 0 rfl) ?_
                refine lv_ldiv hx hb dX1_meet_177 (ne_abs _ (by assumption)) ?_
                refine lv_l2i hx hb dX1_meet_178 rfl ?_
                exact m_ri hx hb hrt (rfl) hlk hR hS hQ (Eq.trans (if_pos c1) (Eq.trans (if_neg c2) (Eq.trans (if_neg c3) (Eq.trans (if_neg c4) (if_neg c6))))) dX1_meet_179
              refine hl_le (tgt := 163) hx hb dX1_meet_154 dX1_meet_155 (by decide) (fun c10 => ?_) (fun c10 => ?_)
              · refine lv_lload hx hb dX1_meet_163 (lv_at hl 1 rfl) ?_
                refine lv_lneg hx hb dX1_meet_165 ?_
                exact J12 _ _ _  _ (Eq.symm (if_pos c10)) hR hS  (lv_sub hl [0, 1, 2, 3, 4, 5, 6, 7] rfl)
              · refine lv_lload hx hb dX1_meet_158 (lv_at hl 1 rfl) ?_
                refine lv_goto (tgt := 166) hx hb dX1_meet_160 (by decide) ?_
                exact J12 _ _ _  _ (Eq.symm (if_neg c10)) hR hS  (lv_sub hl [0, 1, 2, 3, 4, 5, 6, 7] rfl)
            refine hl_le (tgt := 147) hx hb dX1_meet_135 dX1_meet_136 (by decide) (fun c7 => ?_) (fun c7 => ?_)
            · refine lv_lload hx hb dX1_meet_147 (lv_at hl 1 rfl) ?_
              exact J9 _ _ _  _ (Eq.symm (if_pos c7)) hR hS  (lv_sub hl [0, 1, 2, 3, 4, 5, 6] rfl)
            · refine lv_lload hx hb dX1_meet_139 (lv_at hl 2 rfl) ?_
              refine lv_lload hx hb dX1_meet_141 (lv_at hl 1 rfl) ?_
              refine lv_lsub hx hb dX1_meet_143 ?_
              refine lv_goto (tgt := 149) hx hb dX1_meet_144 (by decide) ?_
              exact J9 _ _ _  _ (Eq.symm (if_neg c7)) hR hS  (lv_sub hl [0, 1, 2, 3, 4, 5, 6] rfl)
          · refine lv_lload hx hb dX1_meet_118 (lv_at hl 1 rfl) ?_
            refine lv_lconst (v := 0) hx hb dX1_meet_120 (by decide) ?_
            refine hl_ne (tgt := 129) hx hb dX1_meet_121 dX1_meet_122 (by decide) (fun c13 => ?_) (fun c13 => ?_)
            · refine lv_bipush (v := (-9)) hx hb dX1_meet_129 (by decide) ?_
              exact m_ri hx hb hrt (rfl) hlk hR hS hQ (Eq.trans (if_pos c1) (Eq.trans (if_neg c2) (Eq.trans (if_neg c3) (Eq.trans (if_neg c4) (Eq.trans (if_pos c6) (if_neg c13)))))) dX1_meet_131
            · refine lv_iconst (v := 0) hx hb dX1_meet_125 (by decide) ?_
              refine lv_goto (tgt := 131) hx hb dX1_meet_126 (by decide) ?_
              exact m_ri hx hb hrt (rfl) hlk hR hS hQ (Eq.trans (if_pos c1) (Eq.trans (if_neg c2) (Eq.trans (if_neg c3) (Eq.trans (if_neg c4) (Eq.trans (if_pos c6) (if_pos c13)))))) dX1_meet_131
      · refine lv_bipush (v := (-4)) hx hb dX1_meet_31 (by decide) ?_
        exact m_ri hx hb hrt (rfl) hlk hR hS hQ (Eq.trans (if_pos c1) (Eq.trans (if_neg c2) (if_pos c3))) dX1_meet_33
  · refine lv_iload_n hx hb dX1_meet_11 rfl (lv_at hl 0 rfl) ?_
    exact m_ri hx hb hrt (rfl) hlk hR hS hQ (if_neg c1) dX1_meet_12
theorem m_rightNotch_o1 (S : MS) (x1 : Int32) (x2 : Int32) (ht : 0 ≤ x1 ∧ x1 < 4) (hg : 0 ≤ S.1 35 (Int32.toNatClampNeg (m_placeOf x1 x2))) (hI : MInv S) (hk : 1 ≤ S.1 12 (Int32.toNatClampNeg (S.1 35 (Int32.toNatClampNeg (m_placeOf x1 x2))))) (hpl : 0 ≤ x1 ∧ x1 < 4 → 0 ≤ (m_placeOf x1 x2) ∧ (m_placeOf x1 x2) < 8) (hhl : 0 ≤ x1 ∧ x1 < 4 → S.1 35 (Int32.toNatClampNeg (m_placeOf x1 x2)) < 16) : 0 ≤ (m_placeOf x1 x2) ∧ (m_placeOf x1 x2) < 8 := by 
  clear hI
  try simp only [i_le, i_lt, i_eq, Int32.reduceToInt] at *
  try simp only [Int32.reduceToInt] at *
  omega
def m_rightNotch_v10 (S : MS) (x1 : Int32) (x2 : Int32) : Int32 := (S.1 35 (Int32.toNatClampNeg (m_placeOf x1 x2)))
theorem m_rightNotch_o3 (S : MS) (x1 : Int32) (x2 : Int32) (ht : 0 ≤ x1 ∧ x1 < 4) (hg : 0 ≤ S.1 35 (Int32.toNatClampNeg (m_placeOf x1 x2))) (hI : MInv S) (hk : 1 ≤ S.1 12 (Int32.toNatClampNeg (S.1 35 (Int32.toNatClampNeg (m_placeOf x1 x2))))) (hpl : 0 ≤ x1 ∧ x1 < 4 → 0 ≤ (m_placeOf x1 x2) ∧ (m_placeOf x1 x2) < 8) (hhl : 0 ≤ x1 ∧ x1 < 4 → S.1 35 (Int32.toNatClampNeg (m_placeOf x1 x2)) < 16) (c2 : x2 = 0) : 0 ≤ (m_rightNotch_v10 S x1 x2) ∧ (m_rightNotch_v10 S x1 x2) < 16 := by 
  clear hI
  try simp only [m_rightNotch_v10] at *
  try simp only [i_le, i_lt, i_eq, Int32.reduceToInt] at *
  try simp only [Int32.reduceToInt] at *
  omega
theorem m_rightNotch_o4 (S : MS) (x1 : Int32) (x2 : Int32) (ht : 0 ≤ x1 ∧ x1 < 4) (hg : 0 ≤ S.1 35 (Int32.toNatClampNeg (m_placeOf x1 x2))) (hI : MInv S) (hk : 1 ≤ S.1 12 (Int32.toNatClampNeg (S.1 35 (Int32.toNatClampNeg (m_placeOf x1 x2))))) (hpl : 0 ≤ x1 ∧ x1 < 4 → 0 ≤ (m_placeOf x1 x2) ∧ (m_placeOf x1 x2) < 8) (hhl : 0 ≤ x1 ∧ x1 < 4 → S.1 35 (Int32.toNatClampNeg (m_placeOf x1 x2)) < 16) (c2 : x2 = 0) : ¬ (S.1 12 (Int32.toNatClampNeg (m_rightNotch_v10 S x1 x2))) = 0 := by 
  clear hI
  try simp only [m_rightNotch_v10] at *
  try simp only [i_le, i_lt, i_eq, Int32.reduceToInt] at *
  try simp only [Int32.reduceToInt] at *
  omega
theorem m_rightNotch_o5 (S : MS) (x1 : Int32) (x2 : Int32) (ht : 0 ≤ x1 ∧ x1 < 4) (hg : 0 ≤ S.1 35 (Int32.toNatClampNeg (m_placeOf x1 x2))) (hI : MInv S) (hk : 1 ≤ S.1 12 (Int32.toNatClampNeg (S.1 35 (Int32.toNatClampNeg (m_placeOf x1 x2))))) (hpl : 0 ≤ x1 ∧ x1 < 4 → 0 ≤ (m_placeOf x1 x2) ∧ (m_placeOf x1 x2) < 8) (hhl : 0 ≤ x1 ∧ x1 < 4 → S.1 35 (Int32.toNatClampNeg (m_placeOf x1 x2)) < 16) (c2 : ¬ x2 = 0) : 0 ≤ (m_rightNotch_v10 S x1 x2) ∧ (m_rightNotch_v10 S x1 x2) < 16 := by 
  clear hI
  try simp only [m_rightNotch_v10] at *
  try simp only [i_le, i_lt, i_eq, Int32.reduceToInt] at *
  try simp only [Int32.reduceToInt] at *
  omega
theorem m_rightNotch_o6 (S : MS) (x1 : Int32) (x2 : Int32) (ht : 0 ≤ x1 ∧ x1 < 4) (hg : 0 ≤ S.1 35 (Int32.toNatClampNeg (m_placeOf x1 x2))) (hI : MInv S) (hk : 1 ≤ S.1 12 (Int32.toNatClampNeg (S.1 35 (Int32.toNatClampNeg (m_placeOf x1 x2))))) (hpl : 0 ≤ x1 ∧ x1 < 4 → 0 ≤ (m_placeOf x1 x2) ∧ (m_placeOf x1 x2) < 8) (hhl : 0 ≤ x1 ∧ x1 < 4 → S.1 35 (Int32.toNatClampNeg (m_placeOf x1 x2)) < 16) (c2 : ¬ x2 = 0) : ¬ (S.1 12 (Int32.toNatClampNeg (m_rightNotch_v10 S x1 x2))) = 0 := by 
  clear hI
  try simp only [m_rightNotch_v10] at *
  try simp only [i_le, i_lt, i_eq, Int32.reduceToInt] at *
  try simp only [Int32.reduceToInt] at *
  omega
def m_rightNotch (S : MS) (x1 : Int32) (x2 : Int32) : Int32 := (if x2 = 0 then (((m_nextHour S x1) - 1) - ((m_nextHour S x1) - 1) / (S.1 12 (Int32.toNatClampNeg (m_rightNotch_v10 S x1 x2))) * (S.1 12 (Int32.toNatClampNeg (m_rightNotch_v10 S x1 x2)))) else ((((S.1 27 (Int32.toNatClampNeg x1)) - (S.1 27 (Int32.toNatClampNeg x1)) / 60 * 60) / 15) - (((S.1 27 (Int32.toNatClampNeg x1)) - (S.1 27 (Int32.toNatClampNeg x1)) / 60 * 60) / 15) / (S.1 12 (Int32.toNatClampNeg (m_rightNotch_v10 S x1 x2))) * (S.1 12 (Int32.toNatClampNeg (m_rightNotch_v10 S x1 x2)))))
set_option maxHeartbeats 4000000 in
theorem mt_rightNotch (l : Launch) (D : va_G) (d : Nat → ClassId) (A : Nat → Prop) (a : Nat → Nat) (S : MS) (x1 : Int32) (x2 : Int32) (ht : 0 ≤ x1 ∧ x1 < 4) (hg : 0 ≤ S.1 35 (Int32.toNatClampNeg (m_placeOf x1 x2))) (hI : MInv S) (hk : 1 ≤ S.1 12 (Int32.toNatClampNeg (S.1 35 (Int32.toNatClampNeg (m_placeOf x1 x2))))) : MI l yX1_rightNotch cX1_rightNotch 4 .int (rm_ 2) D d A a S [.int x1, .int x2] ((m_rightNotch S x1 x2), S) := by
  refine m_startI rfl (Nat.le_of_ble_eq_true rfl) ?_
  intro p e s m av below meth c ls Q X hrt hlk hl hR hQ
  have hx := X.1.1
  have hb := X.1.2.1
  have hown := X.1.2.2.2.1
  have hts := X.1.2.2.2.2
  have hS : va_S A s.heap s.heap [] := va_S.rf
  have hl : lv_has ls 4 [(0, .ref (a 0)), (1, .int x1), (2, .int x2)] := hl
  have hpl : 0 ≤ x1 ∧ x1 < 4 → 0 ≤ (m_placeOf x1 x2) ∧ (m_placeOf x1 x2) < 8 := m_placeOf_ok
  have hhl : 0 ≤ x1 ∧ x1 < 4 → S.1 35 (Int32.toNatClampNeg (m_placeOf x1 x2)) < 16 := fun h => mi_hl hI (m_placeOf_ok h)
  refine lv_aload_n hx hb dX1_rightNotch_0 rfl (lv_at hl 0 rfl) ?_
  refine mg_a X hR 35 (by decide) (by decide) q1172 dX1_rightNotch_1 ?_
  refine lv_iload_n hx hb dX1_rightNotch_4 rfl (lv_at hl 1 rfl) ?_
  refine lv_iload_n hx hb dX1_rightNotch_5 rfl (lv_at hl 2 rfl) ?_
  refine s_ci X.1 (st_m_placeOf l x1 x2) 2 (lw_S q1441 q1442 q59 q1443) ⟨rfl, rfl⟩ (by decide +kernel) ⟨by decide, by decide⟩ ⟨by decide, by decide⟩ rfl hl.1 rfl (Nat.le_of_ble_eq_true rfl) dX1_rightNotch_6 ?_
  refine m_ld X hR ⟨by decide, rfl, by decide⟩ (ixl 8 8 (by decide) rfl (m_rightNotch_o1 S x1 x2 ht hg hI hk hpl hhl)) (v := S.1 35 (Int32.toNatClampNeg (m_placeOf x1 x2))) rfl dX1_rightNotch_9 ?_
  refine lv_istore_n (lv' := [(3, .int (m_rightNotch_v10 S x1 x2)), (0, .ref (a 0)), (1, .int x1), (2, .int x2)]) hx hb dX1_rightNotch_10 rfl hl (by decide) rfl (fun ls hl => ?_)
  refine lv_iload_n hx hb dX1_rightNotch_11 rfl (lv_at hl 3 rfl) ?_
  refine lv_if_eq (tgt := 37) hx hb dX1_rightNotch_12 (by decide) (fun c2 => ?_) (fun c2 => ?_)
  · refine lv_aload_n hx hb dX1_rightNotch_37 rfl (lv_at hl 1 rfl) ?_
    refine lv_iload_n hx hb dX1_rightNotch_38 rfl (lv_at hl 2 rfl) ?_
    refine m_cr X hR hS (mt_nextHour l D d A a S x1 (ht)) 1 (lw_V q1580 q1582 qs49 q59 q1583) ⟨rfl, rfl⟩ (by decide +kernel) ⟨by decide, by decide⟩ ⟨by decide, by decide⟩ rfl hl.1 rfl (Nat.le_of_ble_eq_true rfl) dX1_rightNotch_39 (fun H locs hR hS => ?_)
    refine lv_iconst (v := 1) hx hb dX1_rightNotch_42 (by decide) ?_
    refine lv_isub hx hb dX1_rightNotch_43 ?_
    refine lv_aload_n hx hb dX1_rightNotch_44 rfl (lv_at hl 1 rfl) ?_
    refine mg_a X hR 12 (by decide) (by decide) q1149 dX1_rightNotch_45 ?_
    refine lv_iload_n hx hb dX1_rightNotch_48 rfl (lv_at hl 0 rfl) ?_
    refine m_ld X hR ⟨by decide, rfl, by decide⟩ (ixl 16 16 (by decide) rfl (m_rightNotch_o3 S x1 x2 ht hg hI hk hpl hhl c2)) (v := S.1 12 (Int32.toNatClampNeg (m_rightNotch_v10 S x1 x2))) rfl dX1_rightNotch_49 ?_
    refine lv_irem hx hb dX1_rightNotch_50 (m_rightNotch_o4 S x1 x2 ht hg hI hk hpl hhl c2) ?_
    exact m_ri hx hb hrt (rfl) hlk hR hS hQ (hF1 (if_pos c2)) dX1_rightNotch_51
  · refine lv_aload_n hx hb dX1_rightNotch_15 rfl (lv_at hl 1 rfl) ?_
    refine mg_a X hR 27 (by decide) (by decide) q1164 dX1_rightNotch_16 ?_
    refine lv_iload_n hx hb dX1_rightNotch_19 rfl (lv_at hl 2 rfl) ?_
    refine m_ld X hR ⟨by decide, rfl, by decide⟩ (ixl 4 4 (by decide) rfl (ht)) (v := S.1 27 (Int32.toNatClampNeg x1)) rfl dX1_rightNotch_20 ?_
    refine lv_bipush (v := 60) hx hb dX1_rightNotch_21 (by decide) ?_
    refine lv_irem hx hb dX1_rightNotch_23 (by decide) ?_
    refine lv_bipush (v := 15) hx hb dX1_rightNotch_24 (by decide) ?_
    refine lv_idiv hx hb dX1_rightNotch_26 (by decide) ?_
    refine lv_aload_n hx hb dX1_rightNotch_27 rfl (lv_at hl 1 rfl) ?_
    refine mg_a X hR 12 (by decide) (by decide) q1149 dX1_rightNotch_28 ?_
    refine lv_iload_n hx hb dX1_rightNotch_31 rfl (lv_at hl 0 rfl) ?_
    refine m_ld X hR ⟨by decide, rfl, by decide⟩ (ixl 16 16 (by decide) rfl (m_rightNotch_o5 S x1 x2 ht hg hI hk hpl hhl c2)) (v := S.1 12 (Int32.toNatClampNeg (m_rightNotch_v10 S x1 x2))) rfl dX1_rightNotch_32 ?_
    refine lv_irem hx hb dX1_rightNotch_33 (m_rightNotch_o6 S x1 x2 ht hg hI hk hpl hhl c2) ?_
    refine lv_goto (tgt := 51) hx hb dX1_rightNotch_34 (by decide) ?_
    exact m_ri hx hb hrt (rfl) hlk hR hS hQ (hF1 (if_neg c2)) dX1_rightNotch_51
theorem m_askedPlate_o2 (S : MS) (x1 : Int32) (x2 : Int32) (hI : MInv S) (hpl : 0 ≤ x1 ∧ x1 < 4 → 0 ≤ (m_placeOf x1 x2) ∧ (m_placeOf x1 x2) < 8) (hhl : 0 ≤ x1 ∧ x1 < 4 → S.1 35 (Int32.toNatClampNeg (m_placeOf x1 x2)) < 16) (c1 : 0 ≤ (m_askedPlace S x1 x2).1) (okc1_0 : 0 ≤ x1 ∧ x1 < 4) (okc1_1 : 0 ≤ S.1 35 (Int32.toNatClampNeg (m_placeOf x1 x2))) : 0 ≤ (m_placeOf x1 x2) ∧ (m_placeOf x1 x2) < 8 := by 
  clear hI
  try simp only [i_le, i_lt, i_eq, Int32.reduceToInt] at *
  try simp only [Int32.reduceToInt] at *
  omega
theorem m_askedPlate_o3 (S : MS) (x1 : Int32) (x2 : Int32) (hI : MInv S) (hpl : 0 ≤ x1 ∧ x1 < 4 → 0 ≤ (m_placeOf x1 x2) ∧ (m_placeOf x1 x2) < 8) (hhl : 0 ≤ x1 ∧ x1 < 4 → S.1 35 (Int32.toNatClampNeg (m_placeOf x1 x2)) < 16) (c1 : 0 ≤ (m_askedPlace S x1 x2).1) (okc1_0 : 0 ≤ x1 ∧ x1 < 4) (okc1_1 : 0 ≤ S.1 35 (Int32.toNatClampNeg (m_placeOf x1 x2))) : 0 ≤ (S.1 35 (Int32.toNatClampNeg (m_placeOf x1 x2))) ∧ (S.1 35 (Int32.toNatClampNeg (m_placeOf x1 x2))) < 16 := by 
  clear hI
  try simp only [i_le, i_lt, i_eq, Int32.reduceToInt] at *
  try simp only [Int32.reduceToInt] at *
  omega
def m_askedPlate (S : MS) (x1 : Int32) (x2 : Int32) : Int32 × MS := (if 0 ≤ (m_askedPlace S x1 x2).1 then (if (m_isPlate S (S.1 35 (Int32.toNatClampNeg (m_placeOf x1 x2)))) = 0 then ((m_meets S 3).1, (m_meets S 3).2) else (0, S)) else ((m_askedPlace S x1 x2).1, (m_askedPlace S x1 x2).2))
set_option maxHeartbeats 4000000 in
theorem mt_askedPlate (l : Launch) (D : va_G) (d : Nat → ClassId) (A : Nat → Prop) (a : Nat → Nat) (S : MS) (x1 : Int32) (x2 : Int32) (hI : MInv S) : MI l yX1_askedPlate cX1_askedPlate 4 .int (rm_ 4) D d A a S [.int x1, .int x2] (m_askedPlate S x1 x2) := by
  refine m_startI rfl (Nat.le_of_ble_eq_true rfl) ?_
  intro p e s m av below meth c ls Q X hrt hlk hl hR hQ
  have hx := X.1.1
  have hb := X.1.2.1
  have hown := X.1.2.2.2.1
  have hts := X.1.2.2.2.2
  have hS : va_S A s.heap s.heap [] := va_S.rf
  have hl : lv_has ls 4 [(0, .ref (a 0)), (1, .int x1), (2, .int x2)] := hl
  have hpl : 0 ≤ x1 ∧ x1 < 4 → 0 ≤ (m_placeOf x1 x2) ∧ (m_placeOf x1 x2) < 8 := m_placeOf_ok
  have hhl : 0 ≤ x1 ∧ x1 < 4 → S.1 35 (Int32.toNatClampNeg (m_placeOf x1 x2)) < 16 := fun h => mi_hl hI (m_placeOf_ok h)
  refine lv_aload_n hx hb dX1_askedPlate_0 rfl (lv_at hl 0 rfl) ?_
  refine lv_iload_n hx hb dX1_askedPlate_1 rfl (lv_at hl 1 rfl) ?_
  refine lv_iload_n hx hb dX1_askedPlate_2 rfl (lv_at hl 2 rfl) ?_
  refine m_ci X hR hS (mt_askedPlace l D d A a S x1 x2) 2 (lw_V q1448 q1450 qs34 q59 q1451) ⟨rfl, rfl⟩ (by decide +kernel) ⟨by decide, by decide⟩ ⟨by decide, by decide⟩ rfl hl.1 rfl (Nat.le_of_ble_eq_true rfl) dX1_askedPlate_3 (fun H locs hR hS => ?_)
  refine lv_istore_n (lv' := [(3, .int ((m_askedPlace S x1 x2).1)), (0, .ref (a 0)), (1, .int x1), (2, .int x2)]) hx hb dX1_askedPlate_6 rfl hl (by decide) rfl (fun ls hl => ?_)
  refine lv_iload_n hx hb dX1_askedPlate_7 rfl (lv_at hl 0 rfl) ?_
  refine lv_if_ge (tgt := 15) hx hb dX1_askedPlate_8 (by decide) (fun c1 => ?_) (fun c1 => ?_)
  · have okc1 := m_askedPlace_ok S x1 x2 c1
    have hR : MR D d A a S H := okc1.1 ▸ hR
    have okc1_0 : 0 ≤ x1 ∧ x1 < 4 := okc1.2.1
    have okc1_1 : 0 ≤ S.1 35 (Int32.toNatClampNeg (m_placeOf x1 x2)) := okc1.2.2.2
    refine lv_aload_n hx hb dX1_askedPlate_15 rfl (lv_at hl 1 rfl) ?_
    refine lv_aload_n hx hb dX1_askedPlate_16 rfl (lv_at hl 1 rfl) ?_
    refine mg_a X hR 35 (by decide) (by decide) q1172 dX1_askedPlate_17 ?_
    refine lv_iload_n hx hb dX1_askedPlate_20 rfl (lv_at hl 2 rfl) ?_
    refine lv_iload_n hx hb dX1_askedPlate_21 rfl (lv_at hl 3 rfl) ?_
    refine s_ci X.1 (st_m_placeOf l x1 x2) 2 (lw_S q1441 q1442 q59 q1443) ⟨rfl, rfl⟩ (by decide +kernel) ⟨by decide, by decide⟩ ⟨by decide, by decide⟩ rfl hl.1 rfl (Nat.le_of_ble_eq_true rfl) dX1_askedPlate_22 ?_
    refine m_ld X hR ⟨by decide, rfl, by decide⟩ (ixl 8 8 (by decide) rfl (m_askedPlate_o2 S x1 x2 hI hpl hhl c1 okc1_0 okc1_1)) (v := S.1 35 (Int32.toNatClampNeg (m_placeOf x1 x2))) rfl dX1_askedPlate_25 ?_
    refine m_cr X hR hS (mt_isPlate l D d A a S (S.1 35 (Int32.toNatClampNeg (m_placeOf x1 x2))) (m_askedPlate_o3 S x1 x2 hI hpl hhl c1 okc1_0 okc1_1)) 1 (lw_V q1394 q1396 qs30 q59 q1397) ⟨rfl, rfl⟩ (by decide +kernel) ⟨by decide, by decide⟩ ⟨by decide, by decide⟩ rfl hl.1 rfl (Nat.le_of_ble_eq_true rfl) dX1_askedPlate_26 (fun H locs hR hS => ?_)
    refine lv_if_eq (tgt := 36) hx hb dX1_askedPlate_29 (by decide) (fun c4 => ?_) (fun c4 => ?_)
    · refine lv_aload_n hx hb dX1_askedPlate_36 rfl (lv_at hl 1 rfl) ?_
      refine lv_iconst (v := 3) hx hb dX1_askedPlate_37 (by decide) ?_
      refine m_ci X hR hS (mt_meets l D d A a S 3 (by decide)) 1 (lw_V q1317 q1319 qs22 q59 q1320) ⟨rfl, rfl⟩ (by decide +kernel) ⟨by decide, by decide⟩ ⟨by decide, by decide⟩ rfl hl.1 rfl (Nat.le_of_ble_eq_true rfl) dX1_askedPlate_38 (fun H locs hR hS => ?_)
      exact m_ri hx hb hrt (rfl) hlk hR hS hQ (Eq.trans (if_pos c1) (if_pos c4)) dX1_askedPlate_41
    · refine lv_iconst (v := 0) hx hb dX1_askedPlate_32 (by decide) ?_
      refine lv_goto (tgt := 41) hx hb dX1_askedPlate_33 (by decide) ?_
      exact m_ri hx hb hrt (rfl) hlk hR hS hQ (Eq.trans (if_pos c1) (if_neg c4)) dX1_askedPlate_41
  · refine lv_iload_n hx hb dX1_askedPlate_11 rfl (lv_at hl 0 rfl) ?_
    refine lv_goto (tgt := 41) hx hb dX1_askedPlate_12 (by decide) ?_
    exact m_ri hx hb hrt (rfl) hlk hR hS hQ (if_neg c1) dX1_askedPlate_41
theorem m_askedPlate_ok (S : MS) (x1 x2 : Int32) (hI : MInv S) (c : 0 ≤ (m_askedPlate S x1 x2).1) : (m_askedPlate S x1 x2).2 = S ∧ (0 ≤ x1 ∧ x1 < 4) ∧ (0 ≤ S.1 35 (Int32.toNatClampNeg (m_placeOf x1 x2)) ∧ S.1 35 (Int32.toNatClampNeg (m_placeOf x1 x2)) < 16) ∧ 1 ≤ S.1 12 (Int32.toNatClampNeg (S.1 35 (Int32.toNatClampNeg (m_placeOf x1 x2)))) := by
  unfold m_askedPlate at c ⊢
  split
  · rename_i h
    rw [if_pos h] at c
    have ok := m_askedPlace_ok S x1 x2 h
    have hn : 0 ≤ S.1 35 (Int32.toNatClampNeg (m_placeOf x1 x2)) ∧ S.1 35 (Int32.toNatClampNeg (m_placeOf x1 x2)) < 16 := ⟨ok.2.2.2, mi_hl hI (m_placeOf_ok ok.2.1)⟩
    split
    · rename_i h2; rw [if_pos h2] at c; exact absurd (show (0 : Int32) ≤ -3 from c) (by decide)
    · rename_i h2
      refine ⟨rfl, ok.2.1, hn, ?_⟩
      refine ((mi_n hI hn).2.2.2.2.1).resolve_left (fun e => h2 ?_)
      unfold m_isPlate
      rw [e]
      rfl
  · rename_i h
    rw [if_neg h] at c
    exact absurd c h
theorem m_right_o2 (S : MS) (x1 : Int32) (x2 : Int32) (hI : MInv S) (hpl : 0 ≤ x1 ∧ x1 < 4 → 0 ≤ (m_placeOf x1 x2) ∧ (m_placeOf x1 x2) < 8) (c1 : 0 ≤ (m_askedPlate S x1 x2).1) (okc1_0 : 0 ≤ x1 ∧ x1 < 4) (okc1_1 : 0 ≤ S.1 35 (Int32.toNatClampNeg (m_placeOf x1 x2))) (okc1_2 : S.1 35 (Int32.toNatClampNeg (m_placeOf x1 x2)) < 16) (okc1_3 : 1 ≤ S.1 12 (Int32.toNatClampNeg (S.1 35 (Int32.toNatClampNeg (m_placeOf x1 x2))))) : 0 ≤ (m_placeOf x1 x2) ∧ (m_placeOf x1 x2) < 8 := by 
  clear hI
  try simp only [i_le, i_lt, i_eq, Int32.reduceToInt] at *
  try simp only [Int32.reduceToInt] at *
  omega
theorem m_right_o3 (S : MS) (x1 : Int32) (x2 : Int32) (hI : MInv S) (hpl : 0 ≤ x1 ∧ x1 < 4 → 0 ≤ (m_placeOf x1 x2) ∧ (m_placeOf x1 x2) < 8) (c1 : 0 ≤ (m_askedPlate S x1 x2).1) (okc1_0 : 0 ≤ x1 ∧ x1 < 4) (okc1_1 : 0 ≤ S.1 35 (Int32.toNatClampNeg (m_placeOf x1 x2))) (okc1_2 : S.1 35 (Int32.toNatClampNeg (m_placeOf x1 x2)) < 16) (okc1_3 : 1 ≤ S.1 12 (Int32.toNatClampNeg (S.1 35 (Int32.toNatClampNeg (m_placeOf x1 x2))))) : 0 ≤ (S.1 35 (Int32.toNatClampNeg (m_placeOf x1 x2))) ∧ (S.1 35 (Int32.toNatClampNeg (m_placeOf x1 x2))) < 16 := by 
  clear hI
  try simp only [i_le, i_lt, i_eq, Int32.reduceToInt] at *
  try simp only [Int32.reduceToInt] at *
  omega
def m_right (S : MS) (x1 : Int32) (x2 : Int32) : Int32 × MS := (if 0 ≤ (m_askedPlate S x1 x2).1 then (if (S.1 14 (Int32.toNatClampNeg (S.1 35 (Int32.toNatClampNeg (m_placeOf x1 x2))))) = (m_rightNotch S x1 x2) then (1, S) else (0, S)) else ((m_askedPlate S x1 x2).1, (m_askedPlate S x1 x2).2))
set_option maxHeartbeats 4000000 in
theorem mt_right (l : Launch) (D : va_G) (d : Nat → ClassId) (A : Nat → Prop) (a : Nat → Nat) (S : MS) (x1 : Int32) (x2 : Int32) (hI : MInv S) : MI l yX1_right cX1_right 4 .int (rm_ 5) D d A a S [.int x1, .int x2] (m_right S x1 x2) := by
  refine m_startI rfl (Nat.le_of_ble_eq_true rfl) ?_
  intro p e s m av below meth c ls Q X hrt hlk hl hR hQ
  have hx := X.1.1
  have hb := X.1.2.1
  have hown := X.1.2.2.2.1
  have hts := X.1.2.2.2.2
  have hS : va_S A s.heap s.heap [] := va_S.rf
  have hl : lv_has ls 4 [(0, .ref (a 0)), (1, .int x1), (2, .int x2)] := hl
  have hpl : 0 ≤ x1 ∧ x1 < 4 → 0 ≤ (m_placeOf x1 x2) ∧ (m_placeOf x1 x2) < 8 := m_placeOf_ok
  refine lv_aload_n hx hb dX1_right_0 rfl (lv_at hl 0 rfl) ?_
  refine lv_iload_n hx hb dX1_right_1 rfl (lv_at hl 1 rfl) ?_
  refine lv_iload_n hx hb dX1_right_2 rfl (lv_at hl 2 rfl) ?_
  refine m_ci X hR hS (mt_askedPlate l D d A a S x1 x2 (hI)) 2 (lw_V q1572 q1574 qs47 q59 q1575) ⟨rfl, rfl⟩ (by decide +kernel) ⟨by decide, by decide⟩ ⟨by decide, by decide⟩ rfl hl.1 rfl (Nat.le_of_ble_eq_true rfl) dX1_right_3 (fun H locs hR hS => ?_)
  refine lv_istore_n (lv' := [(3, .int ((m_askedPlate S x1 x2).1)), (0, .ref (a 0)), (1, .int x1), (2, .int x2)]) hx hb dX1_right_6 rfl hl (by decide) rfl (fun ls hl => ?_)
  refine lv_iload_n hx hb dX1_right_7 rfl (lv_at hl 0 rfl) ?_
  refine lv_if_ge (tgt := 15) hx hb dX1_right_8 (by decide) (fun c1 => ?_) (fun c1 => ?_)
  · have okc1 := m_askedPlate_ok S x1 x2 hI c1
    have hR : MR D d A a S H := okc1.1 ▸ hR
    have okc1_0 : 0 ≤ x1 ∧ x1 < 4 := okc1.2.1
    have okc1_1 : 0 ≤ S.1 35 (Int32.toNatClampNeg (m_placeOf x1 x2)) := okc1.2.2.1.1
    have okc1_2 : S.1 35 (Int32.toNatClampNeg (m_placeOf x1 x2)) < 16 := okc1.2.2.1.2
    have okc1_3 : 1 ≤ S.1 12 (Int32.toNatClampNeg (S.1 35 (Int32.toNatClampNeg (m_placeOf x1 x2)))) := okc1.2.2.2
    refine lv_aload_n hx hb dX1_right_15 rfl (lv_at hl 1 rfl) ?_
    refine mg_a X hR 14 (by decide) (by decide) q1151 dX1_right_16 ?_
    refine lv_aload_n hx hb dX1_right_19 rfl (lv_at hl 1 rfl) ?_
    refine mg_a X hR 35 (by decide) (by decide) q1172 dX1_right_20 ?_
    refine lv_iload_n hx hb dX1_right_23 rfl (lv_at hl 2 rfl) ?_
    refine lv_iload_n hx hb dX1_right_24 rfl (lv_at hl 3 rfl) ?_
    refine s_ci X.1 (st_m_placeOf l x1 x2) 2 (lw_S q1441 q1442 q59 q1443) ⟨rfl, rfl⟩ (by decide +kernel) ⟨by decide, by decide⟩ ⟨by decide, by decide⟩ rfl hl.1 rfl (Nat.le_of_ble_eq_true rfl) dX1_right_25 ?_
    refine m_ld X hR ⟨by decide, rfl, by decide⟩ (ixl 8 8 (by decide) rfl (m_right_o2 S x1 x2 hI hpl c1 okc1_0 okc1_1 okc1_2 okc1_3)) (v := S.1 35 (Int32.toNatClampNeg (m_placeOf x1 x2))) rfl dX1_right_28 ?_
    refine m_ld X hR ⟨by decide, rfl, by decide⟩ (ixl 16 16 (by decide) rfl (m_right_o3 S x1 x2 hI hpl c1 okc1_0 okc1_1 okc1_2 okc1_3)) (v := S.1 14 (Int32.toNatClampNeg (S.1 35 (Int32.toNatClampNeg (m_placeOf x1 x2))))) rfl dX1_right_29 ?_
    refine lv_aload_n hx hb dX1_right_30 rfl (lv_at hl 1 rfl) ?_
    refine lv_iload_n hx hb dX1_right_31 rfl (lv_at hl 2 rfl) ?_
    refine lv_iload_n hx hb dX1_right_32 rfl (lv_at hl 3 rfl) ?_
    refine m_cr X hR hS (mt_rightNotch l D d A a S x1 x2 (okc1_0) (okc1_1) (hI) (okc1_3)) 2 (lw_V q1576 q1578 qs48 q59 q1579) ⟨rfl, rfl⟩ (by decide +kernel) ⟨by decide, by decide⟩ ⟨by decide, by decide⟩ rfl hl.1 rfl (Nat.le_of_ble_eq_true rfl) dX1_right_33 (fun H locs hR hS => ?_)
    refine lv_icmp_ne (tgt := 43) hx hb dX1_right_36 (by decide) (fun c4 => ?_) (fun c4 => ?_)
    · refine lv_iconst (v := 0) hx hb dX1_right_43 (by decide) ?_
      exact m_ri hx hb hrt (rfl) hlk hR hS hQ (Eq.trans (if_pos c1) (if_neg c4)) dX1_right_44
    · refine lv_iconst (v := 1) hx hb dX1_right_39 (by decide) ?_
      refine lv_goto (tgt := 44) hx hb dX1_right_40 (by decide) ?_
      exact m_ri hx hb hrt (rfl) hlk hR hS hQ (Eq.trans (if_pos c1) (if_pos c4)) dX1_right_44
  · refine lv_iload_n hx hb dX1_right_11 rfl (lv_at hl 0 rfl) ?_
    refine lv_goto (tgt := 44) hx hb dX1_right_12 (by decide) ?_
    exact m_ri hx hb hrt (rfl) hlk hR hS hQ (if_neg c1) dX1_right_44
theorem m_off_o2 (S : MS) (x1 : Int32) (x2 : Int32) (hI : MInv S) (hpl : 0 ≤ x1 ∧ x1 < 4 → 0 ≤ (m_placeOf x1 x2) ∧ (m_placeOf x1 x2) < 8) (c1 : 0 ≤ (m_askedPlate S x1 x2).1) (okc1_0 : 0 ≤ x1 ∧ x1 < 4) (okc1_1 : 0 ≤ S.1 35 (Int32.toNatClampNeg (m_placeOf x1 x2))) (okc1_2 : S.1 35 (Int32.toNatClampNeg (m_placeOf x1 x2)) < 16) (okc1_3 : 1 ≤ S.1 12 (Int32.toNatClampNeg (S.1 35 (Int32.toNatClampNeg (m_placeOf x1 x2))))) : 0 ≤ (m_placeOf x1 x2) ∧ (m_placeOf x1 x2) < 8 := by 
  clear hI
  try simp only [i_le, i_lt, i_eq, Int32.reduceToInt] at *
  try simp only [Int32.reduceToInt] at *
  omega
def m_off_v23 (S : MS) (x1 : Int32) (x2 : Int32) : Int32 := (S.1 35 (Int32.toNatClampNeg (m_placeOf x1 x2)))
theorem m_off_o3 (S : MS) (x1 : Int32) (x2 : Int32) (hI : MInv S) (hpl : 0 ≤ x1 ∧ x1 < 4 → 0 ≤ (m_placeOf x1 x2) ∧ (m_placeOf x1 x2) < 8) (c1 : 0 ≤ (m_askedPlate S x1 x2).1) (okc1_0 : 0 ≤ x1 ∧ x1 < 4) (okc1_1 : 0 ≤ S.1 35 (Int32.toNatClampNeg (m_placeOf x1 x2))) (okc1_2 : S.1 35 (Int32.toNatClampNeg (m_placeOf x1 x2)) < 16) (okc1_3 : 1 ≤ S.1 12 (Int32.toNatClampNeg (S.1 35 (Int32.toNatClampNeg (m_placeOf x1 x2))))) : 0 ≤ (m_off_v23 S x1 x2) ∧ (m_off_v23 S x1 x2) < 16 := by 
  clear hI
  try simp only [m_off_v23] at *
  try simp only [i_le, i_lt, i_eq, Int32.reduceToInt] at *
  try simp only [Int32.reduceToInt] at *
  omega
theorem m_off_o4 (S : MS) (x1 : Int32) (x2 : Int32) (hI : MInv S) (hpl : 0 ≤ x1 ∧ x1 < 4 → 0 ≤ (m_placeOf x1 x2) ∧ (m_placeOf x1 x2) < 8) (c1 : 0 ≤ (m_askedPlate S x1 x2).1) (okc1_0 : 0 ≤ x1 ∧ x1 < 4) (okc1_1 : 0 ≤ S.1 35 (Int32.toNatClampNeg (m_placeOf x1 x2))) (okc1_2 : S.1 35 (Int32.toNatClampNeg (m_placeOf x1 x2)) < 16) (okc1_3 : 1 ≤ S.1 12 (Int32.toNatClampNeg (S.1 35 (Int32.toNatClampNeg (m_placeOf x1 x2))))) : ¬ (S.1 12 (Int32.toNatClampNeg (m_off_v23 S x1 x2))) = 0 := by 
  clear hI
  try simp only [m_off_v23] at *
  try simp only [i_le, i_lt, i_eq, Int32.reduceToInt] at *
  try simp only [Int32.reduceToInt] at *
  omega
def m_off (S : MS) (x1 : Int32) (x2 : Int32) : Int32 × MS := (if 0 ≤ (m_askedPlate S x1 x2).1 then (((((S.1 14 (Int32.toNatClampNeg (m_off_v23 S x1 x2))) + (S.1 12 (Int32.toNatClampNeg (m_off_v23 S x1 x2)))) - (m_rightNotch S x1 x2)) - (((S.1 14 (Int32.toNatClampNeg (m_off_v23 S x1 x2))) + (S.1 12 (Int32.toNatClampNeg (m_off_v23 S x1 x2)))) - (m_rightNotch S x1 x2)) / (S.1 12 (Int32.toNatClampNeg (m_off_v23 S x1 x2))) * (S.1 12 (Int32.toNatClampNeg (m_off_v23 S x1 x2)))), S) else ((m_askedPlate S x1 x2).1, (m_askedPlate S x1 x2).2))
set_option maxHeartbeats 4000000 in
theorem mt_off (l : Launch) (D : va_G) (d : Nat → ClassId) (A : Nat → Prop) (a : Nat → Nat) (S : MS) (x1 : Int32) (x2 : Int32) (hI : MInv S) : MI l yX1_off cX1_off 5 .int (rm_ 5) D d A a S [.int x1, .int x2] (m_off S x1 x2) := by
  refine m_startI rfl (Nat.le_of_ble_eq_true rfl) ?_
  intro p e s m av below meth c ls Q X hrt hlk hl hR hQ
  have hx := X.1.1
  have hb := X.1.2.1
  have hown := X.1.2.2.2.1
  have hts := X.1.2.2.2.2
  have hS : va_S A s.heap s.heap [] := va_S.rf
  have hl : lv_has ls 5 [(0, .ref (a 0)), (1, .int x1), (2, .int x2)] := hl
  have hpl : 0 ≤ x1 ∧ x1 < 4 → 0 ≤ (m_placeOf x1 x2) ∧ (m_placeOf x1 x2) < 8 := m_placeOf_ok
  refine lv_aload_n hx hb dX1_off_0 rfl (lv_at hl 0 rfl) ?_
  refine lv_iload_n hx hb dX1_off_1 rfl (lv_at hl 1 rfl) ?_
  refine lv_iload_n hx hb dX1_off_2 rfl (lv_at hl 2 rfl) ?_
  refine m_ci X hR hS (mt_askedPlate l D d A a S x1 x2 (hI)) 2 (lw_V q1572 q1574 qs47 q59 q1575) ⟨rfl, rfl⟩ (by decide +kernel) ⟨by decide, by decide⟩ ⟨by decide, by decide⟩ rfl hl.1 rfl (Nat.le_of_ble_eq_true rfl) dX1_off_3 (fun H locs hR hS => ?_)
  refine lv_istore_n (lv' := [(3, .int ((m_askedPlate S x1 x2).1)), (0, .ref (a 0)), (1, .int x1), (2, .int x2)]) hx hb dX1_off_6 rfl hl (by decide) rfl (fun ls hl => ?_)
  refine lv_iload_n hx hb dX1_off_7 rfl (lv_at hl 0 rfl) ?_
  refine lv_if_ge (tgt := 13) hx hb dX1_off_8 (by decide) (fun c1 => ?_) (fun c1 => ?_)
  · have okc1 := m_askedPlate_ok S x1 x2 hI c1
    have hR : MR D d A a S H := okc1.1 ▸ hR
    have okc1_0 : 0 ≤ x1 ∧ x1 < 4 := okc1.2.1
    have okc1_1 : 0 ≤ S.1 35 (Int32.toNatClampNeg (m_placeOf x1 x2)) := okc1.2.2.1.1
    have okc1_2 : S.1 35 (Int32.toNatClampNeg (m_placeOf x1 x2)) < 16 := okc1.2.2.1.2
    have okc1_3 : 1 ≤ S.1 12 (Int32.toNatClampNeg (S.1 35 (Int32.toNatClampNeg (m_placeOf x1 x2)))) := okc1.2.2.2
    refine lv_aload_n hx hb dX1_off_13 rfl (lv_at hl 1 rfl) ?_
    refine mg_a X hR 35 (by decide) (by decide) q1172 dX1_off_14 ?_
    refine lv_iload_n hx hb dX1_off_17 rfl (lv_at hl 2 rfl) ?_
    refine lv_iload_n hx hb dX1_off_18 rfl (lv_at hl 3 rfl) ?_
    refine s_ci X.1 (st_m_placeOf l x1 x2) 2 (lw_S q1441 q1442 q59 q1443) ⟨rfl, rfl⟩ (by decide +kernel) ⟨by decide, by decide⟩ ⟨by decide, by decide⟩ rfl hl.1 rfl (Nat.le_of_ble_eq_true rfl) dX1_off_19 ?_
    refine m_ld X hR ⟨by decide, rfl, by decide⟩ (ixl 8 8 (by decide) rfl (m_off_o2 S x1 x2 hI hpl c1 okc1_0 okc1_1 okc1_2 okc1_3)) (v := S.1 35 (Int32.toNatClampNeg (m_placeOf x1 x2))) rfl dX1_off_22 ?_
    refine lv_istore (lv' := [(4, .int (m_off_v23 S x1 x2)), (3, .int ((m_askedPlate S x1 x2).1)), (0, .ref (a 0)), (1, .int x1), (2, .int x2)]) hx hb dX1_off_23 hl (by decide) rfl (fun ls hl => ?_)
    refine lv_aload_n hx hb dX1_off_25 rfl (lv_at hl 2 rfl) ?_
    refine mg_a X hR 14 (by decide) (by decide) q1151 dX1_off_26 ?_
    refine lv_iload hx hb dX1_off_29 (lv_at hl 0 rfl) ?_
    refine m_ld X hR ⟨by decide, rfl, by decide⟩ (ixl 16 16 (by decide) rfl (m_off_o3 S x1 x2 hI hpl c1 okc1_0 okc1_1 okc1_2 okc1_3)) (v := S.1 14 (Int32.toNatClampNeg (m_off_v23 S x1 x2))) rfl dX1_off_31 ?_
    refine lv_aload_n hx hb dX1_off_32 rfl (lv_at hl 2 rfl) ?_
    refine mg_a X hR 12 (by decide) (by decide) q1149 dX1_off_33 ?_
    refine lv_iload hx hb dX1_off_36 (lv_at hl 0 rfl) ?_
    refine m_ld X hR ⟨by decide, rfl, by decide⟩ (ixl 16 16 (by decide) rfl (m_off_o3 S x1 x2 hI hpl c1 okc1_0 okc1_1 okc1_2 okc1_3)) (v := S.1 12 (Int32.toNatClampNeg (m_off_v23 S x1 x2))) rfl dX1_off_38 ?_
    refine lv_iadd hx hb dX1_off_39 ?_
    refine lv_aload_n hx hb dX1_off_40 rfl (lv_at hl 2 rfl) ?_
    refine lv_iload_n hx hb dX1_off_41 rfl (lv_at hl 3 rfl) ?_
    refine lv_iload_n hx hb dX1_off_42 rfl (lv_at hl 4 rfl) ?_
    refine m_cr X hR hS (mt_rightNotch l D d A a S x1 x2 (okc1_0) (okc1_1) (hI) (okc1_3)) 2 (lw_V q1576 q1578 qs48 q59 q1579) ⟨rfl, rfl⟩ (by decide +kernel) ⟨by decide, by decide⟩ ⟨by decide, by decide⟩ rfl hl.1 rfl (Nat.le_of_ble_eq_true rfl) dX1_off_43 (fun H locs hR hS => ?_)
    refine lv_isub hx hb dX1_off_46 ?_
    refine lv_aload_n hx hb dX1_off_47 rfl (lv_at hl 2 rfl) ?_
    refine mg_a X hR 12 (by decide) (by decide) q1149 dX1_off_48 ?_
    refine lv_iload hx hb dX1_off_51 (lv_at hl 0 rfl) ?_
    refine m_ld X hR ⟨by decide, rfl, by decide⟩ (ixl 16 16 (by decide) rfl (m_off_o3 S x1 x2 hI hpl c1 okc1_0 okc1_1 okc1_2 okc1_3)) (v := S.1 12 (Int32.toNatClampNeg (m_off_v23 S x1 x2))) rfl dX1_off_53 ?_
    refine lv_irem hx hb dX1_off_54 (m_off_o4 S x1 x2 hI hpl c1 okc1_0 okc1_1 okc1_2 okc1_3) ?_
    exact m_ri hx hb hrt (rfl) hlk hR hS hQ (if_pos c1) dX1_off_55
  · refine lv_iload_n hx hb dX1_off_11 rfl (lv_at hl 0 rfl) ?_
    exact m_ri hx hb hrt (rfl) hlk hR hS hQ (if_neg c1) dX1_off_12
theorem m_costOf_o2 (x1 : Int32) (x2 : Int32) (x3 : Int32) (hn : 0 ≤ x1 ∧ x1 < 16) (hs : 0 ≤ x2 ∧ x2 < 144) (c1 : ¬ x3 = 2) : 0 ≤ ((24 * x1) + (x2 / 12)) ∧ ((24 * x1) + (x2 / 12)) < 384 := by 
  try simp only [i_le, i_lt, i_eq, Int32.reduceToInt] at *
  first | (have e_0 := m32 (x := 24) (y := x1) (by (try simp only [Int32.reduceToInt]); omega); (try simp only [Int32.reduceToInt] at e_0)) | skip
  first | (have e_1 := d32 (x := x2) (y := 12) (by (try simp only [Int32.reduceToInt]); omega); (try simp only [Int32.reduceToInt] at e_1)) | skip
  first | (have e_2 := a32 (x := (24 * x1)) (y := (x2 / 12)) (by (try simp only [Int32.reduceToInt]); omega); (try simp only [Int32.reduceToInt] at e_2)) | skip
  try simp only [Int32.reduceToInt] at *
  omega
def m_costOf_j26_s0 (S : MS) (x1 : Int32) (x2 : Int32) (x3 : Int32) : Int32 := (if x3 = 2 then 0 else (S.1 13 (Int32.toNatClampNeg ((24 * x1) + (x2 / 12)))))
def m_costOf (S : MS) (x1 : Int32) (x2 : Int32) (x3 : Int32) : Int32 := ((1000 * (m_costOf_j26_s0 S x1 x2 x3)) + 1)
set_option maxHeartbeats 4000000 in
theorem mt_costOf (l : Launch) (D : va_G) (d : Nat → ClassId) (A : Nat → Prop) (a : Nat → Nat) (S : MS) (x1 : Int32) (x2 : Int32) (x3 : Int32) (hn : 0 ≤ x1 ∧ x1 < 16) (hs : 0 ≤ x2 ∧ x2 < 144) : MI l yX1_costOf cX1_costOf 4 .int (rm_ 0) D d A a S [.int x1, .int x2, .int x3] ((m_costOf S x1 x2 x3), S) := by
  refine m_startI rfl (Nat.le_of_ble_eq_true rfl) ?_
  intro p e s m av below meth c ls Q X hrt hlk hl hR hQ
  have hx := X.1.1
  have hb := X.1.2.1
  have hown := X.1.2.2.2.1
  have hts := X.1.2.2.2.2
  have hS : va_S A s.heap s.heap [] := va_S.rf
  have hl : lv_has ls 4 [(0, .ref (a 0)), (1, .int x1), (2, .int x2), (3, .int x3)] := hl
  refine lv_sipush (v := 1000) hx hb dX1_costOf_0 (by decide) ?_
  refine lv_iload_n hx hb dX1_costOf_3 rfl (lv_at hl 3 rfl) ?_
  refine lv_iconst (v := 2) hx hb dX1_costOf_4 (by decide) ?_
  have J4 : ∀ (w3 : Int32) (H : Heap) (locs : List Loc) (ls : Array Slot), w3 = (m_costOf_j26_s0 S x1 x2 x3) → MR D d A a S H → va_S A s.heap H locs → lv_has ls 4 [(0, .ref (a 0)), (1, .int x1), (2, .int x2), (3, .int x3)] → W p l e (rm_ 0) s m av below meth c H locs 0 0 Q (F0 m 26 ls [.int w3, .int 1000]) := by
    intro w3 H locs ls ew3 hR hS hl
    subst ew3
    refine lv_imul hx hb dX1_costOf_26 ?_
    refine lv_iconst (v := 1) hx hb dX1_costOf_27 (by decide) ?_
    refine lv_iadd hx hb dX1_costOf_28 ?_
    exact m_ri hx hb hrt (rfl) hlk hR hS hQ (hF1 rfl) dX1_costOf_29
  refine lv_icmp_ne (tgt := 12) hx hb dX1_costOf_5 (by decide) (fun c1 => ?_) (fun c1 => ?_)
  · refine lv_aload_n hx hb dX1_costOf_12 rfl (lv_at hl 0 rfl) ?_
    refine mg_a X hR 13 (by decide) (by decide) q1150 dX1_costOf_13 ?_
    refine lv_bipush (v := 24) hx hb dX1_costOf_16 (by decide) ?_
    refine lv_iload_n hx hb dX1_costOf_18 rfl (lv_at hl 1 rfl) ?_
    refine lv_imul hx hb dX1_costOf_19 ?_
    refine lv_iload_n hx hb dX1_costOf_20 rfl (lv_at hl 2 rfl) ?_
    refine lv_bipush (v := 12) hx hb dX1_costOf_21 (by decide) ?_
    refine lv_idiv hx hb dX1_costOf_23 (by decide) ?_
    refine lv_iadd hx hb dX1_costOf_24 ?_
    refine m_ld X hR ⟨by decide, rfl, by decide⟩ (ixl 384 384 (by decide) rfl (m_costOf_o2 x1 x2 x3 hn hs c1)) (v := S.1 13 (Int32.toNatClampNeg ((24 * x1) + (x2 / 12)))) rfl dX1_costOf_25 ?_
    exact J4 _ _ _  _ (Eq.symm (if_neg c1)) hR hS  (lv_sub hl [0, 1, 2, 3] rfl)
  · refine lv_iconst (v := 0) hx hb dX1_costOf_8 (by decide) ?_
    refine lv_goto (tgt := 26) hx hb dX1_costOf_9 (by decide) ?_
    exact J4 _ _ _  _ (Eq.symm (if_pos c1)) hR hS  (lv_sub hl [0, 1, 2, 3] rfl)
theorem m_misfitsOf_o2 (S : MS) (x1 : Int32) (y7_6 : Int32) (hr : 0 ≤ x1 ∧ x1 < 8) (hz : S.1 7 (Int32.toNatClampNeg x1) ≤ 48) (hi7 : 0 ≤ y7_6) (c1 : ¬ (S.1 7 (Int32.toNatClampNeg x1)) ≤ y7_6) : 0 ≤ ((48 * x1) + y7_6) ∧ ((48 * x1) + y7_6) < 384 := by 
  try simp only [i_le, i_lt, i_eq, Int32.reduceToInt] at *
  first | (have e_0 := m32 (x := 48) (y := x1) (by (try simp only [Int32.reduceToInt]); omega); (try simp only [Int32.reduceToInt] at e_0)) | skip
  first | (have e_1 := a32 (x := (48 * x1)) (y := y7_6) (by (try simp only [Int32.reduceToInt]); omega); (try simp only [Int32.reduceToInt] at e_1)) | skip
  try simp only [Int32.reduceToInt] at *
  omega
def m_misfitsOf_v29 (S : MS) (x1 : Int32) (y7_6 : Int32) : Int32 := (S.1 8 (Int32.toNatClampNeg ((48 * x1) + y7_6)))
def m_misfitsOf_j59_s0 (S : MS) (x1 : Int32) (x2 : Int32) (x3 : Int32) (x4 : Int32) (x5 : Int32) (y7_6 : Int32) : Int32 := (if (m_misfitsOf_v29 S x1 y7_6) < 0 then 0 else (if (m_misfitsOf_v29 S x1 y7_6) = (m_dueAt x2 y7_6 x3 x4 x5) then 0 else 1))
def m_misfitsOf_v60 (S : MS) (x1 : Int32) (x2 : Int32) (x3 : Int32) (x4 : Int32) (x5 : Int32) (y6_6 : Int32) (y7_6 : Int32) : Int32 := (y6_6 + (m_misfitsOf_j59_s0 S x1 x2 x3 x4 x5 y7_6))
def m_misfitsOf_L6 (S : MS) (x1 : Int32) (x2 : Int32) (x3 : Int32) (x4 : Int32) (x5 : Int32) : Nat → Int32 → Int32 → Int32 × Int32
  | 0, y6_6, y7_6 => (y6_6, y7_6)
  | f6 + 1, y6_6, y7_6 => (if (S.1 7 (Int32.toNatClampNeg x1)) ≤ y7_6 then (y6_6, y7_6) else (m_misfitsOf_L6 S x1 x2 x3 x4 x5 f6 (m_misfitsOf_v60 S x1 x2 x3 x4 x5 y6_6 y7_6) (y7_6 + 1)))
theorem m_misfitsOf_L6_s (S : MS) (x1 : Int32) (x2 : Int32) (x3 : Int32) (x4 : Int32) (x5 : Int32) (f6 : Nat) (y6_6 : Int32) (y7_6 : Int32) : m_misfitsOf_L6 S x1 x2 x3 x4 x5 (f6 + 1) y6_6 y7_6 = (if (S.1 7 (Int32.toNatClampNeg x1)) ≤ y7_6 then (y6_6, y7_6) else (m_misfitsOf_L6 S x1 x2 x3 x4 x5 f6 (m_misfitsOf_v60 S x1 x2 x3 x4 x5 y6_6 y7_6) (y7_6 + 1))) := rfl
def m_misfitsOf_R6 (S : MS) (x1 : Int32) (x2 : Int32) (x3 : Int32) (x4 : Int32) (x5 : Int32) : Int32 × Int32 := m_misfitsOf_L6 S x1 x2 x3 x4 x5 ((S.1 7 (Int32.toNatClampNeg x1) - 0 : Int32).toNatClampNeg + 1) 0 0
theorem m_misfitsOf_o7 (S : MS) (x1 : Int32) (y7_6 : Int32) (hr : 0 ≤ x1 ∧ x1 < 8) (hz : S.1 7 (Int32.toNatClampNeg x1) ≤ 48) (hi7 : 0 ≤ y7_6) (c1 : ¬ (S.1 7 (Int32.toNatClampNeg x1)) ≤ y7_6) : 0 ≤ (y7_6 + 1) := by 
  try simp only [i_le, i_lt, i_eq, Int32.reduceToInt] at *
  first | (have e_0 := a32 (x := y7_6) (y := 1) (by (try simp only [Int32.reduceToInt]); omega); (try simp only [Int32.reduceToInt] at e_0)) | skip
  try simp only [Int32.reduceToInt] at *
  omega
theorem m_misfitsOf_o8 (S : MS) (x1 : Int32) (y7_6 : Int32) (hr : 0 ≤ x1 ∧ x1 < 8) (hz : S.1 7 (Int32.toNatClampNeg x1) ≤ 48) (hi7 : 0 ≤ y7_6) (c1 : ¬ (S.1 7 (Int32.toNatClampNeg x1)) ≤ y7_6) : y7_6 < S.1 7 (Int32.toNatClampNeg x1) := by 
  try simp only [i_le, i_lt, i_eq, Int32.reduceToInt] at *
  try simp only [Int32.reduceToInt] at *
  omega
def m_misfitsOf (S : MS) (x1 : Int32) (x2 : Int32) (x3 : Int32) (x4 : Int32) (x5 : Int32) : Int32 := (m_misfitsOf_R6 S x1 x2 x3 x4 x5).1
set_option maxHeartbeats 4000000 in
theorem mt_misfitsOf (l : Launch) (D : va_G) (d : Nat → ClassId) (A : Nat → Prop) (a : Nat → Nat) (S : MS) (x1 : Int32) (x2 : Int32) (x3 : Int32) (x4 : Int32) (x5 : Int32) (hr : 0 ≤ x1 ∧ x1 < 8) (hz : S.1 7 (Int32.toNatClampNeg x1) ≤ 48) : MI l yX1_misfitsOf cX1_misfitsOf 9 .int (rm_ 2) D d A a S [.int x1, .int x2, .int x3, .int x4, .int x5] ((m_misfitsOf S x1 x2 x3 x4 x5), S) := by
  refine m_startI rfl (Nat.le_of_ble_eq_true rfl) ?_
  intro p e s m av below meth c ls Q X hrt hlk hl hR hQ
  have hx := X.1.1
  have hb := X.1.2.1
  have hown := X.1.2.2.2.1
  have hts := X.1.2.2.2.2
  have hS : va_S A s.heap s.heap [] := va_S.rf
  have hl : lv_has ls 9 [(0, .ref (a 0)), (1, .int x1), (2, .int x2), (3, .int x3), (4, .int x4), (5, .int x5)] := hl
  refine lv_iconst (v := 0) hx hb dX1_misfitsOf_0 (by decide) ?_
  refine lv_istore (lv' := [(6, .int 0), (0, .ref (a 0)), (1, .int x1), (2, .int x2), (3, .int x3), (4, .int x4), (5, .int x5)]) hx hb dX1_misfitsOf_1 hl (by decide) rfl (fun ls hl => ?_)
  refine lv_iconst (v := 0) hx hb dX1_misfitsOf_3 (by decide) ?_
  refine lv_istore (lv' := [(7, .int 0), (6, .int 0), (0, .ref (a 0)), (1, .int x1), (2, .int x2), (3, .int x3), (4, .int x4), (5, .int x5)]) hx hb dX1_misfitsOf_4 hl (by decide) rfl (fun ls hl => ?_)
  have K6 : ∀ (H : Heap) (locs : List Loc) (ls : Array Slot), MR D d A a S H → va_S A s.heap H locs → lv_has ls 9 [(7, .int ((m_misfitsOf_R6 S x1 x2 x3 x4 x5).2)), (6, .int ((m_misfitsOf_R6 S x1 x2 x3 x4 x5).1)), (0, .ref (a 0)), (1, .int x1), (2, .int x2), (3, .int x3), (4, .int x4), (5, .int x5)] → W p l e (rm_ 2) s m av below meth c H locs 0 0 Q (F0 m 68 ls []) := by
    intro H locs ls hR hS hl
    refine lv_iload hx hb dX1_misfitsOf_68 (lv_at hl 1 rfl) ?_
    exact m_ri hx hb hrt (rfl) hlk hR hS hQ (hF1 rfl) dX1_misfitsOf_70
  have L6 : ∀ (f6 : Nat) (y6_6 : Int32) (y7_6 : Int32) (H : Heap) (locs : List Loc) (ls : Array Slot), (S.1 7 (Int32.toNatClampNeg x1) - y7_6 : Int32).toNatClampNeg < f6 → 0 ≤ y7_6 → m_misfitsOf_L6 S x1 x2 x3 x4 x5 (f6) y6_6 y7_6 = (m_misfitsOf_R6 S x1 x2 x3 x4 x5) → MR D d A a S H → va_S A s.heap H locs → lv_has ls 9 [(7, .int y7_6), (6, .int y6_6), (0, .ref (a 0)), (1, .int x1), (2, .int x2), (3, .int x3), (4, .int x4), (5, .int x5)] → W p l e (rm_ 2) s m av below meth c H locs 0 0 Q (F0 m 6 ls []) := by
    intro f6
    induction f6 with
    | zero => intro y6_6 y7_6 H locs ls hf; exact absurd hf (Nat.not_lt_zero _)
    | succ f6 ih =>
      intro y6_6 y7_6 H locs ls hf hi7 hE hR hS hl
      refine lv_iload hx hb dX1_misfitsOf_6 (lv_at hl 0 rfl) ?_
      refine lv_aload_n hx hb dX1_misfitsOf_8 rfl (lv_at hl 2 rfl) ?_
      refine mg_a X hR 7 (by decide) (by decide) q1144 dX1_misfitsOf_9 ?_
      refine lv_iload_n hx hb dX1_misfitsOf_12 rfl (lv_at hl 3 rfl) ?_
      refine m_ld X hR ⟨by decide, rfl, by decide⟩ (ixl 8 8 (by decide) rfl (hr)) (v := S.1 7 (Int32.toNatClampNeg x1)) rfl dX1_misfitsOf_13 ?_
      refine lv_icmp_ge (tgt := 68) hx hb dX1_misfitsOf_14 (by decide) (fun c1 => ?_) (fun c1 => ?_)
      · have e0 : (m_misfitsOf_R6 S x1 x2 x3 x4 x5) = (y6_6, y7_6) := Eq.trans (Eq.symm hE) (Eq.trans (m_misfitsOf_L6_s _ _ _ _ _ _ _ _ _) (if_pos c1))
        exact K6 _ _ _ hR hS (by rw [e0]; exact lv_sub hl [0, 1, 2, 3, 4, 5, 6, 7] rfl)
      · refine lv_aload_n hx hb dX1_misfitsOf_17 rfl (lv_at hl 2 rfl) ?_
        refine mg_a X hR 8 (by decide) (by decide) q1145 dX1_misfitsOf_18 ?_
        refine lv_bipush (v := 48) hx hb dX1_misfitsOf_21 (by decide) ?_
        refine lv_iload_n hx hb dX1_misfitsOf_23 rfl (lv_at hl 3 rfl) ?_
        refine lv_imul hx hb dX1_misfitsOf_24 ?_
        refine lv_iload hx hb dX1_misfitsOf_25 (lv_at hl 0 rfl) ?_
        refine lv_iadd hx hb dX1_misfitsOf_27 ?_
        refine m_ld X hR ⟨by decide, rfl, by decide⟩ (ixl 384 384 (by decide) rfl (m_misfitsOf_o2 S x1 y7_6 hr hz hi7 c1)) (v := S.1 8 (Int32.toNatClampNeg ((48 * x1) + y7_6))) rfl dX1_misfitsOf_28 ?_
        refine lv_istore (lv' := [(8, .int (m_misfitsOf_v29 S x1 y7_6)), (7, .int y7_6), (6, .int y6_6), (0, .ref (a 0)), (1, .int x1), (2, .int x2), (3, .int x3), (4, .int x4), (5, .int x5)]) hx hb dX1_misfitsOf_29 hl (by decide) rfl (fun ls hl => ?_)
        refine lv_iload hx hb dX1_misfitsOf_31 (lv_at hl 2 rfl) ?_
        refine lv_iload hx hb dX1_misfitsOf_33 (lv_at hl 0 rfl) ?_
        have J6 : ∀ (w5 : Int32) (H : Heap) (locs : List Loc) (ls : Array Slot), w5 = (m_misfitsOf_j59_s0 S x1 x2 x3 x4 x5 y7_6) → MR D d A a S H → va_S A s.heap H locs → lv_has ls 9 [(8, .int (m_misfitsOf_v29 S x1 y7_6)), (7, .int y7_6), (6, .int y6_6), (0, .ref (a 0)), (1, .int x1), (2, .int x2), (3, .int x3), (4, .int x4), (5, .int x5)] → W p l e (rm_ 2) s m av below meth c H locs 0 0 Q (F0 m 59 ls [.int w5, .int y6_6]) := by
          intro w5 H locs ls ew5 hR hS hl
          subst ew5
          refine lv_iadd hx hb dX1_misfitsOf_59 ?_
          refine lv_istore (lv' := [(6, .int (m_misfitsOf_v60 S x1 x2 x3 x4 x5 y6_6 y7_6)), (8, .int (m_misfitsOf_v29 S x1 y7_6)), (7, .int y7_6), (0, .ref (a 0)), (1, .int x1), (2, .int x2), (3, .int x3), (4, .int x4), (5, .int x5)]) hx hb dX1_misfitsOf_60 hl (by decide) rfl (fun ls hl => ?_)
          refine lv_iinc (v := (y7_6 + 1)) (lv' := [(7, .int (y7_6 + 1)), (6, .int (m_misfitsOf_v60 S x1 x2 x3 x4 x5 y6_6 y7_6)), (8, .int (m_misfitsOf_v29 S x1 y7_6)), (0, .ref (a 0)), (1, .int x1), (2, .int x2), (3, .int x3), (4, .int x4), (5, .int x5)]) hx hb dX1_misfitsOf_62 hl (k := 2) rfl rfl (by decide) rfl (fun ls hl => ?_)
          refine lv_goto (tgt := 6) hx hb dX1_misfitsOf_65 (by decide) ?_
          exact ih (m_misfitsOf_v60 S x1 x2 x3 x4 x5 y6_6 y7_6) (y7_6 + 1) _ _  _ (Nat.lt_of_lt_of_le (up_ hi7 (m_misfitsOf_o8 S x1 y7_6 hr hz hi7 c1)) (Nat.le_of_lt_succ hf)) (m_misfitsOf_o7 S x1 y7_6 hr hz hi7 c1) (Eq.trans (Eq.symm (Eq.trans (m_misfitsOf_L6_s _ _ _ _ _ _ _ _ _) (if_neg c1))) hE) hR hS (lv_sub hl [0, 1, 3, 4, 5, 6, 7, 8] rfl)
        refine lv_if_lt (tgt := 58) hx hb dX1_misfitsOf_35 (by decide) (fun c3 => ?_) (fun c3 => ?_)
        · refine lv_iconst (v := 0) hx hb dX1_misfitsOf_58 (by decide) ?_
          exact J6 _ _ _  _ (Eq.symm (if_pos c3)) hR hS  (lv_sub hl [0, 1, 2, 3, 4, 5, 6, 7, 8] rfl)
        · refine lv_iload hx hb dX1_misfitsOf_38 (lv_at hl 0 rfl) ?_
          refine lv_iload_n hx hb dX1_misfitsOf_40 rfl (lv_at hl 5 rfl) ?_
          refine lv_iload hx hb dX1_misfitsOf_41 (lv_at hl 1 rfl) ?_
          refine lv_iload_n hx hb dX1_misfitsOf_43 rfl (lv_at hl 6 rfl) ?_
          refine lv_iload hx hb dX1_misfitsOf_44 (lv_at hl 7 rfl) ?_
          refine lv_iload hx hb dX1_misfitsOf_46 (lv_at hl 8 rfl) ?_
          refine s_ci X.1 (st_m_dueAt l x2 y7_6 x3 x4 x5) 5 (lw_S q1611 q1612 q59 q1613) ⟨rfl, rfl⟩ (by decide +kernel) ⟨by decide, by decide⟩ ⟨by decide, by decide⟩ rfl hl.1 rfl (Nat.le_of_ble_eq_true rfl) dX1_misfitsOf_48 ?_
          refine lv_icmp_eq (tgt := 58) hx hb dX1_misfitsOf_51 (by decide) (fun c4 => ?_) (fun c4 => ?_)
          · refine lv_iconst (v := 0) hx hb dX1_misfitsOf_58 (by decide) ?_
            exact J6 _ _ _  _ (Eq.symm (Eq.trans (if_neg c3) (if_pos c4))) hR hS  (lv_sub hl [0, 1, 2, 3, 4, 5, 6, 7, 8] rfl)
          · refine lv_iconst (v := 1) hx hb dX1_misfitsOf_54 (by decide) ?_
            refine lv_goto (tgt := 59) hx hb dX1_misfitsOf_55 (by decide) ?_
            exact J6 _ _ _  _ (Eq.symm (Eq.trans (if_neg c3) (if_neg c4))) hR hS  (lv_sub hl [0, 1, 2, 3, 4, 5, 6, 7, 8] rfl)
  exact L6 _ 0 0 _ _  _ (Nat.lt_succ_self _) (by decide) rfl hR hS (lv_sub hl [0, 1, 2, 3, 4, 5, 6, 7] rfl)
theorem m_misfits_o4 (S : MS) (x1 : Int32) (x2 : Int32) (x3 : Int32) (x4 : Int32) (x5 : Int32) (hI : MInv S) (hzz : 0 ≤ x1 ∧ x1 < 8 → S.1 7 (Int32.toNatClampNeg x1) ≤ 48) (c1 : ¬ (m_in x2 1 12) = 0) (c2 : ¬ (m_isFault x3 x4 x5) = 0) (c3 : 0 ≤ (m_looked S x1).1) (okc3_0 : 0 ≤ x1 ∧ x1 < 8) (okc3_1 : 0 ≤ S.1 7 (Int32.toNatClampNeg x1)) : S.1 7 (Int32.toNatClampNeg x1) ≤ 48 := by 
  clear hI
  try simp only [m_in_eq] at *
  try simp only [i_le, i_lt, i_eq, Int32.reduceToInt] at *
  try simp only [Int32.reduceToInt] at *
  omega
def m_misfits (S : MS) (x1 : Int32) (x2 : Int32) (x3 : Int32) (x4 : Int32) (x5 : Int32) : Int32 × MS := (if (m_in x2 1 12) = 0 then ((-1), S) else (if (m_isFault x3 x4 x5) = 0 then ((-1), S) else (if 0 ≤ (m_looked S x1).1 then ((m_misfitsOf S x1 x2 x3 x4 x5), S) else ((m_looked S x1).1, (m_looked S x1).2))))
set_option maxHeartbeats 4000000 in
theorem mt_misfits (l : Launch) (D : va_G) (d : Nat → ClassId) (A : Nat → Prop) (a : Nat → Nat) (S : MS) (x1 : Int32) (x2 : Int32) (x3 : Int32) (x4 : Int32) (x5 : Int32) (hI : MInv S) : MI l yX1_misfits cX1_misfits 7 .int (rm_ 3) D d A a S [.int x1, .int x2, .int x3, .int x4, .int x5] (m_misfits S x1 x2 x3 x4 x5) := by
  refine m_startI rfl (Nat.le_of_ble_eq_true rfl) ?_
  intro p e s m av below meth c ls Q X hrt hlk hl hR hQ
  have hx := X.1.1
  have hb := X.1.2.1
  have hown := X.1.2.2.2.1
  have hts := X.1.2.2.2.2
  have hS : va_S A s.heap s.heap [] := va_S.rf
  have hl : lv_has ls 7 [(0, .ref (a 0)), (1, .int x1), (2, .int x2), (3, .int x3), (4, .int x4), (5, .int x5)] := hl
  have hzz : 0 ≤ x1 ∧ x1 < 8 → S.1 7 (Int32.toNatClampNeg x1) ≤ 48 := mi_sz hI
  refine lv_iload_n hx hb dX1_misfits_0 rfl (lv_at hl 2 rfl) ?_
  refine lv_iconst (v := 1) hx hb dX1_misfits_1 (by decide) ?_
  refine lv_bipush (v := 12) hx hb dX1_misfits_2 (by decide) ?_
  refine s_ci X.1 (st_m_in l x2 1 12) 3 (lw_S q1314 q1315 q59 q1316) ⟨rfl, rfl⟩ (by decide +kernel) ⟨by decide, by decide⟩ ⟨by decide, by decide⟩ rfl hl.1 rfl (Nat.le_of_ble_eq_true rfl) dX1_misfits_4 ?_
  refine lv_if_eq (tgt := 21) hx hb dX1_misfits_7 (by decide) (fun c1 => ?_) (fun c1 => ?_)
  · refine lv_iconst (v := (-1)) hx hb dX1_misfits_21 (by decide) ?_
    exact m_ri hx hb hrt (rfl) hlk hR hS hQ (if_pos c1) dX1_misfits_22
  · refine lv_iload_n hx hb dX1_misfits_10 rfl (lv_at hl 3 rfl) ?_
    refine lv_iload hx hb dX1_misfits_11 (lv_at hl 4 rfl) ?_
    refine lv_iload hx hb dX1_misfits_13 (lv_at hl 5 rfl) ?_
    refine s_ci X.1 (st_m_isFault l x3 x4 x5) 3 (lw_S q1608 q1609 q59 q1610) ⟨rfl, rfl⟩ (by decide +kernel) ⟨by decide, by decide⟩ ⟨by decide, by decide⟩ rfl hl.1 rfl (Nat.le_of_ble_eq_true rfl) dX1_misfits_15 ?_
    refine lv_if_ne (tgt := 23) hx hb dX1_misfits_18 (by decide) (fun c2 => ?_) (fun c2 => ?_)
    · refine lv_aload_n hx hb dX1_misfits_23 rfl (lv_at hl 0 rfl) ?_
      refine lv_iload_n hx hb dX1_misfits_24 rfl (lv_at hl 1 rfl) ?_
      refine m_ci X hR hS (mt_looked l D d A a S x1) 1 (lw_V q1325 q1327 qs23 q59 q1328) ⟨rfl, rfl⟩ (by decide +kernel) ⟨by decide, by decide⟩ ⟨by decide, by decide⟩ rfl hl.1 rfl (Nat.le_of_ble_eq_true rfl) dX1_misfits_25 (fun H locs hR hS => ?_)
      refine lv_istore (lv' := [(6, .int ((m_looked S x1).1)), (0, .ref (a 0)), (1, .int x1), (2, .int x2), (3, .int x3), (4, .int x4), (5, .int x5)]) hx hb dX1_misfits_28 hl (by decide) rfl (fun ls hl => ?_)
      refine lv_iload hx hb dX1_misfits_30 (lv_at hl 0 rfl) ?_
      refine lv_if_ge (tgt := 40) hx hb dX1_misfits_32 (by decide) (fun c3 => ?_) (fun c3 => ?_)
      · have okc3 := m_looked_ok S x1 c3
        have hR : MR D d A a S H := okc3.1 ▸ hR
        have okc3_0 : 0 ≤ x1 ∧ x1 < 8 := okc3.2.1
        have okc3_1 : 0 ≤ S.1 7 (Int32.toNatClampNeg x1) := okc3.2.2
        refine lv_aload_n hx hb dX1_misfits_40 rfl (lv_at hl 1 rfl) ?_
        refine lv_iload_n hx hb dX1_misfits_41 rfl (lv_at hl 2 rfl) ?_
        refine lv_iload_n hx hb dX1_misfits_42 rfl (lv_at hl 3 rfl) ?_
        refine lv_iload_n hx hb dX1_misfits_43 rfl (lv_at hl 4 rfl) ?_
        refine lv_iload hx hb dX1_misfits_44 (lv_at hl 5 rfl) ?_
        refine lv_iload hx hb dX1_misfits_46 (lv_at hl 6 rfl) ?_
        refine m_cr X hR hS (mt_misfitsOf l D d A a S x1 x2 x3 x4 x5 (okc3_0) (m_misfits_o4 S x1 x2 x3 x4 x5 hI hzz c1 c2 c3 okc3_0 okc3_1)) 5 (lw_V q1618 q1620 qs51 q59 q1621) ⟨rfl, rfl⟩ (by decide +kernel) ⟨by decide, by decide⟩ ⟨by decide, by decide⟩ rfl hl.1 rfl (Nat.le_of_ble_eq_true rfl) dX1_misfits_48 (fun H locs hR hS => ?_)
        exact m_ri hx hb hrt (rfl) hlk hR hS hQ (Eq.trans (if_neg c1) (Eq.trans (if_neg c2) (if_pos c3))) dX1_misfits_51
      · refine lv_iload hx hb dX1_misfits_35 (lv_at hl 0 rfl) ?_
        refine lv_goto (tgt := 51) hx hb dX1_misfits_37 (by decide) ?_
        exact m_ri hx hb hrt (rfl) hlk hR hS hQ (Eq.trans (if_neg c1) (Eq.trans (if_neg c2) (if_neg c3))) dX1_misfits_51
    · refine lv_iconst (v := (-1)) hx hb dX1_misfits_21 (by decide) ?_
      exact m_ri hx hb hrt (rfl) hlk hR hS hQ (Eq.trans (if_neg c1) (if_pos c2)) dX1_misfits_22
def m_tryFault_j28_s0 (S : MS) (x1 : Int32) (x2 : Int32) (x3 : Int32) (x4 : Int32) (x5 : Int32) : Int32 := (if (m_misfitsOf S x1 x2 x3 x4 x5) = 0 then 1 else 0)
def m_tryFault_j77_s0 (x3 : Int32) (x4 : Int32) : Int32 := (if x3 = 0 then (-9) else x4)
def m_tryFault (S : MS) (x1 : Int32) (x2 : Int32) (x3 : Int32) (x4 : Int32) (x5 : Int32) : MS := (if (S.1 45 0) < 0 then (if x3 = 0 then (mu (mu (mu (mu (mu S 46 0 ((S.1 46 0) + (m_tryFault_j28_s0 S x1 x2 x3 x4 x5))) 45 0 (m_misfitsOf S x1 x2 x3 x4 x5)) 47 (Int32.toNatClampNeg 0) x3) 47 (Int32.toNatClampNeg 1) (m_tryFault_j77_s0 x3 x4)) 47 (Int32.toNatClampNeg 2) (-9)) else (if x3 = 3 then (mu (mu (mu (mu (mu S 46 0 ((S.1 46 0) + (m_tryFault_j28_s0 S x1 x2 x3 x4 x5))) 45 0 (m_misfitsOf S x1 x2 x3 x4 x5)) 47 (Int32.toNatClampNeg 0) x3) 47 (Int32.toNatClampNeg 1) (m_tryFault_j77_s0 x3 x4)) 47 (Int32.toNatClampNeg 2) (-9)) else (mu (mu (mu (mu (mu S 46 0 ((S.1 46 0) + (m_tryFault_j28_s0 S x1 x2 x3 x4 x5))) 45 0 (m_misfitsOf S x1 x2 x3 x4 x5)) 47 (Int32.toNatClampNeg 0) x3) 47 (Int32.toNatClampNeg 1) (m_tryFault_j77_s0 x3 x4)) 47 (Int32.toNatClampNeg 2) x5))) else (if (S.1 45 0) ≤ (m_misfitsOf S x1 x2 x3 x4 x5) then (mu S 46 0 ((S.1 46 0) + (m_tryFault_j28_s0 S x1 x2 x3 x4 x5))) else (if x3 = 0 then (mu (mu (mu (mu (mu S 46 0 ((S.1 46 0) + (m_tryFault_j28_s0 S x1 x2 x3 x4 x5))) 45 0 (m_misfitsOf S x1 x2 x3 x4 x5)) 47 (Int32.toNatClampNeg 0) x3) 47 (Int32.toNatClampNeg 1) (m_tryFault_j77_s0 x3 x4)) 47 (Int32.toNatClampNeg 2) (-9)) else (if x3 = 3 then (mu (mu (mu (mu (mu S 46 0 ((S.1 46 0) + (m_tryFault_j28_s0 S x1 x2 x3 x4 x5))) 45 0 (m_misfitsOf S x1 x2 x3 x4 x5)) 47 (Int32.toNatClampNeg 0) x3) 47 (Int32.toNatClampNeg 1) (m_tryFault_j77_s0 x3 x4)) 47 (Int32.toNatClampNeg 2) (-9)) else (mu (mu (mu (mu (mu S 46 0 ((S.1 46 0) + (m_tryFault_j28_s0 S x1 x2 x3 x4 x5))) 45 0 (m_misfitsOf S x1 x2 x3 x4 x5)) 47 (Int32.toNatClampNeg 0) x3) 47 (Int32.toNatClampNeg 1) (m_tryFault_j77_s0 x3 x4)) 47 (Int32.toNatClampNeg 2) x5)))))
set_option maxHeartbeats 4000000 in
theorem mt_tryFault (l : Launch) (D : va_G) (d : Nat → ClassId) (A : Nat → Prop) (a : Nat → Nat) (S : MS) (x1 : Int32) (x2 : Int32) (x3 : Int32) (x4 : Int32) (x5 : Int32) (hr : 0 ≤ x1 ∧ x1 < 8) (hz : S.1 7 (Int32.toNatClampNeg x1) ≤ 48) : MV l yX1_tryFault cX1_tryFault 7 (rm_ 3) D d A a S [.int x1, .int x2, .int x3, .int x4, .int x5] (m_tryFault S x1 x2 x3 x4 x5) := by
  refine m_startV rfl (Nat.le_of_ble_eq_true rfl) ?_
  intro p e s m av below meth c ls Q X hrt hlk hl hR hQ
  have hx := X.1.1
  have hb := X.1.2.1
  have hown := X.1.2.2.2.1
  have hts := X.1.2.2.2.2
  have hS : va_S A s.heap s.heap [] := va_S.rf
  have hl : lv_has ls 7 [(0, .ref (a 0)), (1, .int x1), (2, .int x2), (3, .int x3), (4, .int x4), (5, .int x5)] := hl
  refine lv_aload_n hx hb dX1_tryFault_0 rfl (lv_at hl 0 rfl) ?_
  refine lv_iload_n hx hb dX1_tryFault_1 rfl (lv_at hl 1 rfl) ?_
  refine lv_iload_n hx hb dX1_tryFault_2 rfl (lv_at hl 2 rfl) ?_
  refine lv_iload_n hx hb dX1_tryFault_3 rfl (lv_at hl 3 rfl) ?_
  refine lv_iload hx hb dX1_tryFault_4 (lv_at hl 4 rfl) ?_
  refine lv_iload hx hb dX1_tryFault_6 (lv_at hl 5 rfl) ?_
  refine m_cr X hR hS (mt_misfitsOf l D d A a S x1 x2 x3 x4 x5 (hr) (hz)) 5 (lw_V q1618 q1620 qs51 q59 q1621) ⟨rfl, rfl⟩ (by decide +kernel) ⟨by decide, by decide⟩ ⟨by decide, by decide⟩ rfl hl.1 rfl (Nat.le_of_ble_eq_true rfl) dX1_tryFault_8 (fun H locs hR hS => ?_)
  refine lv_istore (lv' := [(6, .int (m_misfitsOf S x1 x2 x3 x4 x5)), (0, .ref (a 0)), (1, .int x1), (2, .int x2), (3, .int x3), (4, .int x4), (5, .int x5)]) hx hb dX1_tryFault_11 hl (by decide) rfl (fun ls hl => ?_)
  refine lv_aload_n hx hb dX1_tryFault_13 rfl (lv_at hl 1 rfl) ?_
  refine lv_dup hx hb dX1_tryFault_14 rfl ?_
  refine mg_i X hR 46 (by decide) rfl q1183 rfl dX1_tryFault_15 ?_
  refine lv_iload hx hb dX1_tryFault_18 (lv_at hl 0 rfl) ?_
  have J3 : ∀ (w2 : Int32) (H : Heap) (locs : List Loc) (ls : Array Slot), w2 = (m_tryFault_j28_s0 S x1 x2 x3 x4 x5) → MR D d A a S H → va_S A s.heap H locs → lv_has ls 7 [(6, .int (m_misfitsOf S x1 x2 x3 x4 x5)), (0, .ref (a 0)), (1, .int x1), (2, .int x2), (3, .int x3), (4, .int x4), (5, .int x5)] → W p l e (rm_ 3) s m av below meth c H locs 0 0 Q (F0 m 28 ls [.int w2, .int (S.1 46 0), .ref (a 0)]) := by
    intro w2 H locs ls ew2 hR hS hl
    subst ew2
    refine lv_iadd hx hb dX1_tryFault_28 ?_
    refine mp_i X hR hS 46 (by decide) rfl rfl rfl q1183 dX1_tryFault_29 (fun H locs hR hS => ?_)
    refine lv_aload_n hx hb dX1_tryFault_32 rfl (lv_at hl 1 rfl) ?_
    refine mg_i X hR 45 (by decide) rfl q1182 ((mu_k _ (by decide) _ _ _).trans rfl) dX1_tryFault_33 ?_
    refine lv_if_lt (tgt := 48) hx hb dX1_tryFault_36 (by decide) (fun c4 => ?_) (fun c4 => ?_)
    · refine lv_aload_n hx hb dX1_tryFault_48 rfl (lv_at hl 1 rfl) ?_
      refine lv_iload hx hb dX1_tryFault_49 (lv_at hl 0 rfl) ?_
      refine mp_i X hR hS 45 (by decide) rfl rfl rfl q1182 dX1_tryFault_51 (fun H locs hR hS => ?_)
      refine lv_aload_n hx hb dX1_tryFault_54 rfl (lv_at hl 1 rfl) ?_
      refine mg_a X hR 47 (by decide) (by decide) q1184 dX1_tryFault_55 ?_
      refine lv_iconst (v := 0) hx hb dX1_tryFault_58 (by decide) ?_
      refine lv_iload_n hx hb dX1_tryFault_59 rfl (lv_at hl 4 rfl) ?_
      refine m_st X hR hS ⟨by decide, rfl, by decide⟩ (ixl 3 3 (by decide) rfl (by decide)) dX1_tryFault_60 (fun H locs hR hS => ?_)
      refine lv_aload_n hx hb dX1_tryFault_61 rfl (lv_at hl 1 rfl) ?_
      refine mg_a X hR 47 (by decide) (by decide) q1184 dX1_tryFault_62 ?_
      refine lv_iconst (v := 1) hx hb dX1_tryFault_65 (by decide) ?_
      refine lv_iload_n hx hb dX1_tryFault_66 rfl (lv_at hl 4 rfl) ?_
      have J7 : ∀ (w6 : Int32) (H : Heap) (locs : List Loc) (ls : Array Slot), w6 = (m_tryFault_j77_s0 x3 x4) → MR D d A a (mu (mu (mu S 46 0 ((S.1 46 0) + (m_tryFault_j28_s0 S x1 x2 x3 x4 x5))) 45 0 (m_misfitsOf S x1 x2 x3 x4 x5)) 47 (Int32.toNatClampNeg 0) x3) H → va_S A s.heap H locs → lv_has ls 7 [(6, .int (m_misfitsOf S x1 x2 x3 x4 x5)), (0, .ref (a 0)), (1, .int x1), (2, .int x2), (3, .int x3), (4, .int x4), (5, .int x5)] → W p l e (rm_ 3) s m av below meth c H locs 0 0 Q (F0 m 77 ls [.int w6, .int 1, .ref (a 47)]) := by
        intro w6 H locs ls ew6 hR hS hl
        subst ew6
        refine m_st X hR hS ⟨by decide, rfl, by decide⟩ (ixl 3 3 (by decide) rfl (by decide)) dX1_tryFault_77 (fun H locs hR hS => ?_)
        refine lv_aload_n hx hb dX1_tryFault_78 rfl (lv_at hl 1 rfl) ?_
        refine mg_a X hR 47 (by decide) (by decide) q1184 dX1_tryFault_79 ?_
        refine lv_iconst (v := 2) hx hb dX1_tryFault_82 (by decide) ?_
        refine lv_iload_n hx hb dX1_tryFault_83 rfl (lv_at hl 4 rfl) ?_
        refine lv_if_eq (tgt := 92) hx hb dX1_tryFault_84 (by decide) (fun c8 => ?_) (fun c8 => ?_)
        · refine lv_bipush (v := (-9)) hx hb dX1_tryFault_92 (by decide) ?_
          refine lv_goto (tgt := 99) hx hb dX1_tryFault_94 (by decide) ?_
          refine m_st X hR hS ⟨by decide, rfl, by decide⟩ (ixl 3 3 (by decide) rfl (by decide)) dX1_tryFault_99 (fun H locs hR hS => ?_)
          exact m_rv hx hb hrt hlk hR hS hQ (Eq.trans (if_pos c4) (if_pos c8)) dX1_tryFault_100
        · refine lv_iload_n hx hb dX1_tryFault_87 rfl (lv_at hl 4 rfl) ?_
          refine lv_iconst (v := 3) hx hb dX1_tryFault_88 (by decide) ?_
          refine lv_icmp_ne (tgt := 97) hx hb dX1_tryFault_89 (by decide) (fun c9 => ?_) (fun c9 => ?_)
          · refine lv_iload hx hb dX1_tryFault_97 (lv_at hl 6 rfl) ?_
            refine m_st X hR hS ⟨by decide, rfl, by decide⟩ (ixl 3 3 (by decide) rfl (by decide)) dX1_tryFault_99 (fun H locs hR hS => ?_)
            exact m_rv hx hb hrt hlk hR hS hQ (Eq.trans (if_pos c4) (Eq.trans (if_neg c8) (if_neg c9))) dX1_tryFault_100
          · refine lv_bipush (v := (-9)) hx hb dX1_tryFault_92 (by decide) ?_
            refine lv_goto (tgt := 99) hx hb dX1_tryFault_94 (by decide) ?_
            refine m_st X hR hS ⟨by decide, rfl, by decide⟩ (ixl 3 3 (by decide) rfl (by decide)) dX1_tryFault_99 (fun H locs hR hS => ?_)
            exact m_rv hx hb hrt hlk hR hS hQ (Eq.trans (if_pos c4) (Eq.trans (if_neg c8) (if_pos c9))) dX1_tryFault_100
      refine lv_if_ne (tgt := 75) hx hb dX1_tryFault_67 (by decide) (fun c5 => ?_) (fun c5 => ?_)
      · refine lv_iload hx hb dX1_tryFault_75 (lv_at hl 5 rfl) ?_
        exact J7 _ _ _  _ (Eq.symm (if_neg c5)) hR hS  (lv_sub hl [0, 1, 2, 3, 4, 5, 6] rfl)
      · refine lv_bipush (v := (-9)) hx hb dX1_tryFault_70 (by decide) ?_
        refine lv_goto (tgt := 77) hx hb dX1_tryFault_72 (by decide) ?_
        exact J7 _ _ _  _ (Eq.symm (if_pos c5)) hR hS  (lv_sub hl [0, 1, 2, 3, 4, 5, 6] rfl)
    · refine lv_iload hx hb dX1_tryFault_39 (lv_at hl 0 rfl) ?_
      refine lv_aload_n hx hb dX1_tryFault_41 rfl (lv_at hl 1 rfl) ?_
      refine mg_i X hR 45 (by decide) rfl q1182 ((mu_k _ (by decide) _ _ _).trans rfl) dX1_tryFault_42 ?_
      refine lv_icmp_ge (tgt := 100) hx hb dX1_tryFault_45 (by decide) (fun c10 => ?_) (fun c10 => ?_)
      · exact m_rv hx hb hrt hlk hR hS hQ (Eq.trans (if_neg c4) (if_pos c10)) dX1_tryFault_100
      · refine lv_aload_n hx hb dX1_tryFault_48 rfl (lv_at hl 1 rfl) ?_
        refine lv_iload hx hb dX1_tryFault_49 (lv_at hl 0 rfl) ?_
        refine mp_i X hR hS 45 (by decide) rfl rfl rfl q1182 dX1_tryFault_51 (fun H locs hR hS => ?_)
        refine lv_aload_n hx hb dX1_tryFault_54 rfl (lv_at hl 1 rfl) ?_
        refine mg_a X hR 47 (by decide) (by decide) q1184 dX1_tryFault_55 ?_
        refine lv_iconst (v := 0) hx hb dX1_tryFault_58 (by decide) ?_
        refine lv_iload_n hx hb dX1_tryFault_59 rfl (lv_at hl 4 rfl) ?_
        refine m_st X hR hS ⟨by decide, rfl, by decide⟩ (ixl 3 3 (by decide) rfl (by decide)) dX1_tryFault_60 (fun H locs hR hS => ?_)
        refine lv_aload_n hx hb dX1_tryFault_61 rfl (lv_at hl 1 rfl) ?_
        refine mg_a X hR 47 (by decide) (by decide) q1184 dX1_tryFault_62 ?_
        refine lv_iconst (v := 1) hx hb dX1_tryFault_65 (by decide) ?_
        refine lv_iload_n hx hb dX1_tryFault_66 rfl (lv_at hl 4 rfl) ?_
        have J13 : ∀ (w12 : Int32) (H : Heap) (locs : List Loc) (ls : Array Slot), w12 = (m_tryFault_j77_s0 x3 x4) → MR D d A a (mu (mu (mu S 46 0 ((S.1 46 0) + (m_tryFault_j28_s0 S x1 x2 x3 x4 x5))) 45 0 (m_misfitsOf S x1 x2 x3 x4 x5)) 47 (Int32.toNatClampNeg 0) x3) H → va_S A s.heap H locs → lv_has ls 7 [(6, .int (m_misfitsOf S x1 x2 x3 x4 x5)), (0, .ref (a 0)), (1, .int x1), (2, .int x2), (3, .int x3), (4, .int x4), (5, .int x5)] → W p l e (rm_ 3) s m av below meth c H locs 0 0 Q (F0 m 77 ls [.int w12, .int 1, .ref (a 47)]) := by
          intro w12 H locs ls ew12 hR hS hl
          subst ew12
          refine m_st X hR hS ⟨by decide, rfl, by decide⟩ (ixl 3 3 (by decide) rfl (by decide)) dX1_tryFault_77 (fun H locs hR hS => ?_)
          refine lv_aload_n hx hb dX1_tryFault_78 rfl (lv_at hl 1 rfl) ?_
          refine mg_a X hR 47 (by decide) (by decide) q1184 dX1_tryFault_79 ?_
          refine lv_iconst (v := 2) hx hb dX1_tryFault_82 (by decide) ?_
          refine lv_iload_n hx hb dX1_tryFault_83 rfl (lv_at hl 4 rfl) ?_
          refine lv_if_eq (tgt := 92) hx hb dX1_tryFault_84 (by decide) (fun c14 => ?_) (fun c14 => ?_)
          · refine lv_bipush (v := (-9)) hx hb dX1_tryFault_92 (by decide) ?_
            refine lv_goto (tgt := 99) hx hb dX1_tryFault_94 (by decide) ?_
            refine m_st X hR hS ⟨by decide, rfl, by decide⟩ (ixl 3 3 (by decide) rfl (by decide)) dX1_tryFault_99 (fun H locs hR hS => ?_)
            exact m_rv hx hb hrt hlk hR hS hQ (Eq.trans (if_neg c4) (Eq.trans (if_neg c10) (if_pos c14))) dX1_tryFault_100
          · refine lv_iload_n hx hb dX1_tryFault_87 rfl (lv_at hl 4 rfl) ?_
            refine lv_iconst (v := 3) hx hb dX1_tryFault_88 (by decide) ?_
            refine lv_icmp_ne (tgt := 97) hx hb dX1_tryFault_89 (by decide) (fun c15 => ?_) (fun c15 => ?_)
            · refine lv_iload hx hb dX1_tryFault_97 (lv_at hl 6 rfl) ?_
              refine m_st X hR hS ⟨by decide, rfl, by decide⟩ (ixl 3 3 (by decide) rfl (by decide)) dX1_tryFault_99 (fun H locs hR hS => ?_)
              exact m_rv hx hb hrt hlk hR hS hQ (Eq.trans (if_neg c4) (Eq.trans (if_neg c10) (Eq.trans (if_neg c14) (if_neg c15)))) dX1_tryFault_100
            · refine lv_bipush (v := (-9)) hx hb dX1_tryFault_92 (by decide) ?_
              refine lv_goto (tgt := 99) hx hb dX1_tryFault_94 (by decide) ?_
              refine m_st X hR hS ⟨by decide, rfl, by decide⟩ (ixl 3 3 (by decide) rfl (by decide)) dX1_tryFault_99 (fun H locs hR hS => ?_)
              exact m_rv hx hb hrt hlk hR hS hQ (Eq.trans (if_neg c4) (Eq.trans (if_neg c10) (Eq.trans (if_neg c14) (if_pos c15)))) dX1_tryFault_100
        refine lv_if_ne (tgt := 75) hx hb dX1_tryFault_67 (by decide) (fun c11 => ?_) (fun c11 => ?_)
        · refine lv_iload hx hb dX1_tryFault_75 (lv_at hl 5 rfl) ?_
          exact J13 _ _ _  _ (Eq.symm (if_neg c11)) hR hS  (lv_sub hl [0, 1, 2, 3, 4, 5, 6] rfl)
        · refine lv_bipush (v := (-9)) hx hb dX1_tryFault_70 (by decide) ?_
          refine lv_goto (tgt := 77) hx hb dX1_tryFault_72 (by decide) ?_
          exact J13 _ _ _  _ (Eq.symm (if_pos c11)) hR hS  (lv_sub hl [0, 1, 2, 3, 4, 5, 6] rfl)
  refine lv_if_ne (tgt := 27) hx hb dX1_tryFault_20 (by decide) (fun c1 => ?_) (fun c1 => ?_)
  · refine lv_iconst (v := 0) hx hb dX1_tryFault_27 (by decide) ?_
    exact J3 _ _ _  _ (Eq.symm (if_neg c1)) hR hS  (lv_sub hl [0, 1, 2, 3, 4, 5, 6] rfl)
  · refine lv_iconst (v := 1) hx hb dX1_tryFault_23 (by decide) ?_
    refine lv_goto (tgt := 28) hx hb dX1_tryFault_24 (by decide) ?_
    exact J3 _ _ _  _ (Eq.symm (if_pos c1)) hR hS  (lv_sub hl [0, 1, 2, 3, 4, 5, 6] rfl)
theorem m_tryFault_eqx (S : MS) (x1 x2 x3 x4 x5 : Int32) : eqx [45, 46, 47] S (m_tryFault S x1 x2 x3 x4 x5) := by
  unfold m_tryFault
  (repeat' split) <;> (repeat refine eqx.up ?_ (by decide) _ _) <;> exact eqx.rf
