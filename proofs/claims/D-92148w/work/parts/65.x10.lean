/-! PRINTED by gen/run_x10.py -/
set_option maxRecDepth 100000
/-- what was tried is chosen -/
def xcc (X : XS) (n : Int32) : XS := (fun k => if k = 23 then va_cpy (X.1 24) (X.1 23) 0 0 n.toNatClampNeg else X.1 k, X.2)
theorem xcc_kf (X : XS) {k : Nat} (h : k ≠ 23) (n : Int32) : (xcc X n).1 k = X.1 k := if_neg h
theorem xcc_k (X : XS) {k : Nat} (h : k ≠ 23) (n : Int32) (i : Nat) : (xcc X n).1 k i = X.1 k i := by rw [xcc_kf X h]
theorem xcc_self (X : XS) (n : Int32) : (xcc X n).1 23 = va_cpy (X.1 24) (X.1 23) 0 0 n.toNatClampNeg := rfl
theorem XInv_xcc {X : XS} (hI : XInv X) (n : Int32) : XInv (xcc X n) := XInv_fr (X := X) (X' := xcc X n) (fun k hk => xcc_kf X (fun e => by subst e; exact absurd hk (by decide)) n) rfl rfl hI
section XCPC
variable {p : Program} {l : Launch} {e : Env} {R : Room} {s : State} {m : MethodId} {args : Array Value} {below : List Frame} {meth : Method} {c : Code} {H : Heap} {locs : List Loc} {cells slots : Nat} {Q : State → Prop}
variable {cc : ByteArray} {pc nL : Nat} {ls : Array Slot} {rest st0 : List Value} {D : va_G} {A : Nat → Prop} {d : Nat → ClassId} {own : String} {ad : XK → Nat} {X : XS}
theorem x_cpc (X0 : xX p m c cc nL s args own D d) (hR : XR D d A ad X H) (hS : va_S A s.heap H locs) {n : Int32} (hn : 0 ≤ n ∧ n ≤ 4) {idx : Nat} (hq : Cond.methodLink own idx arraycopyName ∈ lw_all) (hRm : 1 ≤ R.frames ∧ (rest.map fun v => v.category).sum + (nativeFrameWords "java/lang/System" "arraycopy" 5 + 11) ≤ R.locals) (hl : ls.size = nL) (hdg : decode cc pc = .ok (.invokestatic idx, 3))
    (kk : ∀ (H : Heap) (locs : List Loc), XR D d A ad (xcc X n) H → va_S A s.heap H locs → W p l e R s m args below meth c H locs cells slots Q (F0 m (pc + 3) ls rest)) : W p l e R s m args below meth c H locs cells slots Q (F0 m pc ls (.int n :: .int 0 :: .ref (ad (23, 0)) :: .int 0 :: .ref (ad (24, 0)) :: rest)) := by
  obtain ⟨⟨⟨hx, hb, hml, hown, hts⟩, hK⟩, hE⟩ := X0
  obtain ⟨L, f, ⟨hP, hD⟩, hf, hi⟩ := hR
  have hlv : x_live X (23, 0) := x_lva ⟨by decide, by decide⟩
  have hlw : x_live X (24, 0) := x_lva ⟨by decide, by decide⟩
  obtain ⟨k0, e0⟩ := va_pl_get (X := []) (f := f) (hf _ hlv).1
  obtain ⟨k1, e1⟩ := va_pl_get (X := []) (f := f) (hf _ hlw).1
  have h4 : n.toNatClampNeg ≤ 4 := by
    have := hn.2
    rw [i_le] at this
    unfold Int32.toNatClampNeg
    have e : (4 : Int32).toInt = 4 := rfl
    omega
  refine va_copyi hx hb (hml.trans hl.symm) hown (hts _ hq) (hts _ q345) (hts _ q344) (hts _ q68) hK hP hD hS k1 k0 0 0 (c0 := d 0) (c1 := d 0) (n0 := 4) (n1 := 4) (f := X.1 24) (g := X.1 23) (ty := .int) (by rw [e1, (hf _ hlw).2]; exact congrArg some (congrArg (Prod.mk _) (x_C_arr (k := 24) ⟨by decide, by decide⟩))) (by rw [e0, (hf _ hlv).2]; exact congrArg some (congrArg (Prod.mk _) (x_C_arr (k := 23) ⟨by decide, by decide⟩))) rfl rfl rfl (by decide) (by decide) (Int32.not_lt.mpr hn.1) (by show 0 + n.toNatClampNeg ≤ 4; omega) (by show 0 + n.toNatClampNeg ≤ 4; omega) (fun i _ => rfl) hRm.1 hRm.2 hdg fun H1 locs1 hP1 hD1 hS1 => ?_
  rw [va_pl_set hD (hf _ hlv).1 e0] at hP1 hD1
  refine kk H1 locs1 (hp_R.upd ⟨hP1, hD1⟩ hf hi hlv ?_ fun k' hk' hne => ?_) hS1
  · rw [x_C_arr ⟨by decide, by decide⟩, xcc_self]; rfl
  · obtain ⟨a, b⟩ := k'
    have ha : a ≠ 23 := by
      rintro rfl
      rcases x_sorts hk' with w | w | w | w | w | w | w | w
      · exact hne (Prod.ext rfl w.2)
      all_goals (dsimp only at w; omega)
    have ek := xcc_kf X ha n
    by_cases h0 : a = 0
    · subst h0
      show (Sum.inr (0, x_fs ad (xcc X n)) : va_E) = Sum.inr (0, x_fs ad X)
      rw [x_fs_eq]
      intro j hj
      unfold x_fv
      by_cases hk : x_kd j = 0
      · rw [if_pos hk, if_pos hk, xcc_k X (by rintro rfl; exact absurd hk (by decide))]
      · rw [if_neg hk, if_neg hk]
        rfl
    · have e40 : ∀ j, x_tf (xcc X n) j = x_tf X j := fun j => by
        unfold x_tf
        simp only [xcc_k X (show 40 ≠ 23 by decide), xcc_k X (show 41 ≠ 23 by decide), xcc_k X (show 42 ≠ 23 by decide), xcc_k X (show 43 ≠ 23 by decide), xcc_k X (show 44 ≠ 23 by decide), xcc_k X (show 45 ≠ 23 by decide), xcc_k X (show 46 ≠ 23 by decide), xcc_k X (show 47 ≠ 23 by decide), xcc_k X (show 48 ≠ 23 by decide), xcc_k X (show 49 ≠ 23 by decide)]
      have e50 : ∀ j, x_te ad (xcc X n) j = x_te ad X j := fun j => by
        unfold x_te
        simp only [xcc_k X (show 50 ≠ 23 by decide), xcc_k X (show 51 ≠ 23 by decide)]
        rfl
      have e60 : ∀ t, x_tw ad (xcc X n) t = x_tw ad X t := fun t => by
        unfold x_tw
        simp only [xcc_k X (show 60 ≠ 23 by decide), xcc_k X (show 61 ≠ 23 by decide), xcc_k X (show 62 ≠ 23 by decide), xcc_k X (show 63 ≠ 23 by decide), xcc_k X (show 64 ≠ 23 by decide), xcc_k X (show 66 ≠ 23 by decide), xcc_k X (show 67 ≠ 23 by decide), xcc_k X (show 68 ≠ 23 by decide), xcc_k X (show 69 ≠ 23 by decide)]
      unfold x_C
      dsimp only
      simp only [if_neg h0, e40, e50, e60, ek]
      rfl
end XCPC
theorem x_tg0_o2 (S : XS) (x1 : Int32) (x2 : Int32) (hI : XInv S) (hat : 0 ≤ x1 ∧ x1 ≤ 4 ∧ x2 = x1 + 0) : x1 = x2 := by 
  have bl_x1 := Int32.toInt_lt x1
  have bl_x2 := Int32.toInt_lt x2
  try simp only [i_le, i_lt, i_eq, Int32.reduceToInt] at *
  first | (have e_0 := a32 (x := x1) (y := 0) (by (try simp only [Int32.reduceToInt]); omega); (try simp only [Int32.reduceToInt] at e_0)) | skip
  try simp only [Int32.reduceToInt] at *
  omega
def x_tg0_v18 (x3 : Int64) (x4 : Int64) (x5 : Int64) (x6 : Int64) : Int64 := (x_abs ((x5 * x4) - (x3 * x6)))
theorem x_tg0_o4 (S : XS) (x1 : Int32) (x2 : Int32) (hI : XInv S) (hat : 0 ≤ x1 ∧ x1 ≤ 4 ∧ x2 = x1 + 0) (c3 : (S.2.1 26) = 0) : 0 ≤ x2 ∧ x2 ≤ 4 := by 
  have bl_x1 := Int32.toInt_lt x1
  have bl_x2 := Int32.toInt_lt x2
  try simp only [i_le, i_lt, i_eq, Int32.reduceToInt] at *
  first | (have e_0 := a32 (x := x1) (y := 0) (by (try simp only [Int32.reduceToInt]); omega); (try simp only [Int32.reduceToInt] at e_0)) | skip
  try simp only [Int32.reduceToInt] at *
  omega
theorem x_tg0_o6 (S : XS) (x1 : Int32) (x2 : Int32) (x3 : Int64) (x4 : Int64) (x5 : Int64) (x6 : Int64) (hI : XInv S) (hat : 0 ≤ x1 ∧ x1 ≤ 4 ∧ x2 = x1 + 0) (c3 : ¬ (S.2.1 26) = 0) (c5 : ¬ ((S.2.1 27) * x6) ≤ ((x_tg0_v18 x3 x4 x5 x6) * (S.2.1 28))) : 0 ≤ x2 ∧ x2 ≤ 4 := by 
  have bl_x1 := Int32.toInt_lt x1
  have bl_x2 := Int32.toInt_lt x2
  try simp only [x_tg0_v18] at *
  try simp only [i_le, i_lt, i_eq, Int32.reduceToInt] at *
  first | (have e_0 := a32 (x := x1) (y := 0) (by (try simp only [Int32.reduceToInt]); omega); (try simp only [Int32.reduceToInt] at e_0)) | skip
  first | (have e_1 := m32 (x := (S.2.1 27)) (y := x6) (by (try simp only [Int32.reduceToInt]); omega); (try simp only [Int32.reduceToInt] at e_1)) | skip
  first | (have e_2 := m32 (x := x5) (y := x4) (by (try simp only [Int32.reduceToInt]); omega); (try simp only [Int32.reduceToInt] at e_2)) | skip
  first | (have e_3 := m32 (x := x3) (y := x6) (by (try simp only [Int32.reduceToInt]); omega); (try simp only [Int32.reduceToInt] at e_3)) | skip
  first | (have e_4 := s32 (x := (x5 * x4)) (y := (x3 * x6)) (by (try simp only [Int32.reduceToInt]); omega); (try simp only [Int32.reduceToInt] at e_4)) | skip
  first | (have e_5 := m32 (x := (x_abs ((x5 * x4) - (x3 * x6)))) (y := (S.2.1 28)) (by (try simp only [Int32.reduceToInt]); omega); (try simp only [Int32.reduceToInt] at e_5)) | skip
  try simp only [Int32.reduceToInt] at *
  omega
def x_tg0 (S : XS) (x1 : Int32) (x2 : Int32) (x3 : Int64) (x4 : Int64) (x5 : Int64) (x6 : Int64) : XS := (if (S.2.1 26) = 0 then (xu (xcc (xl (xl (xl (xl S 27 (x_tg0_v18 x3 x4 x5 x6)) 28 x6) 25 x5) 26 x6) x2) 22 0 x2) else (if ((S.2.1 27) * x6) ≤ ((x_tg0_v18 x3 x4 x5 x6) * (S.2.1 28)) then S else (xu (xcc (xl (xl (xl (xl S 27 (x_tg0_v18 x3 x4 x5 x6)) 28 x6) 25 x5) 26 x6) x2) 22 0 x2)))
theorem x_tg0_N (S : XS) (x1 : Int32) (x2 : Int32) (x3 : Int64) (x4 : Int64) (x5 : Int64) (x6 : Int64) : (x_tg0 S x1 x2 x3 x4 x5 x6).2.2.2 = S.2.2.2 := by
  unfold x_tg0
  refine ifI (P := fun (z : XS) => z.2.2.2 = S.2.2.2) (fun c3 => ?_) (fun c3 => ?_)
  · exact rfl
  · refine ifI (P := fun (z : XS) => z.2.2.2 = S.2.2.2) (fun c5 => ?_) (fun c5 => ?_)
    · exact rfl
    · exact rfl
theorem x_tg0_inv (S : XS) (x1 : Int32) (x2 : Int32) (x3 : Int64) (x4 : Int64) (x5 : Int64) (x6 : Int64) (hI : XInv S) (hat : 0 ≤ x1 ∧ x1 ≤ 4 ∧ x2 = x1 + 0) : XInv (x_tg0 S x1 x2 x3 x4 x5 x6) := by
  unfold x_tg0
  refine ifI (P := fun (z : XS) => XInv z) (fun c3 => ?_) (fun c3 => ?_)
  · exact (XInv_22 (XInv_xcc (XInv_xl (XInv_xl (XInv_xl (XInv_xl hI _ _) _ _) _ _) _ _) _) _ _ (x_tg0_o4 S x1 x2 hI hat c3))
  · refine ifI (P := fun (z : XS) => XInv z) (fun c5 => ?_) (fun c5 => ?_)
    · exact hI
    · exact (XInv_22 (XInv_xcc (XInv_xl (XInv_xl (XInv_xl (XInv_xl hI _ _) _ _) _ _) _ _) _) _ _ (x_tg0_o6 S x1 x2 x3 x4 x5 x6 hI hat c3 c5))
set_option maxHeartbeats 4000000 in
theorem xt_tg0 (l : Launch) (D : va_G) (d : Nat → ClassId) (A : Nat → Prop) (ad : XK → Nat) (S : XS) (x1 : Int32) (x2 : Int32) (x3 : Int64) (x4 : Int64) (x5 : Int64) (x6 : Int64) (hI : XInv S) (hat : 0 ≤ x1 ∧ x1 ≤ 4 ∧ x2 = x1 + 0) : XV l yX0_tryGears cX0_tryGears 14 (rm_ 1) D d A ad S [.ref (ad (0, 0)), .int x1, .int x2, .long x3, .long x4, .long x5, .long x6] (x_tg0 S x1 x2 x3 x4 x5 x6) := by
  refine x_startV RX0 rfl (by decide) (Nat.le_of_ble_eq_true rfl) ?_
  intro p e s m av below meth c ls Q X hrt hlk hl hR hQ
  have hx := X.1.1.1
  have hb := X.1.1.2.1
  have hown := X.1.1.2.2.2.1
  have hts := X.1.1.2.2.2.2
  have hS : va_S A s.heap s.heap [] := va_S.rf
  have hl : lv_has ls 14 [(0, .ref (ad (0, 0))), (1, .int x1), (2, .int x2), (3, .long x3), (5, .long x4), (7, .long x5), (9, .long x6)] := hl
  refine lv_iload_n hx hb dX0_tryGears_0 rfl (lv_at hl 1 rfl) ?_
  refine lv_iload_n hx hb dX0_tryGears_1 rfl (lv_at hl 2 rfl) ?_
  refine lv_icmp_ne (tgt := 91) hx hb dX0_tryGears_2 (by decide) (fun c1 => False.elim (by first | exact c1 (x_tg0_o2 S x1 x2 hI hat) | exact (x_tg0_o2 S x1 x2 hI hat) c1)) (fun _ => ?_)
  refine lv_lload hx hb dX0_tryGears_5 (lv_at hl 5 rfl) ?_
  refine lv_lload hx hb dX0_tryGears_7 (lv_at hl 4 rfl) ?_
  refine lv_lmul hx hb dX0_tryGears_9 ?_
  refine lv_lload_n hx hb dX0_tryGears_10 rfl (lv_at hl 3 rfl) ?_
  refine lv_lload hx hb dX0_tryGears_11 (lv_at hl 6 rfl) ?_
  refine lv_lmul hx hb dX0_tryGears_13 ?_
  refine lv_lsub hx hb dX0_tryGears_14 ?_
  refine s_cl X.1.1 (st_x_abs l ((x5 * x4) - (x3 * x6))) 1 (lw_S q947 q948 q74 q949) ⟨rfl, rfl⟩ (by decide +kernel) ⟨by decide, by decide⟩ ⟨by decide, by decide⟩ rfl hl.1 rfl (Nat.le_of_ble_eq_true rfl) dX0_tryGears_15 ?_
  refine lv_lstore (lv' := [(11, .long (x_tg0_v18 x3 x4 x5 x6)), (0, .ref (ad (0, 0))), (1, .int x1), (2, .int x2), (3, .long x3), (5, .long x4), (7, .long x5), (9, .long x6)]) hx hb dX0_tryGears_18 hl (by decide) rfl (fun ls hl => ?_)
  refine lv_aload_n hx hb dX0_tryGears_20 rfl (lv_at hl 1 rfl) ?_
  refine xg_l X.1 hR 26 (by decide) rfl q123 (v := S.2.1 26) rfl dX0_tryGears_21 ?_
  refine lv_lconst (v := 0) hx hb dX0_tryGears_24 (by decide) ?_
  refine hl_eq (tgt := 47) hx hb dX0_tryGears_25 dX0_tryGears_26 (by decide) (fun c3 => ?_) (fun c3 => ?_)
  · refine lv_aload_n hx hb dX0_tryGears_47 rfl (lv_at hl 1 rfl) ?_
    refine lv_lload hx hb dX0_tryGears_48 (lv_at hl 0 rfl) ?_
    refine xp_l X.1 hR hS 27 (by decide) rfl rfl rfl q124 dX0_tryGears_50 (fun H locs hR hS => ?_)
    refine lv_aload_n hx hb dX0_tryGears_53 rfl (lv_at hl 1 rfl) ?_
    refine lv_lload hx hb dX0_tryGears_54 (lv_at hl 7 rfl) ?_
    refine xp_l X.1 hR hS 28 (by decide) rfl rfl rfl q125 dX0_tryGears_56 (fun H locs hR hS => ?_)
    refine lv_aload_n hx hb dX0_tryGears_59 rfl (lv_at hl 1 rfl) ?_
    refine lv_lload hx hb dX0_tryGears_60 (lv_at hl 6 rfl) ?_
    refine xp_l X.1 hR hS 25 (by decide) rfl rfl rfl q122 dX0_tryGears_62 (fun H locs hR hS => ?_)
    refine lv_aload_n hx hb dX0_tryGears_65 rfl (lv_at hl 1 rfl) ?_
    refine lv_lload hx hb dX0_tryGears_66 (lv_at hl 7 rfl) ?_
    refine xp_l X.1 hR hS 26 (by decide) rfl rfl rfl q123 dX0_tryGears_68 (fun H locs hR hS => ?_)
    refine lv_aload_n hx hb dX0_tryGears_71 rfl (lv_at hl 1 rfl) ?_
    refine xg_a X.1 hR 24 (by decide) (by decide) q121 dX0_tryGears_72 ?_
    refine lv_iconst (v := 0) hx hb dX0_tryGears_75 (by decide) ?_
    refine lv_aload_n hx hb dX0_tryGears_76 rfl (lv_at hl 1 rfl) ?_
    refine xg_a X.1 hR 23 (by decide) (by decide) q120 dX0_tryGears_77 ?_
    refine lv_iconst (v := 0) hx hb dX0_tryGears_80 (by decide) ?_
    refine lv_iload_n hx hb dX0_tryGears_81 rfl (lv_at hl 3 rfl) ?_
    refine x_cpc X hR hS (x_tg0_o4 S x1 x2 hI hat c3) q343 ⟨by decide, by decide +kernel⟩ hl.1 dX0_tryGears_82 (fun H locs hR hS => ?_)
    refine lv_aload_n hx hb dX0_tryGears_85 rfl (lv_at hl 1 rfl) ?_
    refine lv_iload_n hx hb dX0_tryGears_86 rfl (lv_at hl 3 rfl) ?_
    refine xp_i X.1 hR hS 22 (by decide) rfl rfl rfl q119 dX0_tryGears_87 (fun H locs hR hS => ?_)
    exact x_rv hx hb hrt hlk hR hS hQ (if_pos c3) dX0_tryGears_90
  · refine lv_lload hx hb dX0_tryGears_29 (lv_at hl 0 rfl) ?_
    refine lv_aload_n hx hb dX0_tryGears_31 rfl (lv_at hl 1 rfl) ?_
    refine xg_l X.1 hR 28 (by decide) rfl q125 (v := S.2.1 28) rfl dX0_tryGears_32 ?_
    refine lv_lmul hx hb dX0_tryGears_35 ?_
    refine lv_aload_n hx hb dX0_tryGears_36 rfl (lv_at hl 1 rfl) ?_
    refine xg_l X.1 hR 27 (by decide) rfl q124 (v := S.2.1 27) rfl dX0_tryGears_37 ?_
    refine lv_lload hx hb dX0_tryGears_40 (lv_at hl 7 rfl) ?_
    refine lv_lmul hx hb dX0_tryGears_42 ?_
    refine hl_ge (tgt := 90) hx hb dX0_tryGears_43 dX0_tryGears_44 (by decide) (fun c5 => ?_) (fun c5 => ?_)
    · exact x_rv hx hb hrt hlk hR hS hQ (Eq.trans (if_neg c3) (if_pos c5)) dX0_tryGears_90
    · refine lv_aload_n hx hb dX0_tryGears_47 rfl (lv_at hl 1 rfl) ?_
      refine lv_lload hx hb dX0_tryGears_48 (lv_at hl 0 rfl) ?_
      refine xp_l X.1 hR hS 27 (by decide) rfl rfl rfl q124 dX0_tryGears_50 (fun H locs hR hS => ?_)
      refine lv_aload_n hx hb dX0_tryGears_53 rfl (lv_at hl 1 rfl) ?_
      refine lv_lload hx hb dX0_tryGears_54 (lv_at hl 7 rfl) ?_
      refine xp_l X.1 hR hS 28 (by decide) rfl rfl rfl q125 dX0_tryGears_56 (fun H locs hR hS => ?_)
      refine lv_aload_n hx hb dX0_tryGears_59 rfl (lv_at hl 1 rfl) ?_
      refine lv_lload hx hb dX0_tryGears_60 (lv_at hl 6 rfl) ?_
      refine xp_l X.1 hR hS 25 (by decide) rfl rfl rfl q122 dX0_tryGears_62 (fun H locs hR hS => ?_)
      refine lv_aload_n hx hb dX0_tryGears_65 rfl (lv_at hl 1 rfl) ?_
      refine lv_lload hx hb dX0_tryGears_66 (lv_at hl 7 rfl) ?_
      refine xp_l X.1 hR hS 26 (by decide) rfl rfl rfl q123 dX0_tryGears_68 (fun H locs hR hS => ?_)
      refine lv_aload_n hx hb dX0_tryGears_71 rfl (lv_at hl 1 rfl) ?_
      refine xg_a X.1 hR 24 (by decide) (by decide) q121 dX0_tryGears_72 ?_
      refine lv_iconst (v := 0) hx hb dX0_tryGears_75 (by decide) ?_
      refine lv_aload_n hx hb dX0_tryGears_76 rfl (lv_at hl 1 rfl) ?_
      refine xg_a X.1 hR 23 (by decide) (by decide) q120 dX0_tryGears_77 ?_
      refine lv_iconst (v := 0) hx hb dX0_tryGears_80 (by decide) ?_
      refine lv_iload_n hx hb dX0_tryGears_81 rfl (lv_at hl 3 rfl) ?_
      refine x_cpc X hR hS (x_tg0_o6 S x1 x2 x3 x4 x5 x6 hI hat c3 c5) q343 ⟨by decide, by decide +kernel⟩ hl.1 dX0_tryGears_82 (fun H locs hR hS => ?_)
      refine lv_aload_n hx hb dX0_tryGears_85 rfl (lv_at hl 1 rfl) ?_
      refine lv_iload_n hx hb dX0_tryGears_86 rfl (lv_at hl 3 rfl) ?_
      refine xp_i X.1 hR hS 22 (by decide) rfl rfl rfl q119 dX0_tryGears_87 (fun H locs hR hS => ?_)
      exact x_rv hx hb hrt hlk hR hS hQ (Eq.trans (if_neg c3) (if_neg c5)) dX0_tryGears_90
theorem x_tg1_o2 (S : XS) (x1 : Int32) (x2 : Int32) (hI : XInv S) (hat : 0 ≤ x1 ∧ x1 ≤ 3 ∧ x2 = x1 + 1) : ¬ x1 = x2 := by 
  have bl_x1 := Int32.toInt_lt x1
  have bl_x2 := Int32.toInt_lt x2
  try simp only [i_le, i_lt, i_eq, Int32.reduceToInt] at *
  first | (have e_0 := a32 (x := x1) (y := 1) (by (try simp only [Int32.reduceToInt]); omega); (try simp only [Int32.reduceToInt] at e_0)) | skip
  try simp only [Int32.reduceToInt] at *
  omega
theorem x_tg1_o5 (S : XS) (x1 : Int32) (x2 : Int32) (y11_94 : Int32) (S_94 : XS) (y13_109 : Int32) (hI : XInv S) (hat : 0 ≤ x1 ∧ x1 ≤ 3 ∧ x2 = x1 + 1) (hi11 : 0 ≤ y11_94) (hJ : XInv S_94) (hM : S_94.2.2.2 = S.2.2.2) (c3 : ¬ (S_94.1 20 0) ≤ y11_94) (hwm : 0 ≤ S_94.1 20 0 ∧ S_94.1 20 0 ≤ 12) (hi13 : 0 ≤ y13_109) (c4 : ¬ x1 ≤ y13_109) : 0 ≤ y13_109 ∧ y13_109 < 4 := by 
  have bl_x1 := Int32.toInt_lt x1
  have bl_x2 := Int32.toInt_lt x2
  have bl_y11_94 := Int32.toInt_lt y11_94
  have bl_y13_109 := Int32.toInt_lt y13_109
  try (have bu_0 := Int32.toInt_lt (S_94.1 20 0))
  try (have bu_1 := Int32.toInt_lt x1)
  try simp only [i_le, i_lt, i_eq, Int32.reduceToInt] at *
  first | (have e_0 := a32 (x := x1) (y := 1) (by (try simp only [Int32.reduceToInt]); omega); (try simp only [Int32.reduceToInt] at e_0)) | skip
  try simp only [Int32.reduceToInt] at *
  omega
def x_tg1_j134_s0 (y11_94 : Int32) (S_94 : XS) (y13_109 : Int32) : Int32 := (if (S_94.1 24 (Int32.toNatClampNeg y13_109)) = y11_94 then 0 else 1)
def x_tg1_v135 (y11_94 : Int32) (S_94 : XS) (y12_109 : Int32) (y13_109 : Int32) : Int32 := (y12_109 &&& (x_tg1_j134_s0 y11_94 S_94 y13_109))
def x_tg1_L109 (x1 : Int32) (y11_94 : Int32) (S_94 : XS) : Nat → Int32 → Int32 → Int32 × Int32
  | 0, y12_109, y13_109 => (y12_109, y13_109)
  | f109 + 1, y12_109, y13_109 => (if x1 ≤ y13_109 then (y12_109, y13_109) else (x_tg1_L109 x1 y11_94 S_94 f109 (x_tg1_v135 y11_94 S_94 y12_109 y13_109) (y13_109 + 1)))
theorem x_tg1_L109_s (x1 : Int32) (y11_94 : Int32) (S_94 : XS) (f109 : Nat) (y12_109 : Int32) (y13_109 : Int32) : x_tg1_L109 x1 y11_94 S_94 (f109 + 1) y12_109 y13_109 = (if x1 ≤ y13_109 then (y12_109, y13_109) else (x_tg1_L109 x1 y11_94 S_94 f109 (x_tg1_v135 y11_94 S_94 y12_109 y13_109) (y13_109 + 1))) := rfl
def x_tg1_R109 (x1 : Int32) (y11_94 : Int32) (S_94 : XS) : Int32 × Int32 := x_tg1_L109 x1 y11_94 S_94 (fz ((x1 - 0 : Int32).toNatClampNeg + 1)) 1 0
theorem x_tg1_o10 (S : XS) (x1 : Int32) (x2 : Int32) (y11_94 : Int32) (S_94 : XS) (hI : XInv S) (hat : 0 ≤ x1 ∧ x1 ≤ 3 ∧ x2 = x1 + 1) (hi11 : 0 ≤ y11_94) (hJ : XInv S_94) (hM : S_94.2.2.2 = S.2.2.2) (c3 : ¬ (S_94.1 20 0) ≤ y11_94) (hwm : 0 ≤ S_94.1 20 0 ∧ S_94.1 20 0 ≤ 12) (c9 : ¬ (x_tg1_R109 x1 y11_94 S_94).1 = 0) : 0 ≤ x1 ∧ x1 < 4 := by 
  have bl_x1 := Int32.toInt_lt x1
  have bl_x2 := Int32.toInt_lt x2
  have bl_y11_94 := Int32.toInt_lt y11_94
  try (have bu_0 := Int32.toInt_lt (S_94.1 20 0))
  try simp only [i_le, i_lt, i_eq, Int32.reduceToInt] at *
  first | (have e_0 := a32 (x := x1) (y := 1) (by (try simp only [Int32.reduceToInt]); omega); (try simp only [Int32.reduceToInt] at e_0)) | skip
  try simp only [Int32.reduceToInt] at *
  omega
theorem x_tg1_o12 (S : XS) (x1 : Int32) (x2 : Int32) (y11_94 : Int32) (S_94 : XS) (hI : XInv S) (hat : 0 ≤ x1 ∧ x1 ≤ 3 ∧ x2 = x1 + 1) (hi11 : 0 ≤ y11_94) (hJ : XInv S_94) (hM : S_94.2.2.2 = S.2.2.2) (c3 : ¬ (S_94.1 20 0) ≤ y11_94) (hwm : 0 ≤ S_94.1 20 0 ∧ S_94.1 20 0 ≤ 12) (c9 : ¬ (x_tg1_R109 x1 y11_94 S_94).1 = 0) (c11 : (x1 - x1 / 2 * 2) = 0) : 0 ≤ y11_94 ∧ y11_94 < 12 := by 
  have bl_x1 := Int32.toInt_lt x1
  have bl_x2 := Int32.toInt_lt x2
  have bl_y11_94 := Int32.toInt_lt y11_94
  try (have bu_0 := Int32.toInt_lt (S_94.1 20 0))
  try simp only [i_le, i_lt, i_eq, Int32.reduceToInt] at *
  first | (have e_0 := a32 (x := x1) (y := 1) (by (try simp only [Int32.reduceToInt]); omega); (try simp only [Int32.reduceToInt] at e_0)) | skip
  first | (have e_1 := d32 (x := x1) (y := 2) (by (try simp only [Int32.reduceToInt]); omega); (try simp only [Int32.reduceToInt] at e_1)) | skip
  first | (have e_2 := m32 (x := (x1 / 2)) (y := 2) (by (try simp only [Int32.reduceToInt]); omega); (try simp only [Int32.reduceToInt] at e_2)) | skip
  first | (have e_3 := s32 (x := x1) (y := (x1 / 2 * 2)) (by (try simp only [Int32.reduceToInt]); omega); (try simp only [Int32.reduceToInt] at e_3)) | skip
  try simp only [Int32.reduceToInt] at *
  omega
def x_tg1_j186_s0 (x1 : Int32) (x5 : Int64) (y11_94 : Int32) (S_94 : XS) : Int64 := (if (x1 - x1 / 2 * 2) = 0 then (x5 * (Int32.toInt64 (S_94.1 21 (Int32.toNatClampNeg y11_94)))) else x5)
theorem x_tg1_o16 (S : XS) (x1 : Int32) (x2 : Int32) (y11_94 : Int32) (S_94 : XS) (hI : XInv S) (hat : 0 ≤ x1 ∧ x1 ≤ 3 ∧ x2 = x1 + 1) (hi11 : 0 ≤ y11_94) (hJ : XInv S_94) (hM : S_94.2.2.2 = S.2.2.2) (c3 : ¬ (S_94.1 20 0) ≤ y11_94) (hwm : 0 ≤ S_94.1 20 0 ∧ S_94.1 20 0 ≤ 12) (c9 : ¬ (x_tg1_R109 x1 y11_94 S_94).1 = 0) (c15 : ¬ (x1 - x1 / 2 * 2) = 0) : 0 ≤ y11_94 ∧ y11_94 < 12 := by 
  have bl_x1 := Int32.toInt_lt x1
  have bl_x2 := Int32.toInt_lt x2
  have bl_y11_94 := Int32.toInt_lt y11_94
  try (have bu_0 := Int32.toInt_lt (S_94.1 20 0))
  try simp only [i_le, i_lt, i_eq, Int32.reduceToInt] at *
  first | (have e_0 := a32 (x := x1) (y := 1) (by (try simp only [Int32.reduceToInt]); omega); (try simp only [Int32.reduceToInt] at e_0)) | skip
  first | (have e_1 := d32 (x := x1) (y := 2) (by (try simp only [Int32.reduceToInt]); omega); (try simp only [Int32.reduceToInt] at e_1)) | skip
  first | (have e_2 := m32 (x := (x1 / 2)) (y := 2) (by (try simp only [Int32.reduceToInt]); omega); (try simp only [Int32.reduceToInt] at e_2)) | skip
  first | (have e_3 := s32 (x := x1) (y := (x1 / 2 * 2)) (by (try simp only [Int32.reduceToInt]); omega); (try simp only [Int32.reduceToInt] at e_3)) | skip
  try simp only [Int32.reduceToInt] at *
  omega
def x_tg1_j208_s0 (x1 : Int32) (x6 : Int64) (y11_94 : Int32) (S_94 : XS) : Int64 := (if (x1 - x1 / 2 * 2) = 0 then x6 else (x6 * (Int32.toInt64 (S_94.1 21 (Int32.toNatClampNeg y11_94)))))
theorem x_tg1_o19 (S : XS) (x1 : Int32) (x2 : Int32) (y11_94 : Int32) (S_94 : XS) (hI : XInv S) (hat : 0 ≤ x1 ∧ x1 ≤ 3 ∧ x2 = x1 + 1) (hi11 : 0 ≤ y11_94) (hJ : XInv S_94) (hM : S_94.2.2.2 = S.2.2.2) (c3 : ¬ (S_94.1 20 0) ≤ y11_94) (hwm : 0 ≤ S_94.1 20 0 ∧ S_94.1 20 0 ≤ 12) (c9 : ¬ (x_tg1_R109 x1 y11_94 S_94).1 = 0) : 0 ≤ (x1 + 1) ∧ (x1 + 1) ≤ 4 ∧ x2 = (x1 + 1) + 0 := by 
  have bl_x1 := Int32.toInt_lt x1
  have bl_x2 := Int32.toInt_lt x2
  have bl_y11_94 := Int32.toInt_lt y11_94
  try (have bu_0 := Int32.toInt_lt (S_94.1 20 0))
  try simp only [i_le, i_lt, i_eq, Int32.reduceToInt] at *
  first | (have e_0 := a32 (x := x1) (y := 1) (by (try simp only [Int32.reduceToInt]); omega); (try simp only [Int32.reduceToInt] at e_0)) | skip
  first | (have e_1 := a32 (x := (x1 + 1)) (y := 0) (by (try simp only [Int32.reduceToInt]); omega); (try simp only [Int32.reduceToInt] at e_1)) | skip
  try simp only [Int32.reduceToInt] at *
  omega
def x_tg1_j211_S (x1 : Int32) (x2 : Int32) (x3 : Int64) (x4 : Int64) (x5 : Int64) (x6 : Int64) (y11_94 : Int32) (S_94 : XS) : XS := (if (x_tg1_R109 x1 y11_94 S_94).1 = 0 then S_94 else (x_tg0 (xu S_94 24 (Int32.toNatClampNeg x1) y11_94) (x1 + 1) x2 x3 x4 (x_tg1_j186_s0 x1 x5 y11_94 S_94) (x_tg1_j208_s0 x1 x6 y11_94 S_94)))
theorem x_tg1_j211_S_N (x1 : Int32) (x2 : Int32) (x3 : Int64) (x4 : Int64) (x5 : Int64) (x6 : Int64) (y11_94 : Int32) (S_94 : XS) : (x_tg1_j211_S x1 x2 x3 x4 x5 x6 y11_94 S_94).2.2.2 = S_94.2.2.2 := by
  unfold x_tg1_j211_S
  refine ifI (P := fun (z : XS) => z.2.2.2 = S_94.2.2.2) (fun c9 => ?_) (fun c9 => ?_)
  · exact rfl
  · have hN208 : (x_tg0 (xu S_94 24 (Int32.toNatClampNeg x1) y11_94) (x1 + 1) x2 x3 x4 (x_tg1_j186_s0 x1 x5 y11_94 S_94) (x_tg1_j208_s0 x1 x6 y11_94 S_94)).2.2.2 = S_94.2.2.2 := x_tg0_N (xu S_94 24 (Int32.toNatClampNeg x1) y11_94) (x1 + 1) x2 x3 x4 (x_tg1_j186_s0 x1 x5 y11_94 S_94) (x_tg1_j208_s0 x1 x6 y11_94 S_94)
    exact hN208
theorem x_tg1_j211_S_I (S : XS) (x1 : Int32) (x2 : Int32) (x3 : Int64) (x4 : Int64) (x5 : Int64) (x6 : Int64) (y11_94 : Int32) (S_94 : XS) (hI : XInv S) (hat : 0 ≤ x1 ∧ x1 ≤ 3 ∧ x2 = x1 + 1) (hi11 : 0 ≤ y11_94) (hJ : XInv S_94) (hM : S_94.2.2.2 = S.2.2.2) (c3 : ¬ (S_94.1 20 0) ≤ y11_94) : XInv (x_tg1_j211_S x1 x2 x3 x4 x5 x6 y11_94 S_94) := by
  unfold x_tg1_j211_S
  refine ifI (P := XInv) (fun c9 => ?_) (fun c9 => ?_)
  · exact hJ
  · have hwm : 0 ≤ S_94.1 20 0 ∧ S_94.1 20 0 ≤ 12 := xi_wm hJ
    have hI208 : XInv (x_tg0 (xu S_94 24 (Int32.toNatClampNeg x1) y11_94) (x1 + 1) x2 x3 x4 (x_tg1_j186_s0 x1 x5 y11_94 S_94) (x_tg1_j208_s0 x1 x6 y11_94 S_94)) := x_tg0_inv (xu S_94 24 (Int32.toNatClampNeg x1) y11_94) (x1 + 1) x2 x3 x4 (x_tg1_j186_s0 x1 x5 y11_94 S_94) (x_tg1_j208_s0 x1 x6 y11_94 S_94) ((XInv_xu hJ _ _ _ (by decide))) (x_tg1_o19 S x1 x2 y11_94 S_94 hI hat hi11 hJ hM c3 hwm c9)
    exact hI208
def x_tg1_L94 (x1 : Int32) (x2 : Int32) (x3 : Int64) (x4 : Int64) (x5 : Int64) (x6 : Int64) : Nat → Int32 → XS → Int32 × XS
  | 0, y11_94, S_94 => (y11_94, S_94)
  | f94 + 1, y11_94, S_94 => (if (S_94.1 20 0) ≤ y11_94 then (y11_94, S_94) else (x_tg1_L94 x1 x2 x3 x4 x5 x6 f94 (y11_94 + 1) (x_tg1_j211_S x1 x2 x3 x4 x5 x6 y11_94 S_94)))
theorem x_tg1_L94_s (x1 : Int32) (x2 : Int32) (x3 : Int64) (x4 : Int64) (x5 : Int64) (x6 : Int64) (f94 : Nat) (y11_94 : Int32) (S_94 : XS) : x_tg1_L94 x1 x2 x3 x4 x5 x6 (f94 + 1) y11_94 S_94 = (if (S_94.1 20 0) ≤ y11_94 then (y11_94, S_94) else (x_tg1_L94 x1 x2 x3 x4 x5 x6 f94 (y11_94 + 1) (x_tg1_j211_S x1 x2 x3 x4 x5 x6 y11_94 S_94))) := rfl
def x_tg1_R94 (S : XS) (x1 : Int32) (x2 : Int32) (x3 : Int64) (x4 : Int64) (x5 : Int64) (x6 : Int64) : Int32 × XS := x_tg1_L94 x1 x2 x3 x4 x5 x6 (fz ((12 - 0 : Int32).toNatClampNeg + 1)) 0 S
theorem x_tg1_o22 (S : XS) (x1 : Int32) (x2 : Int32) (x3 : Int64) (x4 : Int64) (x5 : Int64) (x6 : Int64) (y11_94 : Int32) (S_94 : XS) (hI : XInv S) (hat : 0 ≤ x1 ∧ x1 ≤ 3 ∧ x2 = x1 + 1) (hi11 : 0 ≤ y11_94) (hJ : XInv S_94) (hM : S_94.2.2.2 = S.2.2.2) (c3 : ¬ (S_94.1 20 0) ≤ y11_94) (hwm : 0 ≤ S_94.1 20 0 ∧ S_94.1 20 0 ≤ 12) (hN_j211_S : (x_tg1_j211_S x1 x2 x3 x4 x5 x6 y11_94 S_94).2.2.2 = S_94.2.2.2) (hI_j211_S : XInv (x_tg1_j211_S x1 x2 x3 x4 x5 x6 y11_94 S_94)) : 0 ≤ (y11_94 + 1) := by 
  have bl_x1 := Int32.toInt_lt x1
  have bl_x2 := Int32.toInt_lt x2
  have bl_y11_94 := Int32.toInt_lt y11_94
  try (have bu_0 := Int32.toInt_lt (S_94.1 20 0))
  try simp only [i_le, i_lt, i_eq, Int32.reduceToInt] at *
  first | (have e_0 := a32 (x := x1) (y := 1) (by (try simp only [Int32.reduceToInt]); omega); (try simp only [Int32.reduceToInt] at e_0)) | skip
  first | (have e_1 := a32 (x := y11_94) (y := 1) (by (try simp only [Int32.reduceToInt]); omega); (try simp only [Int32.reduceToInt] at e_1)) | skip
  try simp only [Int32.reduceToInt] at *
  omega
theorem x_tg1_L94_P (S : XS) (x1 : Int32) (x2 : Int32) (x3 : Int64) (x4 : Int64) (x5 : Int64) (x6 : Int64) (hI : XInv S) (hat : 0 ≤ x1 ∧ x1 ≤ 3 ∧ x2 = x1 + 1) : ∀ (f94 : Nat) (y11_94 : Int32) (S_94 : XS), (0 ≤ y11_94) → (XInv S_94) → (S_94.2.2.2 = S.2.2.2) → (XInv (x_tg1_L94 x1 x2 x3 x4 x5 x6 f94 y11_94 S_94).2) ∧ ((x_tg1_L94 x1 x2 x3 x4 x5 x6 f94 y11_94 S_94).2.2.2.2 = S.2.2.2) := by
  intro f94
  induction f94 with
  | zero =>
    intro y11_94 S_94 hi11 hJ hM
    exact ⟨hJ, hM⟩
  | succ f94 ih =>
    intro y11_94 S_94 hi11 hJ hM
    rw [x_tg1_L94_s]
    refine ifI (P := fun (z : Int32 × XS) => (XInv z.2) ∧ (z.2.2.2.2 = S.2.2.2)) (fun c3 => ?_) (fun c3 => ?_)
    · exact ⟨hJ, hM⟩
    · have hwm : 0 ≤ S_94.1 20 0 ∧ S_94.1 20 0 ≤ 12 := xi_wm hJ
      have hN_j211_S : (x_tg1_j211_S x1 x2 x3 x4 x5 x6 y11_94 S_94).2.2.2 = S_94.2.2.2 := x_tg1_j211_S_N x1 x2 x3 x4 x5 x6 y11_94 S_94
      have hI_j211_S : XInv (x_tg1_j211_S x1 x2 x3 x4 x5 x6 y11_94 S_94) := x_tg1_j211_S_I S x1 x2 x3 x4 x5 x6 y11_94 S_94 hI hat hi11 hJ hM c3
      exact ih (y11_94 + 1) (x_tg1_j211_S x1 x2 x3 x4 x5 x6 y11_94 S_94) (x_tg1_o22 S x1 x2 x3 x4 x5 x6 y11_94 S_94 hI hat hi11 hJ hM c3 hwm hN_j211_S hI_j211_S) (hI_j211_S) ((hN_j211_S.trans hM))
theorem x_tg1_R94_P (S : XS) (x1 : Int32) (x2 : Int32) (x3 : Int64) (x4 : Int64) (x5 : Int64) (x6 : Int64) (hI : XInv S) (hat : 0 ≤ x1 ∧ x1 ≤ 3 ∧ x2 = x1 + 1) : (XInv (x_tg1_R94 S x1 x2 x3 x4 x5 x6).2) ∧ ((x_tg1_R94 S x1 x2 x3 x4 x5 x6).2.2.2.2 = S.2.2.2) := by
  unfold x_tg1_R94
  exact x_tg1_L94_P S x1 x2 x3 x4 x5 x6 hI hat (fz ((12 - 0 : Int32).toNatClampNeg + 1)) 0 S (by decide) (hI) (rfl)
theorem x_tg1_o23 (S : XS) (x1 : Int32) (x2 : Int32) (x3 : Int64) (x4 : Int64) (x5 : Int64) (x6 : Int64) (y11_94 : Int32) (S_94 : XS) (hI : XInv S) (hat : 0 ≤ x1 ∧ x1 ≤ 3 ∧ x2 = x1 + 1) (hi11 : 0 ≤ y11_94) (hJ : XInv S_94) (hM : S_94.2.2.2 = S.2.2.2) (c3 : ¬ (S_94.1 20 0) ≤ y11_94) (hwm : 0 ≤ S_94.1 20 0 ∧ S_94.1 20 0 ≤ 12) (hN_j211_S : (x_tg1_j211_S x1 x2 x3 x4 x5 x6 y11_94 S_94).2.2.2 = S_94.2.2.2) (hI_j211_S : XInv (x_tg1_j211_S x1 x2 x3 x4 x5 x6 y11_94 S_94)) : y11_94 < 12 := by 
  have bl_x1 := Int32.toInt_lt x1
  have bl_x2 := Int32.toInt_lt x2
  have bl_y11_94 := Int32.toInt_lt y11_94
  try (have bu_0 := Int32.toInt_lt (S_94.1 20 0))
  try simp only [i_le, i_lt, i_eq, Int32.reduceToInt] at *
  first | (have e_0 := a32 (x := x1) (y := 1) (by (try simp only [Int32.reduceToInt]); omega); (try simp only [Int32.reduceToInt] at e_0)) | skip
  try simp only [Int32.reduceToInt] at *
  omega
theorem x_tg1_o24 (S : XS) (x1 : Int32) (x2 : Int32) (y11_94 : Int32) (S_94 : XS) (y13_109 : Int32) (hI : XInv S) (hat : 0 ≤ x1 ∧ x1 ≤ 3 ∧ x2 = x1 + 1) (hi11 : 0 ≤ y11_94) (hJ : XInv S_94) (hM : S_94.2.2.2 = S.2.2.2) (c3 : ¬ (S_94.1 20 0) ≤ y11_94) (hwm : 0 ≤ S_94.1 20 0 ∧ S_94.1 20 0 ≤ 12) (hi13 : 0 ≤ y13_109) (c4 : ¬ x1 ≤ y13_109) : 0 ≤ (y13_109 + 1) := by 
  have bl_x1 := Int32.toInt_lt x1
  have bl_x2 := Int32.toInt_lt x2
  have bl_y11_94 := Int32.toInt_lt y11_94
  have bl_y13_109 := Int32.toInt_lt y13_109
  try (have bu_0 := Int32.toInt_lt (S_94.1 20 0))
  try (have bu_1 := Int32.toInt_lt x1)
  try simp only [i_le, i_lt, i_eq, Int32.reduceToInt] at *
  first | (have e_0 := a32 (x := x1) (y := 1) (by (try simp only [Int32.reduceToInt]); omega); (try simp only [Int32.reduceToInt] at e_0)) | skip
  first | (have e_1 := a32 (x := y13_109) (y := 1) (by (try simp only [Int32.reduceToInt]); omega); (try simp only [Int32.reduceToInt] at e_1)) | skip
  try simp only [Int32.reduceToInt] at *
  omega
theorem x_tg1_o25 (S : XS) (x1 : Int32) (x2 : Int32) (y11_94 : Int32) (S_94 : XS) (y13_109 : Int32) (hI : XInv S) (hat : 0 ≤ x1 ∧ x1 ≤ 3 ∧ x2 = x1 + 1) (hi11 : 0 ≤ y11_94) (hJ : XInv S_94) (hM : S_94.2.2.2 = S.2.2.2) (c3 : ¬ (S_94.1 20 0) ≤ y11_94) (hwm : 0 ≤ S_94.1 20 0 ∧ S_94.1 20 0 ≤ 12) (hi13 : 0 ≤ y13_109) (c4 : ¬ x1 ≤ y13_109) : y13_109 < x1 := by 
  have bl_x1 := Int32.toInt_lt x1
  have bl_x2 := Int32.toInt_lt x2
  have bl_y11_94 := Int32.toInt_lt y11_94
  have bl_y13_109 := Int32.toInt_lt y13_109
  try (have bu_0 := Int32.toInt_lt (S_94.1 20 0))
  try (have bu_1 := Int32.toInt_lt x1)
  try simp only [i_le, i_lt, i_eq, Int32.reduceToInt] at *
  first | (have e_0 := a32 (x := x1) (y := 1) (by (try simp only [Int32.reduceToInt]); omega); (try simp only [Int32.reduceToInt] at e_0)) | skip
  try simp only [Int32.reduceToInt] at *
  omega
def x_tg1 (S : XS) (x1 : Int32) (x2 : Int32) (x3 : Int64) (x4 : Int64) (x5 : Int64) (x6 : Int64) : XS := (x_tg1_R94 S x1 x2 x3 x4 x5 x6).2
theorem x_tg1_N (S : XS) (x1 : Int32) (x2 : Int32) (x3 : Int64) (x4 : Int64) (x5 : Int64) (x6 : Int64) (hI : XInv S) (hat : 0 ≤ x1 ∧ x1 ≤ 3 ∧ x2 = x1 + 1) : (x_tg1 S x1 x2 x3 x4 x5 x6).2.2.2 = S.2.2.2 := by
  unfold x_tg1
  have hMp : (x_tg1_R94 S x1 x2 x3 x4 x5 x6).2.2.2.2 = S.2.2.2 := (x_tg1_R94_P S x1 x2 x3 x4 x5 x6 hI hat).2
  exact hMp
theorem x_tg1_inv (S : XS) (x1 : Int32) (x2 : Int32) (x3 : Int64) (x4 : Int64) (x5 : Int64) (x6 : Int64) (hI : XInv S) (hat : 0 ≤ x1 ∧ x1 ≤ 3 ∧ x2 = x1 + 1) : XInv (x_tg1 S x1 x2 x3 x4 x5 x6) := by
  unfold x_tg1
  have hJp : XInv (x_tg1_R94 S x1 x2 x3 x4 x5 x6).2 := (x_tg1_R94_P S x1 x2 x3 x4 x5 x6 hI hat).1
  exact hJp
set_option maxHeartbeats 4000000 in
theorem xt_tg1 (l : Launch) (D : va_G) (d : Nat → ClassId) (A : Nat → Prop) (ad : XK → Nat) (S : XS) (x1 : Int32) (x2 : Int32) (x3 : Int64) (x4 : Int64) (x5 : Int64) (x6 : Int64) (hI : XInv S) (hat : 0 ≤ x1 ∧ x1 ≤ 3 ∧ x2 = x1 + 1) : XV l yX0_tryGears cX0_tryGears 14 (rm_ 2) D d A ad S [.ref (ad (0, 0)), .int x1, .int x2, .long x3, .long x4, .long x5, .long x6] (x_tg1 S x1 x2 x3 x4 x5 x6) := by
  refine x_startV RX0 rfl (by decide) (Nat.le_of_ble_eq_true rfl) ?_
  intro p e s m av below meth c ls Q X hrt hlk hl hR hQ
  have hx := X.1.1.1
  have hb := X.1.1.2.1
  have hown := X.1.1.2.2.2.1
  have hts := X.1.1.2.2.2.2
  have hS : va_S A s.heap s.heap [] := va_S.rf
  have hl : lv_has ls 14 [(0, .ref (ad (0, 0))), (1, .int x1), (2, .int x2), (3, .long x3), (5, .long x4), (7, .long x5), (9, .long x6)] := hl
  refine lv_iload_n hx hb dX0_tryGears_0 rfl (lv_at hl 1 rfl) ?_
  refine lv_iload_n hx hb dX0_tryGears_1 rfl (lv_at hl 2 rfl) ?_
  refine lv_icmp_ne (tgt := 91) hx hb dX0_tryGears_2 (by decide) (fun _ => ?_) (fun c1 => False.elim (by first | exact c1 (x_tg1_o2 S x1 x2 hI hat) | exact (x_tg1_o2 S x1 x2 hI hat) c1))
  refine lv_iconst (v := 0) hx hb dX0_tryGears_91 (by decide) ?_
  refine lv_istore (lv' := [(11, .int 0), (0, .ref (ad (0, 0))), (1, .int x1), (2, .int x2), (3, .long x3), (5, .long x4), (7, .long x5), (9, .long x6)]) hx hb dX0_tryGears_92 hl (by decide) rfl (fun ls hl => ?_)
  have K94 : ∀ (H : Heap) (locs : List Loc) (ls : Array Slot), (XInv (x_tg1_R94 S x1 x2 x3 x4 x5 x6).2) → ((x_tg1_R94 S x1 x2 x3 x4 x5 x6).2.2.2.2 = S.2.2.2) → XR D d A ad (x_tg1_R94 S x1 x2 x3 x4 x5 x6).2 H → va_S A s.heap H locs → lv_has ls 14 [(11, .int (x_tg1_R94 S x1 x2 x3 x4 x5 x6).1), (0, .ref (ad (0, 0))), (1, .int x1), (2, .int x2), (3, .long x3), (5, .long x4), (7, .long x5), (9, .long x6)] → W p l e (rm_ 2) s m av below meth c H locs 0 0 Q (F0 m 217 ls []) := by
    intro H locs ls hJp hMp hR hS hl
    exact x_rv hx hb hrt hlk hR hS hQ rfl dX0_tryGears_217
  have L94 : ∀ (f94 : Nat) (y11_94 : Int32) (S_94 : XS) (H : Heap) (locs : List Loc) (ls : Array Slot), (12 - y11_94 : Int32).toNatClampNeg < f94 → 0 ≤ y11_94 → XInv S_94 → S_94.2.2.2 = S.2.2.2 → x_tg1_L94 x1 x2 x3 x4 x5 x6 (f94) y11_94 S_94 = (x_tg1_R94 S x1 x2 x3 x4 x5 x6) → XR D d A ad S_94 H → va_S A s.heap H locs → lv_has ls 14 [(11, .int y11_94), (0, .ref (ad (0, 0))), (1, .int x1), (2, .int x2), (3, .long x3), (5, .long x4), (7, .long x5), (9, .long x6)] → W p l e (rm_ 2) s m av below meth c H locs 0 0 Q (F0 m 94 ls []) := by
    intro f94
    induction f94 with
    | zero => intro y11_94 S_94 H locs ls hf; exact absurd hf (Nat.not_lt_zero _)
    | succ f94 ih =>
      intro y11_94 S_94 H locs ls hf hi11 hJ hM hE hR hS hl
      refine lv_iload hx hb dX0_tryGears_94 (lv_at hl 0 rfl) ?_
      refine lv_aload_n hx hb dX0_tryGears_96 rfl (lv_at hl 1 rfl) ?_
      refine xg_i X.1 hR 20 (by decide) rfl q117 rfl dX0_tryGears_97 ?_
      refine lv_icmp_ge (tgt := 217) hx hb dX0_tryGears_100 (by decide) (fun c3 => ?_) (fun c3 => ?_)
      · have e0 : (x_tg1_R94 S x1 x2 x3 x4 x5 x6) = (y11_94, S_94) := Eq.trans (Eq.symm hE) (Eq.trans (x_tg1_L94_s _ _ _ _ _ _ _ _ _) (if_pos c3))
        exact K94 _ _ _ ((by rw [e0]; exact hJ)) ((by rw [e0]; exact hM)) (by rw [e0]; exact hR) hS (by rw [e0]; exact lv_sub hl [0, 1, 2, 3, 4, 5, 6, 7] rfl)
      · have hwm : 0 ≤ S_94.1 20 0 ∧ S_94.1 20 0 ≤ 12 := xi_wm hJ
        refine lv_iconst (v := 1) hx hb dX0_tryGears_103 (by decide) ?_
        refine lv_istore (lv' := [(12, .int 1), (11, .int y11_94), (0, .ref (ad (0, 0))), (1, .int x1), (2, .int x2), (3, .long x3), (5, .long x4), (7, .long x5), (9, .long x6)]) hx hb dX0_tryGears_104 hl (by decide) rfl (fun ls hl => ?_)
        refine lv_iconst (v := 0) hx hb dX0_tryGears_106 (by decide) ?_
        refine lv_istore (lv' := [(13, .int 0), (12, .int 1), (11, .int y11_94), (0, .ref (ad (0, 0))), (1, .int x1), (2, .int x2), (3, .long x3), (5, .long x4), (7, .long x5), (9, .long x6)]) hx hb dX0_tryGears_107 hl (by decide) rfl (fun ls hl => ?_)
        have K109 : ∀ (H : Heap) (locs : List Loc) (ls : Array Slot), XR D d A ad S_94 H → va_S A s.heap H locs → lv_has ls 14 [(13, .int (x_tg1_R109 x1 y11_94 S_94).2), (12, .int (x_tg1_R109 x1 y11_94 S_94).1), (11, .int y11_94), (0, .ref (ad (0, 0))), (1, .int x1), (2, .int x2), (3, .long x3), (5, .long x4), (7, .long x5), (9, .long x6)] → W p l e (rm_ 2) s m av below meth c H locs 0 0 Q (F0 m 143 ls []) := by
          intro H locs ls hR hS hl
          refine lv_iload hx hb dX0_tryGears_143 (lv_at hl 1 rfl) ?_
          have J21 : ∀ (w20 : XS) (H : Heap) (locs : List Loc) (ls : Array Slot), w20 = (x_tg1_j211_S x1 x2 x3 x4 x5 x6 y11_94 S_94) → XR D d A ad w20 H → va_S A s.heap H locs → lv_has ls 14 [(13, .int (x_tg1_R109 x1 y11_94 S_94).2), (12, .int (x_tg1_R109 x1 y11_94 S_94).1), (11, .int y11_94), (0, .ref (ad (0, 0))), (1, .int x1), (2, .int x2), (3, .long x3), (5, .long x4), (7, .long x5), (9, .long x6)] → W p l e (rm_ 2) s m av below meth c H locs 0 0 Q (F0 m 211 ls []) := by
            intro w20 H locs ls ew20 hR hS hl
            subst ew20
            have hN_j211_S : (x_tg1_j211_S x1 x2 x3 x4 x5 x6 y11_94 S_94).2.2.2 = S_94.2.2.2 := x_tg1_j211_S_N x1 x2 x3 x4 x5 x6 y11_94 S_94
            have hI_j211_S : XInv (x_tg1_j211_S x1 x2 x3 x4 x5 x6 y11_94 S_94) := x_tg1_j211_S_I S x1 x2 x3 x4 x5 x6 y11_94 S_94 hI hat hi11 hJ hM c3
            refine lv_iinc (v := (y11_94 + 1)) (lv' := [(11, .int (y11_94 + 1)), (13, .int (x_tg1_R109 x1 y11_94 S_94).2), (12, .int (x_tg1_R109 x1 y11_94 S_94).1), (0, .ref (ad (0, 0))), (1, .int x1), (2, .int x2), (3, .long x3), (5, .long x4), (7, .long x5), (9, .long x6)]) hx hb dX0_tryGears_211 hl (k := 2) rfl rfl (by decide) rfl (fun ls hl => ?_)
            refine lv_goto (tgt := 94) hx hb dX0_tryGears_214 (by decide) ?_
            exact ih (y11_94 + 1) (x_tg1_j211_S x1 x2 x3 x4 x5 x6 y11_94 S_94) _ _  _ (Nat.lt_of_lt_of_le (up_ hi11 (x_tg1_o23 S x1 x2 x3 x4 x5 x6 y11_94 S_94 hI hat hi11 hJ hM c3 hwm hN_j211_S hI_j211_S)) (Nat.le_of_lt_succ hf)) (x_tg1_o22 S x1 x2 x3 x4 x5 x6 y11_94 S_94 hI hat hi11 hJ hM c3 hwm hN_j211_S hI_j211_S) (hI_j211_S) ((hN_j211_S.trans hM)) (Eq.trans (Eq.symm (Eq.trans (x_tg1_L94_s _ _ _ _ _ _ _ _ _) (if_neg c3))) hE) hR hS (lv_sub hl [0, 3, 4, 5, 6, 7, 8, 9] rfl)
          refine lv_if_eq (tgt := 211) hx hb dX0_tryGears_145 (by decide) (fun c9 => ?_) (fun c9 => ?_)
          · exact J21 _ _ _  _ (Eq.symm (if_pos c9)) hR hS  (lv_sub hl [0, 1, 2, 3, 4, 5, 6, 7, 8, 9] rfl)
          · refine lv_aload_n hx hb dX0_tryGears_148 rfl (lv_at hl 3 rfl) ?_
            refine xg_a X.1 hR 24 (by decide) (by decide) q121 dX0_tryGears_149 ?_
            refine lv_iload_n hx hb dX0_tryGears_152 rfl (lv_at hl 4 rfl) ?_
            refine lv_iload hx hb dX0_tryGears_153 (lv_at hl 2 rfl) ?_
            refine x_st X.1 hR hS ⟨by decide, rfl⟩ (ixl 4 4 (by decide) rfl (x_tg1_o10 S x1 x2 y11_94 S_94 hI hat hi11 hJ hM c3 hwm c9)) dX0_tryGears_155 (fun H locs hR hS => ?_)
            refine lv_aload_n hx hb dX0_tryGears_156 rfl (lv_at hl 3 rfl) ?_
            refine lv_iload_n hx hb dX0_tryGears_157 rfl (lv_at hl 4 rfl) ?_
            refine lv_iconst (v := 1) hx hb dX0_tryGears_158 (by decide) ?_
            refine lv_iadd hx hb dX0_tryGears_159 ?_
            refine lv_iload_n hx hb dX0_tryGears_160 rfl (lv_at hl 5 rfl) ?_
            refine lv_lload_n hx hb dX0_tryGears_161 rfl (lv_at hl 6 rfl) ?_
            refine lv_lload hx hb dX0_tryGears_162 (lv_at hl 7 rfl) ?_
            refine lv_iload_n hx hb dX0_tryGears_164 rfl (lv_at hl 4 rfl) ?_
            refine lv_iconst (v := 2) hx hb dX0_tryGears_165 (by decide) ?_
            refine lv_irem hx hb dX0_tryGears_166 (by decide) ?_
            have J14 : ∀ (w13 : Int64) (H : Heap) (locs : List Loc) (ls : Array Slot), w13 = (x_tg1_j186_s0 x1 x5 y11_94 S_94) → XR D d A ad (xu S_94 24 (Int32.toNatClampNeg x1) y11_94) H → va_S A s.heap H locs → lv_has ls 14 [(13, .int (x_tg1_R109 x1 y11_94 S_94).2), (12, .int (x_tg1_R109 x1 y11_94 S_94).1), (11, .int y11_94), (0, .ref (ad (0, 0))), (1, .int x1), (2, .int x2), (3, .long x3), (5, .long x4), (7, .long x5), (9, .long x6)] → W p l e (rm_ 2) s m av below meth c H locs 0 0 Q (F0 m 186 ls [.long w13, .long x4, .long x3, .int x2, .int (x1 + 1), .ref (ad (0, 0))]) := by
              intro w13 H locs ls ew13 hR hS hl
              subst ew13
              refine lv_iload_n hx hb dX0_tryGears_186 rfl (lv_at hl 4 rfl) ?_
              refine lv_iconst (v := 2) hx hb dX0_tryGears_187 (by decide) ?_
              refine lv_irem hx hb dX0_tryGears_188 (by decide) ?_
              have J18 : ∀ (w17 : Int64) (H : Heap) (locs : List Loc) (ls : Array Slot), w17 = (x_tg1_j208_s0 x1 x6 y11_94 S_94) → XR D d A ad (xu S_94 24 (Int32.toNatClampNeg x1) y11_94) H → va_S A s.heap H locs → lv_has ls 14 [(13, .int (x_tg1_R109 x1 y11_94 S_94).2), (12, .int (x_tg1_R109 x1 y11_94 S_94).1), (11, .int y11_94), (0, .ref (ad (0, 0))), (1, .int x1), (2, .int x2), (3, .long x3), (5, .long x4), (7, .long x5), (9, .long x6)] → W p l e (rm_ 2) s m av below meth c H locs 0 0 Q (F0 m 208 ls [.long w17, .long (x_tg1_j186_s0 x1 x5 y11_94 S_94), .long x4, .long x3, .int x2, .int (x1 + 1), .ref (ad (0, 0))]) := by
                intro w17 H locs ls ew17 hR hS hl
                subst ew17
                refine x_bv hS (xr_V X hR x_lv0 (ci := 0) (fs := x_fs ad (xu S_94 24 (Int32.toNatClampNeg x1) y11_94)) rfl rfl (xt_tg0 l D d A ad (xu S_94 24 (Int32.toNatClampNeg x1) y11_94) (x1 + 1) x2 x3 x4 (x_tg1_j186_s0 x1 x5 y11_94 S_94) (x_tg1_j208_s0 x1 x6 y11_94 S_94) ((XInv_xu hJ _ _ _ (by decide))) (x_tg1_o19 S x1 x2 y11_94 S_94 hI hat hi11 hJ hM c3 hwm c9)) 6 (lw_V q1061 q1063 qs20 q58 q1064) ⟨rfl, rfl⟩ (by decide +kernel) ⟨by decide, by decide⟩ ⟨by decide, by decide⟩ rfl hl.1 rfl (Nat.le_of_ble_eq_true rfl) dX0_tryGears_208) (fun H locs hR hS => ?_)
                have hN208 : (x_tg0 (xu S_94 24 (Int32.toNatClampNeg x1) y11_94) (x1 + 1) x2 x3 x4 (x_tg1_j186_s0 x1 x5 y11_94 S_94) (x_tg1_j208_s0 x1 x6 y11_94 S_94)).2.2.2 = S_94.2.2.2 := x_tg0_N (xu S_94 24 (Int32.toNatClampNeg x1) y11_94) (x1 + 1) x2 x3 x4 (x_tg1_j186_s0 x1 x5 y11_94 S_94) (x_tg1_j208_s0 x1 x6 y11_94 S_94)
                have hI208 : XInv (x_tg0 (xu S_94 24 (Int32.toNatClampNeg x1) y11_94) (x1 + 1) x2 x3 x4 (x_tg1_j186_s0 x1 x5 y11_94 S_94) (x_tg1_j208_s0 x1 x6 y11_94 S_94)) := x_tg0_inv (xu S_94 24 (Int32.toNatClampNeg x1) y11_94) (x1 + 1) x2 x3 x4 (x_tg1_j186_s0 x1 x5 y11_94 S_94) (x_tg1_j208_s0 x1 x6 y11_94 S_94) ((XInv_xu hJ _ _ _ (by decide))) (x_tg1_o19 S x1 x2 y11_94 S_94 hI hat hi11 hJ hM c3 hwm c9)
                exact J21 _ _ _  _ (Eq.symm (if_neg c9)) hR hS  (lv_sub hl [0, 1, 2, 3, 4, 5, 6, 7, 8, 9] rfl)
              refine lv_if_ne (tgt := 197) hx hb dX0_tryGears_189 (by decide) (fun c15 => ?_) (fun c15 => ?_)
              · refine lv_lload hx hb dX0_tryGears_197 (lv_at hl 9 rfl) ?_
                refine lv_aload_n hx hb dX0_tryGears_199 rfl (lv_at hl 3 rfl) ?_
                refine xg_a X.1 hR 21 (by decide) (by decide) q118 dX0_tryGears_200 ?_
                refine lv_iload hx hb dX0_tryGears_203 (lv_at hl 2 rfl) ?_
                refine x_ld X.1 hR ⟨by decide, rfl⟩ (ixl 12 12 (by decide) rfl (x_tg1_o16 S x1 x2 y11_94 S_94 hI hat hi11 hJ hM c3 hwm c9 c15)) (v := S_94.1 21 (Int32.toNatClampNeg y11_94)) ((xu_k _ (by decide) _ _ _).trans rfl) dX0_tryGears_205 ?_
                refine lv_i2l hx hb dX0_tryGears_206 rfl ?_
                refine lv_lmul hx hb dX0_tryGears_207 ?_
                exact J18 _ _ _  _ (Eq.symm (if_neg c15)) hR hS  (lv_sub hl [0, 1, 2, 3, 4, 5, 6, 7, 8, 9] rfl)
              · refine lv_lload hx hb dX0_tryGears_192 (lv_at hl 9 rfl) ?_
                refine lv_goto (tgt := 208) hx hb dX0_tryGears_194 (by decide) ?_
                exact J18 _ _ _  _ (Eq.symm (if_pos c15)) hR hS  (lv_sub hl [0, 1, 2, 3, 4, 5, 6, 7, 8, 9] rfl)
            refine lv_if_ne (tgt := 184) hx hb dX0_tryGears_167 (by decide) (fun c11 => ?_) (fun c11 => ?_)
            · refine lv_lload hx hb dX0_tryGears_184 (lv_at hl 8 rfl) ?_
              exact J14 _ _ _  _ (Eq.symm (if_neg c11)) hR hS  (lv_sub hl [0, 1, 2, 3, 4, 5, 6, 7, 8, 9] rfl)
            · refine lv_lload hx hb dX0_tryGears_170 (lv_at hl 8 rfl) ?_
              refine lv_aload_n hx hb dX0_tryGears_172 rfl (lv_at hl 3 rfl) ?_
              refine xg_a X.1 hR 21 (by decide) (by decide) q118 dX0_tryGears_173 ?_
              refine lv_iload hx hb dX0_tryGears_176 (lv_at hl 2 rfl) ?_
              refine x_ld X.1 hR ⟨by decide, rfl⟩ (ixl 12 12 (by decide) rfl (x_tg1_o12 S x1 x2 y11_94 S_94 hI hat hi11 hJ hM c3 hwm c9 c11)) (v := S_94.1 21 (Int32.toNatClampNeg y11_94)) ((xu_k _ (by decide) _ _ _).trans rfl) dX0_tryGears_178 ?_
              refine lv_i2l hx hb dX0_tryGears_179 rfl ?_
              refine lv_lmul hx hb dX0_tryGears_180 ?_
              refine lv_goto (tgt := 186) hx hb dX0_tryGears_181 (by decide) ?_
              exact J14 _ _ _  _ (Eq.symm (if_pos c11)) hR hS  (lv_sub hl [0, 1, 2, 3, 4, 5, 6, 7, 8, 9] rfl)
        have L109 : ∀ (f109 : Nat) (y12_109 : Int32) (y13_109 : Int32) (H : Heap) (locs : List Loc) (ls : Array Slot), (x1 - y13_109 : Int32).toNatClampNeg < f109 → 0 ≤ y13_109 → x_tg1_L109 x1 y11_94 S_94 (f109) y12_109 y13_109 = (x_tg1_R109 x1 y11_94 S_94) → XR D d A ad S_94 H → va_S A s.heap H locs → lv_has ls 14 [(13, .int y13_109), (12, .int y12_109), (11, .int y11_94), (0, .ref (ad (0, 0))), (1, .int x1), (2, .int x2), (3, .long x3), (5, .long x4), (7, .long x5), (9, .long x6)] → W p l e (rm_ 2) s m av below meth c H locs 0 0 Q (F0 m 109 ls []) := by
          intro f109
          induction f109 with
          | zero => intro y12_109 y13_109 H locs ls hf; exact absurd hf (Nat.not_lt_zero _)
          | succ f109 ih =>
            intro y12_109 y13_109 H locs ls hf hi13 hE hR hS hl
            refine lv_iload hx hb dX0_tryGears_109 (lv_at hl 0 rfl) ?_
            refine lv_iload_n hx hb dX0_tryGears_111 rfl (lv_at hl 4 rfl) ?_
            refine lv_icmp_ge (tgt := 143) hx hb dX0_tryGears_112 (by decide) (fun c4 => ?_) (fun c4 => ?_)
            · have e0 : (x_tg1_R109 x1 y11_94 S_94) = (y12_109, y13_109) := Eq.trans (Eq.symm hE) (Eq.trans (x_tg1_L109_s _ _ _ _ _ _) (if_pos c4))
              exact K109 _ _ _ hR hS (by rw [e0]; exact lv_sub hl [0, 1, 2, 3, 4, 5, 6, 7, 8, 9] rfl)
            · refine lv_iload hx hb dX0_tryGears_115 (lv_at hl 1 rfl) ?_
              refine lv_aload_n hx hb dX0_tryGears_117 rfl (lv_at hl 3 rfl) ?_
              refine xg_a X.1 hR 24 (by decide) (by decide) q121 dX0_tryGears_118 ?_
              refine lv_iload hx hb dX0_tryGears_121 (lv_at hl 0 rfl) ?_
              refine x_ld X.1 hR ⟨by decide, rfl⟩ (ixl 4 4 (by decide) rfl (x_tg1_o5 S x1 x2 y11_94 S_94 y13_109 hI hat hi11 hJ hM c3 hwm hi13 c4)) (v := S_94.1 24 (Int32.toNatClampNeg y13_109)) rfl dX0_tryGears_123 ?_
              refine lv_iload hx hb dX0_tryGears_124 (lv_at hl 2 rfl) ?_
              have J8 : ∀ (w7 : Int32) (H : Heap) (locs : List Loc) (ls : Array Slot), w7 = (x_tg1_j134_s0 y11_94 S_94 y13_109) → XR D d A ad S_94 H → va_S A s.heap H locs → lv_has ls 14 [(13, .int y13_109), (12, .int y12_109), (11, .int y11_94), (0, .ref (ad (0, 0))), (1, .int x1), (2, .int x2), (3, .long x3), (5, .long x4), (7, .long x5), (9, .long x6)] → W p l e (rm_ 2) s m av below meth c H locs 0 0 Q (F0 m 134 ls [.int w7, .int y12_109]) := by
                intro w7 H locs ls ew7 hR hS hl
                subst ew7
                refine lv_iand hx hb dX0_tryGears_134 ?_
                refine lv_istore (lv' := [(12, .int (x_tg1_v135 y11_94 S_94 y12_109 y13_109)), (13, .int y13_109), (11, .int y11_94), (0, .ref (ad (0, 0))), (1, .int x1), (2, .int x2), (3, .long x3), (5, .long x4), (7, .long x5), (9, .long x6)]) hx hb dX0_tryGears_135 hl (by decide) rfl (fun ls hl => ?_)
                refine lv_iinc (v := (y13_109 + 1)) (lv' := [(13, .int (y13_109 + 1)), (12, .int (x_tg1_v135 y11_94 S_94 y12_109 y13_109)), (11, .int y11_94), (0, .ref (ad (0, 0))), (1, .int x1), (2, .int x2), (3, .long x3), (5, .long x4), (7, .long x5), (9, .long x6)]) hx hb dX0_tryGears_137 hl (k := 1) rfl rfl (by decide) rfl (fun ls hl => ?_)
                refine lv_goto (tgt := 109) hx hb dX0_tryGears_140 (by decide) ?_
                exact ih (x_tg1_v135 y11_94 S_94 y12_109 y13_109) (y13_109 + 1) _ _  _ (Nat.lt_of_lt_of_le (up_ hi13 (x_tg1_o25 S x1 x2 y11_94 S_94 y13_109 hI hat hi11 hJ hM c3 hwm hi13 c4)) (Nat.le_of_lt_succ hf)) (x_tg1_o24 S x1 x2 y11_94 S_94 y13_109 hI hat hi11 hJ hM c3 hwm hi13 c4) (Eq.trans (Eq.symm (Eq.trans (x_tg1_L109_s _ _ _ _ _ _) (if_neg c4))) hE) hR hS (lv_sub hl [0, 1, 2, 3, 4, 5, 6, 7, 8, 9] rfl)
              refine lv_icmp_eq (tgt := 133) hx hb dX0_tryGears_126 (by decide) (fun c6 => ?_) (fun c6 => ?_)
              · refine lv_iconst (v := 0) hx hb dX0_tryGears_133 (by decide) ?_
                exact J8 _ _ _  _ (Eq.symm (if_pos c6)) hR hS  (lv_sub hl [0, 1, 2, 3, 4, 5, 6, 7, 8, 9] rfl)
              · refine lv_iconst (v := 1) hx hb dX0_tryGears_129 (by decide) ?_
                refine lv_goto (tgt := 134) hx hb dX0_tryGears_130 (by decide) ?_
                exact J8 _ _ _  _ (Eq.symm (if_neg c6)) hR hS  (lv_sub hl [0, 1, 2, 3, 4, 5, 6, 7, 8, 9] rfl)
        exact L109 _ 1 0 _ _  _ (fz_lt _) (by decide) rfl hR hS (lv_sub hl [0, 1, 2, 3, 4, 5, 6, 7, 8, 9] rfl)
  exact L94 _ 0 S _ _  _ (fz_lt _) (by decide) (hI) (rfl) rfl hR hS (lv_sub hl [0, 1, 2, 3, 4, 5, 6, 7] rfl)
theorem x_tg2_o2 (S : XS) (x1 : Int32) (x2 : Int32) (hI : XInv S) (hat : 0 ≤ x1 ∧ x1 ≤ 2 ∧ x2 = x1 + 2) : ¬ x1 = x2 := by 
  have bl_x1 := Int32.toInt_lt x1
  have bl_x2 := Int32.toInt_lt x2
  try simp only [i_le, i_lt, i_eq, Int32.reduceToInt] at *
  first | (have e_0 := a32 (x := x1) (y := 2) (by (try simp only [Int32.reduceToInt]); omega); (try simp only [Int32.reduceToInt] at e_0)) | skip
  try simp only [Int32.reduceToInt] at *
  omega
theorem x_tg2_o5 (S : XS) (x1 : Int32) (x2 : Int32) (y11_94 : Int32) (S_94 : XS) (y13_109 : Int32) (hI : XInv S) (hat : 0 ≤ x1 ∧ x1 ≤ 2 ∧ x2 = x1 + 2) (hi11 : 0 ≤ y11_94) (hJ : XInv S_94) (hM : S_94.2.2.2 = S.2.2.2) (c3 : ¬ (S_94.1 20 0) ≤ y11_94) (hwm : 0 ≤ S_94.1 20 0 ∧ S_94.1 20 0 ≤ 12) (hi13 : 0 ≤ y13_109) (c4 : ¬ x1 ≤ y13_109) : 0 ≤ y13_109 ∧ y13_109 < 4 := by 
  have bl_x1 := Int32.toInt_lt x1
  have bl_x2 := Int32.toInt_lt x2
  have bl_y11_94 := Int32.toInt_lt y11_94
  have bl_y13_109 := Int32.toInt_lt y13_109
  try (have bu_0 := Int32.toInt_lt (S_94.1 20 0))
  try (have bu_1 := Int32.toInt_lt x1)
  try simp only [i_le, i_lt, i_eq, Int32.reduceToInt] at *
  first | (have e_0 := a32 (x := x1) (y := 2) (by (try simp only [Int32.reduceToInt]); omega); (try simp only [Int32.reduceToInt] at e_0)) | skip
  try simp only [Int32.reduceToInt] at *
  omega
def x_tg2_j134_s0 (y11_94 : Int32) (S_94 : XS) (y13_109 : Int32) : Int32 := (if (S_94.1 24 (Int32.toNatClampNeg y13_109)) = y11_94 then 0 else 1)
def x_tg2_v135 (y11_94 : Int32) (S_94 : XS) (y12_109 : Int32) (y13_109 : Int32) : Int32 := (y12_109 &&& (x_tg2_j134_s0 y11_94 S_94 y13_109))
def x_tg2_L109 (x1 : Int32) (y11_94 : Int32) (S_94 : XS) : Nat → Int32 → Int32 → Int32 × Int32
  | 0, y12_109, y13_109 => (y12_109, y13_109)
  | f109 + 1, y12_109, y13_109 => (if x1 ≤ y13_109 then (y12_109, y13_109) else (x_tg2_L109 x1 y11_94 S_94 f109 (x_tg2_v135 y11_94 S_94 y12_109 y13_109) (y13_109 + 1)))
theorem x_tg2_L109_s (x1 : Int32) (y11_94 : Int32) (S_94 : XS) (f109 : Nat) (y12_109 : Int32) (y13_109 : Int32) : x_tg2_L109 x1 y11_94 S_94 (f109 + 1) y12_109 y13_109 = (if x1 ≤ y13_109 then (y12_109, y13_109) else (x_tg2_L109 x1 y11_94 S_94 f109 (x_tg2_v135 y11_94 S_94 y12_109 y13_109) (y13_109 + 1))) := rfl
def x_tg2_R109 (x1 : Int32) (y11_94 : Int32) (S_94 : XS) : Int32 × Int32 := x_tg2_L109 x1 y11_94 S_94 (fz ((x1 - 0 : Int32).toNatClampNeg + 1)) 1 0
theorem x_tg2_o10 (S : XS) (x1 : Int32) (x2 : Int32) (y11_94 : Int32) (S_94 : XS) (hI : XInv S) (hat : 0 ≤ x1 ∧ x1 ≤ 2 ∧ x2 = x1 + 2) (hi11 : 0 ≤ y11_94) (hJ : XInv S_94) (hM : S_94.2.2.2 = S.2.2.2) (c3 : ¬ (S_94.1 20 0) ≤ y11_94) (hwm : 0 ≤ S_94.1 20 0 ∧ S_94.1 20 0 ≤ 12) (c9 : ¬ (x_tg2_R109 x1 y11_94 S_94).1 = 0) : 0 ≤ x1 ∧ x1 < 4 := by 
  have bl_x1 := Int32.toInt_lt x1
  have bl_x2 := Int32.toInt_lt x2
  have bl_y11_94 := Int32.toInt_lt y11_94
  try (have bu_0 := Int32.toInt_lt (S_94.1 20 0))
  try simp only [i_le, i_lt, i_eq, Int32.reduceToInt] at *
  first | (have e_0 := a32 (x := x1) (y := 2) (by (try simp only [Int32.reduceToInt]); omega); (try simp only [Int32.reduceToInt] at e_0)) | skip
  try simp only [Int32.reduceToInt] at *
  omega
theorem x_tg2_o12 (S : XS) (x1 : Int32) (x2 : Int32) (y11_94 : Int32) (S_94 : XS) (hI : XInv S) (hat : 0 ≤ x1 ∧ x1 ≤ 2 ∧ x2 = x1 + 2) (hi11 : 0 ≤ y11_94) (hJ : XInv S_94) (hM : S_94.2.2.2 = S.2.2.2) (c3 : ¬ (S_94.1 20 0) ≤ y11_94) (hwm : 0 ≤ S_94.1 20 0 ∧ S_94.1 20 0 ≤ 12) (c9 : ¬ (x_tg2_R109 x1 y11_94 S_94).1 = 0) (c11 : (x1 - x1 / 2 * 2) = 0) : 0 ≤ y11_94 ∧ y11_94 < 12 := by 
  have bl_x1 := Int32.toInt_lt x1
  have bl_x2 := Int32.toInt_lt x2
  have bl_y11_94 := Int32.toInt_lt y11_94
  try (have bu_0 := Int32.toInt_lt (S_94.1 20 0))
  try simp only [i_le, i_lt, i_eq, Int32.reduceToInt] at *
  first | (have e_0 := a32 (x := x1) (y := 2) (by (try simp only [Int32.reduceToInt]); omega); (try simp only [Int32.reduceToInt] at e_0)) | skip
  first | (have e_1 := d32 (x := x1) (y := 2) (by (try simp only [Int32.reduceToInt]); omega); (try simp only [Int32.reduceToInt] at e_1)) | skip
  first | (have e_2 := m32 (x := (x1 / 2)) (y := 2) (by (try simp only [Int32.reduceToInt]); omega); (try simp only [Int32.reduceToInt] at e_2)) | skip
  first | (have e_3 := s32 (x := x1) (y := (x1 / 2 * 2)) (by (try simp only [Int32.reduceToInt]); omega); (try simp only [Int32.reduceToInt] at e_3)) | skip
  try simp only [Int32.reduceToInt] at *
  omega
def x_tg2_j186_s0 (x1 : Int32) (x5 : Int64) (y11_94 : Int32) (S_94 : XS) : Int64 := (if (x1 - x1 / 2 * 2) = 0 then (x5 * (Int32.toInt64 (S_94.1 21 (Int32.toNatClampNeg y11_94)))) else x5)
theorem x_tg2_o16 (S : XS) (x1 : Int32) (x2 : Int32) (y11_94 : Int32) (S_94 : XS) (hI : XInv S) (hat : 0 ≤ x1 ∧ x1 ≤ 2 ∧ x2 = x1 + 2) (hi11 : 0 ≤ y11_94) (hJ : XInv S_94) (hM : S_94.2.2.2 = S.2.2.2) (c3 : ¬ (S_94.1 20 0) ≤ y11_94) (hwm : 0 ≤ S_94.1 20 0 ∧ S_94.1 20 0 ≤ 12) (c9 : ¬ (x_tg2_R109 x1 y11_94 S_94).1 = 0) (c15 : ¬ (x1 - x1 / 2 * 2) = 0) : 0 ≤ y11_94 ∧ y11_94 < 12 := by 
  have bl_x1 := Int32.toInt_lt x1
  have bl_x2 := Int32.toInt_lt x2
  have bl_y11_94 := Int32.toInt_lt y11_94
  try (have bu_0 := Int32.toInt_lt (S_94.1 20 0))
  try simp only [i_le, i_lt, i_eq, Int32.reduceToInt] at *
  first | (have e_0 := a32 (x := x1) (y := 2) (by (try simp only [Int32.reduceToInt]); omega); (try simp only [Int32.reduceToInt] at e_0)) | skip
  first | (have e_1 := d32 (x := x1) (y := 2) (by (try simp only [Int32.reduceToInt]); omega); (try simp only [Int32.reduceToInt] at e_1)) | skip
  first | (have e_2 := m32 (x := (x1 / 2)) (y := 2) (by (try simp only [Int32.reduceToInt]); omega); (try simp only [Int32.reduceToInt] at e_2)) | skip
  first | (have e_3 := s32 (x := x1) (y := (x1 / 2 * 2)) (by (try simp only [Int32.reduceToInt]); omega); (try simp only [Int32.reduceToInt] at e_3)) | skip
  try simp only [Int32.reduceToInt] at *
  omega
def x_tg2_j208_s0 (x1 : Int32) (x6 : Int64) (y11_94 : Int32) (S_94 : XS) : Int64 := (if (x1 - x1 / 2 * 2) = 0 then x6 else (x6 * (Int32.toInt64 (S_94.1 21 (Int32.toNatClampNeg y11_94)))))
theorem x_tg2_o19 (S : XS) (x1 : Int32) (x2 : Int32) (y11_94 : Int32) (S_94 : XS) (hI : XInv S) (hat : 0 ≤ x1 ∧ x1 ≤ 2 ∧ x2 = x1 + 2) (hi11 : 0 ≤ y11_94) (hJ : XInv S_94) (hM : S_94.2.2.2 = S.2.2.2) (c3 : ¬ (S_94.1 20 0) ≤ y11_94) (hwm : 0 ≤ S_94.1 20 0 ∧ S_94.1 20 0 ≤ 12) (c9 : ¬ (x_tg2_R109 x1 y11_94 S_94).1 = 0) : 0 ≤ (x1 + 1) ∧ (x1 + 1) ≤ 3 ∧ x2 = (x1 + 1) + 1 := by 
  have bl_x1 := Int32.toInt_lt x1
  have bl_x2 := Int32.toInt_lt x2
  have bl_y11_94 := Int32.toInt_lt y11_94
  try (have bu_0 := Int32.toInt_lt (S_94.1 20 0))
  try simp only [i_le, i_lt, i_eq, Int32.reduceToInt] at *
  first | (have e_0 := a32 (x := x1) (y := 2) (by (try simp only [Int32.reduceToInt]); omega); (try simp only [Int32.reduceToInt] at e_0)) | skip
  first | (have e_1 := a32 (x := x1) (y := 1) (by (try simp only [Int32.reduceToInt]); omega); (try simp only [Int32.reduceToInt] at e_1)) | skip
  first | (have e_2 := a32 (x := (x1 + 1)) (y := 1) (by (try simp only [Int32.reduceToInt]); omega); (try simp only [Int32.reduceToInt] at e_2)) | skip
  try simp only [Int32.reduceToInt] at *
  omega
def x_tg2_j211_S (x1 : Int32) (x2 : Int32) (x3 : Int64) (x4 : Int64) (x5 : Int64) (x6 : Int64) (y11_94 : Int32) (S_94 : XS) : XS := (if (x_tg2_R109 x1 y11_94 S_94).1 = 0 then S_94 else (x_tg1 (xu S_94 24 (Int32.toNatClampNeg x1) y11_94) (x1 + 1) x2 x3 x4 (x_tg2_j186_s0 x1 x5 y11_94 S_94) (x_tg2_j208_s0 x1 x6 y11_94 S_94)))
theorem x_tg2_j211_S_N (S : XS) (x1 : Int32) (x2 : Int32) (x3 : Int64) (x4 : Int64) (x5 : Int64) (x6 : Int64) (y11_94 : Int32) (S_94 : XS) (hI : XInv S) (hat : 0 ≤ x1 ∧ x1 ≤ 2 ∧ x2 = x1 + 2) (hi11 : 0 ≤ y11_94) (hJ : XInv S_94) (hM : S_94.2.2.2 = S.2.2.2) (c3 : ¬ (S_94.1 20 0) ≤ y11_94) : (x_tg2_j211_S x1 x2 x3 x4 x5 x6 y11_94 S_94).2.2.2 = S_94.2.2.2 := by
  unfold x_tg2_j211_S
  refine ifI (P := fun (z : XS) => z.2.2.2 = S_94.2.2.2) (fun c9 => ?_) (fun c9 => ?_)
  · exact rfl
  · have hwm : 0 ≤ S_94.1 20 0 ∧ S_94.1 20 0 ≤ 12 := xi_wm hJ
    have hN208 : (x_tg1 (xu S_94 24 (Int32.toNatClampNeg x1) y11_94) (x1 + 1) x2 x3 x4 (x_tg2_j186_s0 x1 x5 y11_94 S_94) (x_tg2_j208_s0 x1 x6 y11_94 S_94)).2.2.2 = S_94.2.2.2 := x_tg1_N (xu S_94 24 (Int32.toNatClampNeg x1) y11_94) (x1 + 1) x2 x3 x4 (x_tg2_j186_s0 x1 x5 y11_94 S_94) (x_tg2_j208_s0 x1 x6 y11_94 S_94) ((XInv_xu hJ _ _ _ (by decide))) (x_tg2_o19 S x1 x2 y11_94 S_94 hI hat hi11 hJ hM c3 hwm c9)
    exact hN208
theorem x_tg2_j211_S_I (S : XS) (x1 : Int32) (x2 : Int32) (x3 : Int64) (x4 : Int64) (x5 : Int64) (x6 : Int64) (y11_94 : Int32) (S_94 : XS) (hI : XInv S) (hat : 0 ≤ x1 ∧ x1 ≤ 2 ∧ x2 = x1 + 2) (hi11 : 0 ≤ y11_94) (hJ : XInv S_94) (hM : S_94.2.2.2 = S.2.2.2) (c3 : ¬ (S_94.1 20 0) ≤ y11_94) : XInv (x_tg2_j211_S x1 x2 x3 x4 x5 x6 y11_94 S_94) := by
  unfold x_tg2_j211_S
  refine ifI (P := XInv) (fun c9 => ?_) (fun c9 => ?_)
  · exact hJ
  · have hwm : 0 ≤ S_94.1 20 0 ∧ S_94.1 20 0 ≤ 12 := xi_wm hJ
    have hI208 : XInv (x_tg1 (xu S_94 24 (Int32.toNatClampNeg x1) y11_94) (x1 + 1) x2 x3 x4 (x_tg2_j186_s0 x1 x5 y11_94 S_94) (x_tg2_j208_s0 x1 x6 y11_94 S_94)) := x_tg1_inv (xu S_94 24 (Int32.toNatClampNeg x1) y11_94) (x1 + 1) x2 x3 x4 (x_tg2_j186_s0 x1 x5 y11_94 S_94) (x_tg2_j208_s0 x1 x6 y11_94 S_94) ((XInv_xu hJ _ _ _ (by decide))) (x_tg2_o19 S x1 x2 y11_94 S_94 hI hat hi11 hJ hM c3 hwm c9)
    exact hI208
def x_tg2_L94 (x1 : Int32) (x2 : Int32) (x3 : Int64) (x4 : Int64) (x5 : Int64) (x6 : Int64) : Nat → Int32 → XS → Int32 × XS
  | 0, y11_94, S_94 => (y11_94, S_94)
  | f94 + 1, y11_94, S_94 => (if (S_94.1 20 0) ≤ y11_94 then (y11_94, S_94) else (x_tg2_L94 x1 x2 x3 x4 x5 x6 f94 (y11_94 + 1) (x_tg2_j211_S x1 x2 x3 x4 x5 x6 y11_94 S_94)))
theorem x_tg2_L94_s (x1 : Int32) (x2 : Int32) (x3 : Int64) (x4 : Int64) (x5 : Int64) (x6 : Int64) (f94 : Nat) (y11_94 : Int32) (S_94 : XS) : x_tg2_L94 x1 x2 x3 x4 x5 x6 (f94 + 1) y11_94 S_94 = (if (S_94.1 20 0) ≤ y11_94 then (y11_94, S_94) else (x_tg2_L94 x1 x2 x3 x4 x5 x6 f94 (y11_94 + 1) (x_tg2_j211_S x1 x2 x3 x4 x5 x6 y11_94 S_94))) := rfl
def x_tg2_R94 (S : XS) (x1 : Int32) (x2 : Int32) (x3 : Int64) (x4 : Int64) (x5 : Int64) (x6 : Int64) : Int32 × XS := x_tg2_L94 x1 x2 x3 x4 x5 x6 (fz ((12 - 0 : Int32).toNatClampNeg + 1)) 0 S
theorem x_tg2_o22 (S : XS) (x1 : Int32) (x2 : Int32) (x3 : Int64) (x4 : Int64) (x5 : Int64) (x6 : Int64) (y11_94 : Int32) (S_94 : XS) (hI : XInv S) (hat : 0 ≤ x1 ∧ x1 ≤ 2 ∧ x2 = x1 + 2) (hi11 : 0 ≤ y11_94) (hJ : XInv S_94) (hM : S_94.2.2.2 = S.2.2.2) (c3 : ¬ (S_94.1 20 0) ≤ y11_94) (hwm : 0 ≤ S_94.1 20 0 ∧ S_94.1 20 0 ≤ 12) (hN_j211_S : (x_tg2_j211_S x1 x2 x3 x4 x5 x6 y11_94 S_94).2.2.2 = S_94.2.2.2) (hI_j211_S : XInv (x_tg2_j211_S x1 x2 x3 x4 x5 x6 y11_94 S_94)) : 0 ≤ (y11_94 + 1) := by 
  have bl_x1 := Int32.toInt_lt x1
  have bl_x2 := Int32.toInt_lt x2
  have bl_y11_94 := Int32.toInt_lt y11_94
  try (have bu_0 := Int32.toInt_lt (S_94.1 20 0))
  try simp only [i_le, i_lt, i_eq, Int32.reduceToInt] at *
  first | (have e_0 := a32 (x := x1) (y := 2) (by (try simp only [Int32.reduceToInt]); omega); (try simp only [Int32.reduceToInt] at e_0)) | skip
  first | (have e_1 := a32 (x := y11_94) (y := 1) (by (try simp only [Int32.reduceToInt]); omega); (try simp only [Int32.reduceToInt] at e_1)) | skip
  try simp only [Int32.reduceToInt] at *
  omega
theorem x_tg2_L94_P (S : XS) (x1 : Int32) (x2 : Int32) (x3 : Int64) (x4 : Int64) (x5 : Int64) (x6 : Int64) (hI : XInv S) (hat : 0 ≤ x1 ∧ x1 ≤ 2 ∧ x2 = x1 + 2) : ∀ (f94 : Nat) (y11_94 : Int32) (S_94 : XS), (0 ≤ y11_94) → (XInv S_94) → (S_94.2.2.2 = S.2.2.2) → (XInv (x_tg2_L94 x1 x2 x3 x4 x5 x6 f94 y11_94 S_94).2) ∧ ((x_tg2_L94 x1 x2 x3 x4 x5 x6 f94 y11_94 S_94).2.2.2.2 = S.2.2.2) := by
  intro f94
  induction f94 with
  | zero =>
    intro y11_94 S_94 hi11 hJ hM
    exact ⟨hJ, hM⟩
  | succ f94 ih =>
    intro y11_94 S_94 hi11 hJ hM
    rw [x_tg2_L94_s]
    refine ifI (P := fun (z : Int32 × XS) => (XInv z.2) ∧ (z.2.2.2.2 = S.2.2.2)) (fun c3 => ?_) (fun c3 => ?_)
    · exact ⟨hJ, hM⟩
    · have hwm : 0 ≤ S_94.1 20 0 ∧ S_94.1 20 0 ≤ 12 := xi_wm hJ
      have hN_j211_S : (x_tg2_j211_S x1 x2 x3 x4 x5 x6 y11_94 S_94).2.2.2 = S_94.2.2.2 := x_tg2_j211_S_N S x1 x2 x3 x4 x5 x6 y11_94 S_94 hI hat hi11 hJ hM c3
      have hI_j211_S : XInv (x_tg2_j211_S x1 x2 x3 x4 x5 x6 y11_94 S_94) := x_tg2_j211_S_I S x1 x2 x3 x4 x5 x6 y11_94 S_94 hI hat hi11 hJ hM c3
      exact ih (y11_94 + 1) (x_tg2_j211_S x1 x2 x3 x4 x5 x6 y11_94 S_94) (x_tg2_o22 S x1 x2 x3 x4 x5 x6 y11_94 S_94 hI hat hi11 hJ hM c3 hwm hN_j211_S hI_j211_S) (hI_j211_S) ((hN_j211_S.trans hM))
theorem x_tg2_R94_P (S : XS) (x1 : Int32) (x2 : Int32) (x3 : Int64) (x4 : Int64) (x5 : Int64) (x6 : Int64) (hI : XInv S) (hat : 0 ≤ x1 ∧ x1 ≤ 2 ∧ x2 = x1 + 2) : (XInv (x_tg2_R94 S x1 x2 x3 x4 x5 x6).2) ∧ ((x_tg2_R94 S x1 x2 x3 x4 x5 x6).2.2.2.2 = S.2.2.2) := by
  unfold x_tg2_R94
  exact x_tg2_L94_P S x1 x2 x3 x4 x5 x6 hI hat (fz ((12 - 0 : Int32).toNatClampNeg + 1)) 0 S (by decide) (hI) (rfl)
theorem x_tg2_o23 (S : XS) (x1 : Int32) (x2 : Int32) (x3 : Int64) (x4 : Int64) (x5 : Int64) (x6 : Int64) (y11_94 : Int32) (S_94 : XS) (hI : XInv S) (hat : 0 ≤ x1 ∧ x1 ≤ 2 ∧ x2 = x1 + 2) (hi11 : 0 ≤ y11_94) (hJ : XInv S_94) (hM : S_94.2.2.2 = S.2.2.2) (c3 : ¬ (S_94.1 20 0) ≤ y11_94) (hwm : 0 ≤ S_94.1 20 0 ∧ S_94.1 20 0 ≤ 12) (hN_j211_S : (x_tg2_j211_S x1 x2 x3 x4 x5 x6 y11_94 S_94).2.2.2 = S_94.2.2.2) (hI_j211_S : XInv (x_tg2_j211_S x1 x2 x3 x4 x5 x6 y11_94 S_94)) : y11_94 < 12 := by 
  have bl_x1 := Int32.toInt_lt x1
  have bl_x2 := Int32.toInt_lt x2
  have bl_y11_94 := Int32.toInt_lt y11_94
  try (have bu_0 := Int32.toInt_lt (S_94.1 20 0))
  try simp only [i_le, i_lt, i_eq, Int32.reduceToInt] at *
  first | (have e_0 := a32 (x := x1) (y := 2) (by (try simp only [Int32.reduceToInt]); omega); (try simp only [Int32.reduceToInt] at e_0)) | skip
  try simp only [Int32.reduceToInt] at *
  omega
theorem x_tg2_o24 (S : XS) (x1 : Int32) (x2 : Int32) (y11_94 : Int32) (S_94 : XS) (y13_109 : Int32) (hI : XInv S) (hat : 0 ≤ x1 ∧ x1 ≤ 2 ∧ x2 = x1 + 2) (hi11 : 0 ≤ y11_94) (hJ : XInv S_94) (hM : S_94.2.2.2 = S.2.2.2) (c3 : ¬ (S_94.1 20 0) ≤ y11_94) (hwm : 0 ≤ S_94.1 20 0 ∧ S_94.1 20 0 ≤ 12) (hi13 : 0 ≤ y13_109) (c4 : ¬ x1 ≤ y13_109) : 0 ≤ (y13_109 + 1) := by 
  have bl_x1 := Int32.toInt_lt x1
  have bl_x2 := Int32.toInt_lt x2
  have bl_y11_94 := Int32.toInt_lt y11_94
  have bl_y13_109 := Int32.toInt_lt y13_109
  try (have bu_0 := Int32.toInt_lt (S_94.1 20 0))
  try (have bu_1 := Int32.toInt_lt x1)
  try simp only [i_le, i_lt, i_eq, Int32.reduceToInt] at *
  first | (have e_0 := a32 (x := x1) (y := 2) (by (try simp only [Int32.reduceToInt]); omega); (try simp only [Int32.reduceToInt] at e_0)) | skip
  first | (have e_1 := a32 (x := y13_109) (y := 1) (by (try simp only [Int32.reduceToInt]); omega); (try simp only [Int32.reduceToInt] at e_1)) | skip
  try simp only [Int32.reduceToInt] at *
  omega
theorem x_tg2_o25 (S : XS) (x1 : Int32) (x2 : Int32) (y11_94 : Int32) (S_94 : XS) (y13_109 : Int32) (hI : XInv S) (hat : 0 ≤ x1 ∧ x1 ≤ 2 ∧ x2 = x1 + 2) (hi11 : 0 ≤ y11_94) (hJ : XInv S_94) (hM : S_94.2.2.2 = S.2.2.2) (c3 : ¬ (S_94.1 20 0) ≤ y11_94) (hwm : 0 ≤ S_94.1 20 0 ∧ S_94.1 20 0 ≤ 12) (hi13 : 0 ≤ y13_109) (c4 : ¬ x1 ≤ y13_109) : y13_109 < x1 := by 
  have bl_x1 := Int32.toInt_lt x1
  have bl_x2 := Int32.toInt_lt x2
  have bl_y11_94 := Int32.toInt_lt y11_94
  have bl_y13_109 := Int32.toInt_lt y13_109
  try (have bu_0 := Int32.toInt_lt (S_94.1 20 0))
  try (have bu_1 := Int32.toInt_lt x1)
  try simp only [i_le, i_lt, i_eq, Int32.reduceToInt] at *
  first | (have e_0 := a32 (x := x1) (y := 2) (by (try simp only [Int32.reduceToInt]); omega); (try simp only [Int32.reduceToInt] at e_0)) | skip
  try simp only [Int32.reduceToInt] at *
  omega
def x_tg2 (S : XS) (x1 : Int32) (x2 : Int32) (x3 : Int64) (x4 : Int64) (x5 : Int64) (x6 : Int64) : XS := (x_tg2_R94 S x1 x2 x3 x4 x5 x6).2
theorem x_tg2_N (S : XS) (x1 : Int32) (x2 : Int32) (x3 : Int64) (x4 : Int64) (x5 : Int64) (x6 : Int64) (hI : XInv S) (hat : 0 ≤ x1 ∧ x1 ≤ 2 ∧ x2 = x1 + 2) : (x_tg2 S x1 x2 x3 x4 x5 x6).2.2.2 = S.2.2.2 := by
  unfold x_tg2
  have hMp : (x_tg2_R94 S x1 x2 x3 x4 x5 x6).2.2.2.2 = S.2.2.2 := (x_tg2_R94_P S x1 x2 x3 x4 x5 x6 hI hat).2
  exact hMp
theorem x_tg2_inv (S : XS) (x1 : Int32) (x2 : Int32) (x3 : Int64) (x4 : Int64) (x5 : Int64) (x6 : Int64) (hI : XInv S) (hat : 0 ≤ x1 ∧ x1 ≤ 2 ∧ x2 = x1 + 2) : XInv (x_tg2 S x1 x2 x3 x4 x5 x6) := by
  unfold x_tg2
  have hJp : XInv (x_tg2_R94 S x1 x2 x3 x4 x5 x6).2 := (x_tg2_R94_P S x1 x2 x3 x4 x5 x6 hI hat).1
  exact hJp
set_option maxHeartbeats 4000000 in
theorem xt_tg2 (l : Launch) (D : va_G) (d : Nat → ClassId) (A : Nat → Prop) (ad : XK → Nat) (S : XS) (x1 : Int32) (x2 : Int32) (x3 : Int64) (x4 : Int64) (x5 : Int64) (x6 : Int64) (hI : XInv S) (hat : 0 ≤ x1 ∧ x1 ≤ 2 ∧ x2 = x1 + 2) : XV l yX0_tryGears cX0_tryGears 14 (rm_ 3) D d A ad S [.ref (ad (0, 0)), .int x1, .int x2, .long x3, .long x4, .long x5, .long x6] (x_tg2 S x1 x2 x3 x4 x5 x6) := by
  refine x_startV RX0 rfl (by decide) (Nat.le_of_ble_eq_true rfl) ?_
  intro p e s m av below meth c ls Q X hrt hlk hl hR hQ
  have hx := X.1.1.1
  have hb := X.1.1.2.1
  have hown := X.1.1.2.2.2.1
  have hts := X.1.1.2.2.2.2
  have hS : va_S A s.heap s.heap [] := va_S.rf
  have hl : lv_has ls 14 [(0, .ref (ad (0, 0))), (1, .int x1), (2, .int x2), (3, .long x3), (5, .long x4), (7, .long x5), (9, .long x6)] := hl
  refine lv_iload_n hx hb dX0_tryGears_0 rfl (lv_at hl 1 rfl) ?_
  refine lv_iload_n hx hb dX0_tryGears_1 rfl (lv_at hl 2 rfl) ?_
  refine lv_icmp_ne (tgt := 91) hx hb dX0_tryGears_2 (by decide) (fun _ => ?_) (fun c1 => False.elim (by first | exact c1 (x_tg2_o2 S x1 x2 hI hat) | exact (x_tg2_o2 S x1 x2 hI hat) c1))
  refine lv_iconst (v := 0) hx hb dX0_tryGears_91 (by decide) ?_
  refine lv_istore (lv' := [(11, .int 0), (0, .ref (ad (0, 0))), (1, .int x1), (2, .int x2), (3, .long x3), (5, .long x4), (7, .long x5), (9, .long x6)]) hx hb dX0_tryGears_92 hl (by decide) rfl (fun ls hl => ?_)
  have K94 : ∀ (H : Heap) (locs : List Loc) (ls : Array Slot), (XInv (x_tg2_R94 S x1 x2 x3 x4 x5 x6).2) → ((x_tg2_R94 S x1 x2 x3 x4 x5 x6).2.2.2.2 = S.2.2.2) → XR D d A ad (x_tg2_R94 S x1 x2 x3 x4 x5 x6).2 H → va_S A s.heap H locs → lv_has ls 14 [(11, .int (x_tg2_R94 S x1 x2 x3 x4 x5 x6).1), (0, .ref (ad (0, 0))), (1, .int x1), (2, .int x2), (3, .long x3), (5, .long x4), (7, .long x5), (9, .long x6)] → W p l e (rm_ 3) s m av below meth c H locs 0 0 Q (F0 m 217 ls []) := by
    intro H locs ls hJp hMp hR hS hl
    exact x_rv hx hb hrt hlk hR hS hQ rfl dX0_tryGears_217
  have L94 : ∀ (f94 : Nat) (y11_94 : Int32) (S_94 : XS) (H : Heap) (locs : List Loc) (ls : Array Slot), (12 - y11_94 : Int32).toNatClampNeg < f94 → 0 ≤ y11_94 → XInv S_94 → S_94.2.2.2 = S.2.2.2 → x_tg2_L94 x1 x2 x3 x4 x5 x6 (f94) y11_94 S_94 = (x_tg2_R94 S x1 x2 x3 x4 x5 x6) → XR D d A ad S_94 H → va_S A s.heap H locs → lv_has ls 14 [(11, .int y11_94), (0, .ref (ad (0, 0))), (1, .int x1), (2, .int x2), (3, .long x3), (5, .long x4), (7, .long x5), (9, .long x6)] → W p l e (rm_ 3) s m av below meth c H locs 0 0 Q (F0 m 94 ls []) := by
    intro f94
    induction f94 with
    | zero => intro y11_94 S_94 H locs ls hf; exact absurd hf (Nat.not_lt_zero _)
    | succ f94 ih =>
      intro y11_94 S_94 H locs ls hf hi11 hJ hM hE hR hS hl
      refine lv_iload hx hb dX0_tryGears_94 (lv_at hl 0 rfl) ?_
      refine lv_aload_n hx hb dX0_tryGears_96 rfl (lv_at hl 1 rfl) ?_
      refine xg_i X.1 hR 20 (by decide) rfl q117 rfl dX0_tryGears_97 ?_
      refine lv_icmp_ge (tgt := 217) hx hb dX0_tryGears_100 (by decide) (fun c3 => ?_) (fun c3 => ?_)
      · have e0 : (x_tg2_R94 S x1 x2 x3 x4 x5 x6) = (y11_94, S_94) := Eq.trans (Eq.symm hE) (Eq.trans (x_tg2_L94_s _ _ _ _ _ _ _ _ _) (if_pos c3))
        exact K94 _ _ _ ((by rw [e0]; exact hJ)) ((by rw [e0]; exact hM)) (by rw [e0]; exact hR) hS (by rw [e0]; exact lv_sub hl [0, 1, 2, 3, 4, 5, 6, 7] rfl)
      · have hwm : 0 ≤ S_94.1 20 0 ∧ S_94.1 20 0 ≤ 12 := xi_wm hJ
        refine lv_iconst (v := 1) hx hb dX0_tryGears_103 (by decide) ?_
        refine lv_istore (lv' := [(12, .int 1), (11, .int y11_94), (0, .ref (ad (0, 0))), (1, .int x1), (2, .int x2), (3, .long x3), (5, .long x4), (7, .long x5), (9, .long x6)]) hx hb dX0_tryGears_104 hl (by decide) rfl (fun ls hl => ?_)
        refine lv_iconst (v := 0) hx hb dX0_tryGears_106 (by decide) ?_
        refine lv_istore (lv' := [(13, .int 0), (12, .int 1), (11, .int y11_94), (0, .ref (ad (0, 0))), (1, .int x1), (2, .int x2), (3, .long x3), (5, .long x4), (7, .long x5), (9, .long x6)]) hx hb dX0_tryGears_107 hl (by decide) rfl (fun ls hl => ?_)
        have K109 : ∀ (H : Heap) (locs : List Loc) (ls : Array Slot), XR D d A ad S_94 H → va_S A s.heap H locs → lv_has ls 14 [(13, .int (x_tg2_R109 x1 y11_94 S_94).2), (12, .int (x_tg2_R109 x1 y11_94 S_94).1), (11, .int y11_94), (0, .ref (ad (0, 0))), (1, .int x1), (2, .int x2), (3, .long x3), (5, .long x4), (7, .long x5), (9, .long x6)] → W p l e (rm_ 3) s m av below meth c H locs 0 0 Q (F0 m 143 ls []) := by
          intro H locs ls hR hS hl
          refine lv_iload hx hb dX0_tryGears_143 (lv_at hl 1 rfl) ?_
          have J21 : ∀ (w20 : XS) (H : Heap) (locs : List Loc) (ls : Array Slot), w20 = (x_tg2_j211_S x1 x2 x3 x4 x5 x6 y11_94 S_94) → XR D d A ad w20 H → va_S A s.heap H locs → lv_has ls 14 [(13, .int (x_tg2_R109 x1 y11_94 S_94).2), (12, .int (x_tg2_R109 x1 y11_94 S_94).1), (11, .int y11_94), (0, .ref (ad (0, 0))), (1, .int x1), (2, .int x2), (3, .long x3), (5, .long x4), (7, .long x5), (9, .long x6)] → W p l e (rm_ 3) s m av below meth c H locs 0 0 Q (F0 m 211 ls []) := by
            intro w20 H locs ls ew20 hR hS hl
            subst ew20
            have hN_j211_S : (x_tg2_j211_S x1 x2 x3 x4 x5 x6 y11_94 S_94).2.2.2 = S_94.2.2.2 := x_tg2_j211_S_N S x1 x2 x3 x4 x5 x6 y11_94 S_94 hI hat hi11 hJ hM c3
            have hI_j211_S : XInv (x_tg2_j211_S x1 x2 x3 x4 x5 x6 y11_94 S_94) := x_tg2_j211_S_I S x1 x2 x3 x4 x5 x6 y11_94 S_94 hI hat hi11 hJ hM c3
            refine lv_iinc (v := (y11_94 + 1)) (lv' := [(11, .int (y11_94 + 1)), (13, .int (x_tg2_R109 x1 y11_94 S_94).2), (12, .int (x_tg2_R109 x1 y11_94 S_94).1), (0, .ref (ad (0, 0))), (1, .int x1), (2, .int x2), (3, .long x3), (5, .long x4), (7, .long x5), (9, .long x6)]) hx hb dX0_tryGears_211 hl (k := 2) rfl rfl (by decide) rfl (fun ls hl => ?_)
            refine lv_goto (tgt := 94) hx hb dX0_tryGears_214 (by decide) ?_
            exact ih (y11_94 + 1) (x_tg2_j211_S x1 x2 x3 x4 x5 x6 y11_94 S_94) _ _  _ (Nat.lt_of_lt_of_le (up_ hi11 (x_tg2_o23 S x1 x2 x3 x4 x5 x6 y11_94 S_94 hI hat hi11 hJ hM c3 hwm hN_j211_S hI_j211_S)) (Nat.le_of_lt_succ hf)) (x_tg2_o22 S x1 x2 x3 x4 x5 x6 y11_94 S_94 hI hat hi11 hJ hM c3 hwm hN_j211_S hI_j211_S) (hI_j211_S) ((hN_j211_S.trans hM)) (Eq.trans (Eq.symm (Eq.trans (x_tg2_L94_s _ _ _ _ _ _ _ _ _) (if_neg c3))) hE) hR hS (lv_sub hl [0, 3, 4, 5, 6, 7, 8, 9] rfl)
          refine lv_if_eq (tgt := 211) hx hb dX0_tryGears_145 (by decide) (fun c9 => ?_) (fun c9 => ?_)
          · exact J21 _ _ _  _ (Eq.symm (if_pos c9)) hR hS  (lv_sub hl [0, 1, 2, 3, 4, 5, 6, 7, 8, 9] rfl)
          · refine lv_aload_n hx hb dX0_tryGears_148 rfl (lv_at hl 3 rfl) ?_
            refine xg_a X.1 hR 24 (by decide) (by decide) q121 dX0_tryGears_149 ?_
            refine lv_iload_n hx hb dX0_tryGears_152 rfl (lv_at hl 4 rfl) ?_
            refine lv_iload hx hb dX0_tryGears_153 (lv_at hl 2 rfl) ?_
            refine x_st X.1 hR hS ⟨by decide, rfl⟩ (ixl 4 4 (by decide) rfl (x_tg2_o10 S x1 x2 y11_94 S_94 hI hat hi11 hJ hM c3 hwm c9)) dX0_tryGears_155 (fun H locs hR hS => ?_)
            refine lv_aload_n hx hb dX0_tryGears_156 rfl (lv_at hl 3 rfl) ?_
            refine lv_iload_n hx hb dX0_tryGears_157 rfl (lv_at hl 4 rfl) ?_
            refine lv_iconst (v := 1) hx hb dX0_tryGears_158 (by decide) ?_
            refine lv_iadd hx hb dX0_tryGears_159 ?_
            refine lv_iload_n hx hb dX0_tryGears_160 rfl (lv_at hl 5 rfl) ?_
            refine lv_lload_n hx hb dX0_tryGears_161 rfl (lv_at hl 6 rfl) ?_
            refine lv_lload hx hb dX0_tryGears_162 (lv_at hl 7 rfl) ?_
            refine lv_iload_n hx hb dX0_tryGears_164 rfl (lv_at hl 4 rfl) ?_
            refine lv_iconst (v := 2) hx hb dX0_tryGears_165 (by decide) ?_
            refine lv_irem hx hb dX0_tryGears_166 (by decide) ?_
            have J14 : ∀ (w13 : Int64) (H : Heap) (locs : List Loc) (ls : Array Slot), w13 = (x_tg2_j186_s0 x1 x5 y11_94 S_94) → XR D d A ad (xu S_94 24 (Int32.toNatClampNeg x1) y11_94) H → va_S A s.heap H locs → lv_has ls 14 [(13, .int (x_tg2_R109 x1 y11_94 S_94).2), (12, .int (x_tg2_R109 x1 y11_94 S_94).1), (11, .int y11_94), (0, .ref (ad (0, 0))), (1, .int x1), (2, .int x2), (3, .long x3), (5, .long x4), (7, .long x5), (9, .long x6)] → W p l e (rm_ 3) s m av below meth c H locs 0 0 Q (F0 m 186 ls [.long w13, .long x4, .long x3, .int x2, .int (x1 + 1), .ref (ad (0, 0))]) := by
              intro w13 H locs ls ew13 hR hS hl
              subst ew13
              refine lv_iload_n hx hb dX0_tryGears_186 rfl (lv_at hl 4 rfl) ?_
              refine lv_iconst (v := 2) hx hb dX0_tryGears_187 (by decide) ?_
              refine lv_irem hx hb dX0_tryGears_188 (by decide) ?_
              have J18 : ∀ (w17 : Int64) (H : Heap) (locs : List Loc) (ls : Array Slot), w17 = (x_tg2_j208_s0 x1 x6 y11_94 S_94) → XR D d A ad (xu S_94 24 (Int32.toNatClampNeg x1) y11_94) H → va_S A s.heap H locs → lv_has ls 14 [(13, .int (x_tg2_R109 x1 y11_94 S_94).2), (12, .int (x_tg2_R109 x1 y11_94 S_94).1), (11, .int y11_94), (0, .ref (ad (0, 0))), (1, .int x1), (2, .int x2), (3, .long x3), (5, .long x4), (7, .long x5), (9, .long x6)] → W p l e (rm_ 3) s m av below meth c H locs 0 0 Q (F0 m 208 ls [.long w17, .long (x_tg2_j186_s0 x1 x5 y11_94 S_94), .long x4, .long x3, .int x2, .int (x1 + 1), .ref (ad (0, 0))]) := by
                intro w17 H locs ls ew17 hR hS hl
                subst ew17
                refine x_bv hS (xr_V X hR x_lv0 (ci := 0) (fs := x_fs ad (xu S_94 24 (Int32.toNatClampNeg x1) y11_94)) rfl rfl (xt_tg1 l D d A ad (xu S_94 24 (Int32.toNatClampNeg x1) y11_94) (x1 + 1) x2 x3 x4 (x_tg2_j186_s0 x1 x5 y11_94 S_94) (x_tg2_j208_s0 x1 x6 y11_94 S_94) ((XInv_xu hJ _ _ _ (by decide))) (x_tg2_o19 S x1 x2 y11_94 S_94 hI hat hi11 hJ hM c3 hwm c9)) 6 (lw_V q1061 q1063 qs20 q58 q1064) ⟨rfl, rfl⟩ (by decide +kernel) ⟨by decide, by decide⟩ ⟨by decide, by decide⟩ rfl hl.1 rfl (Nat.le_of_ble_eq_true rfl) dX0_tryGears_208) (fun H locs hR hS => ?_)
                have hN208 : (x_tg1 (xu S_94 24 (Int32.toNatClampNeg x1) y11_94) (x1 + 1) x2 x3 x4 (x_tg2_j186_s0 x1 x5 y11_94 S_94) (x_tg2_j208_s0 x1 x6 y11_94 S_94)).2.2.2 = S_94.2.2.2 := x_tg1_N (xu S_94 24 (Int32.toNatClampNeg x1) y11_94) (x1 + 1) x2 x3 x4 (x_tg2_j186_s0 x1 x5 y11_94 S_94) (x_tg2_j208_s0 x1 x6 y11_94 S_94) ((XInv_xu hJ _ _ _ (by decide))) (x_tg2_o19 S x1 x2 y11_94 S_94 hI hat hi11 hJ hM c3 hwm c9)
                have hI208 : XInv (x_tg1 (xu S_94 24 (Int32.toNatClampNeg x1) y11_94) (x1 + 1) x2 x3 x4 (x_tg2_j186_s0 x1 x5 y11_94 S_94) (x_tg2_j208_s0 x1 x6 y11_94 S_94)) := x_tg1_inv (xu S_94 24 (Int32.toNatClampNeg x1) y11_94) (x1 + 1) x2 x3 x4 (x_tg2_j186_s0 x1 x5 y11_94 S_94) (x_tg2_j208_s0 x1 x6 y11_94 S_94) ((XInv_xu hJ _ _ _ (by decide))) (x_tg2_o19 S x1 x2 y11_94 S_94 hI hat hi11 hJ hM c3 hwm c9)
                exact J21 _ _ _  _ (Eq.symm (if_neg c9)) hR hS  (lv_sub hl [0, 1, 2, 3, 4, 5, 6, 7, 8, 9] rfl)
              refine lv_if_ne (tgt := 197) hx hb dX0_tryGears_189 (by decide) (fun c15 => ?_) (fun c15 => ?_)
              · refine lv_lload hx hb dX0_tryGears_197 (lv_at hl 9 rfl) ?_
                refine lv_aload_n hx hb dX0_tryGears_199 rfl (lv_at hl 3 rfl) ?_
                refine xg_a X.1 hR 21 (by decide) (by decide) q118 dX0_tryGears_200 ?_
                refine lv_iload hx hb dX0_tryGears_203 (lv_at hl 2 rfl) ?_
                refine x_ld X.1 hR ⟨by decide, rfl⟩ (ixl 12 12 (by decide) rfl (x_tg2_o16 S x1 x2 y11_94 S_94 hI hat hi11 hJ hM c3 hwm c9 c15)) (v := S_94.1 21 (Int32.toNatClampNeg y11_94)) ((xu_k _ (by decide) _ _ _).trans rfl) dX0_tryGears_205 ?_
                refine lv_i2l hx hb dX0_tryGears_206 rfl ?_
                refine lv_lmul hx hb dX0_tryGears_207 ?_
                exact J18 _ _ _  _ (Eq.symm (if_neg c15)) hR hS  (lv_sub hl [0, 1, 2, 3, 4, 5, 6, 7, 8, 9] rfl)
              · refine lv_lload hx hb dX0_tryGears_192 (lv_at hl 9 rfl) ?_
                refine lv_goto (tgt := 208) hx hb dX0_tryGears_194 (by decide) ?_
                exact J18 _ _ _  _ (Eq.symm (if_pos c15)) hR hS  (lv_sub hl [0, 1, 2, 3, 4, 5, 6, 7, 8, 9] rfl)
            refine lv_if_ne (tgt := 184) hx hb dX0_tryGears_167 (by decide) (fun c11 => ?_) (fun c11 => ?_)
            · refine lv_lload hx hb dX0_tryGears_184 (lv_at hl 8 rfl) ?_
              exact J14 _ _ _  _ (Eq.symm (if_neg c11)) hR hS  (lv_sub hl [0, 1, 2, 3, 4, 5, 6, 7, 8, 9] rfl)
            · refine lv_lload hx hb dX0_tryGears_170 (lv_at hl 8 rfl) ?_
              refine lv_aload_n hx hb dX0_tryGears_172 rfl (lv_at hl 3 rfl) ?_
              refine xg_a X.1 hR 21 (by decide) (by decide) q118 dX0_tryGears_173 ?_
              refine lv_iload hx hb dX0_tryGears_176 (lv_at hl 2 rfl) ?_
              refine x_ld X.1 hR ⟨by decide, rfl⟩ (ixl 12 12 (by decide) rfl (x_tg2_o12 S x1 x2 y11_94 S_94 hI hat hi11 hJ hM c3 hwm c9 c11)) (v := S_94.1 21 (Int32.toNatClampNeg y11_94)) ((xu_k _ (by decide) _ _ _).trans rfl) dX0_tryGears_178 ?_
              refine lv_i2l hx hb dX0_tryGears_179 rfl ?_
              refine lv_lmul hx hb dX0_tryGears_180 ?_
              refine lv_goto (tgt := 186) hx hb dX0_tryGears_181 (by decide) ?_
              exact J14 _ _ _  _ (Eq.symm (if_pos c11)) hR hS  (lv_sub hl [0, 1, 2, 3, 4, 5, 6, 7, 8, 9] rfl)
        have L109 : ∀ (f109 : Nat) (y12_109 : Int32) (y13_109 : Int32) (H : Heap) (locs : List Loc) (ls : Array Slot), (x1 - y13_109 : Int32).toNatClampNeg < f109 → 0 ≤ y13_109 → x_tg2_L109 x1 y11_94 S_94 (f109) y12_109 y13_109 = (x_tg2_R109 x1 y11_94 S_94) → XR D d A ad S_94 H → va_S A s.heap H locs → lv_has ls 14 [(13, .int y13_109), (12, .int y12_109), (11, .int y11_94), (0, .ref (ad (0, 0))), (1, .int x1), (2, .int x2), (3, .long x3), (5, .long x4), (7, .long x5), (9, .long x6)] → W p l e (rm_ 3) s m av below meth c H locs 0 0 Q (F0 m 109 ls []) := by
          intro f109
          induction f109 with
          | zero => intro y12_109 y13_109 H locs ls hf; exact absurd hf (Nat.not_lt_zero _)
          | succ f109 ih =>
            intro y12_109 y13_109 H locs ls hf hi13 hE hR hS hl
            refine lv_iload hx hb dX0_tryGears_109 (lv_at hl 0 rfl) ?_
            refine lv_iload_n hx hb dX0_tryGears_111 rfl (lv_at hl 4 rfl) ?_
            refine lv_icmp_ge (tgt := 143) hx hb dX0_tryGears_112 (by decide) (fun c4 => ?_) (fun c4 => ?_)
            · have e0 : (x_tg2_R109 x1 y11_94 S_94) = (y12_109, y13_109) := Eq.trans (Eq.symm hE) (Eq.trans (x_tg2_L109_s _ _ _ _ _ _) (if_pos c4))
              exact K109 _ _ _ hR hS (by rw [e0]; exact lv_sub hl [0, 1, 2, 3, 4, 5, 6, 7, 8, 9] rfl)
            · refine lv_iload hx hb dX0_tryGears_115 (lv_at hl 1 rfl) ?_
              refine lv_aload_n hx hb dX0_tryGears_117 rfl (lv_at hl 3 rfl) ?_
              refine xg_a X.1 hR 24 (by decide) (by decide) q121 dX0_tryGears_118 ?_
              refine lv_iload hx hb dX0_tryGears_121 (lv_at hl 0 rfl) ?_
              refine x_ld X.1 hR ⟨by decide, rfl⟩ (ixl 4 4 (by decide) rfl (x_tg2_o5 S x1 x2 y11_94 S_94 y13_109 hI hat hi11 hJ hM c3 hwm hi13 c4)) (v := S_94.1 24 (Int32.toNatClampNeg y13_109)) rfl dX0_tryGears_123 ?_
              refine lv_iload hx hb dX0_tryGears_124 (lv_at hl 2 rfl) ?_
              have J8 : ∀ (w7 : Int32) (H : Heap) (locs : List Loc) (ls : Array Slot), w7 = (x_tg2_j134_s0 y11_94 S_94 y13_109) → XR D d A ad S_94 H → va_S A s.heap H locs → lv_has ls 14 [(13, .int y13_109), (12, .int y12_109), (11, .int y11_94), (0, .ref (ad (0, 0))), (1, .int x1), (2, .int x2), (3, .long x3), (5, .long x4), (7, .long x5), (9, .long x6)] → W p l e (rm_ 3) s m av below meth c H locs 0 0 Q (F0 m 134 ls [.int w7, .int y12_109]) := by
                intro w7 H locs ls ew7 hR hS hl
                subst ew7
                refine lv_iand hx hb dX0_tryGears_134 ?_
                refine lv_istore (lv' := [(12, .int (x_tg2_v135 y11_94 S_94 y12_109 y13_109)), (13, .int y13_109), (11, .int y11_94), (0, .ref (ad (0, 0))), (1, .int x1), (2, .int x2), (3, .long x3), (5, .long x4), (7, .long x5), (9, .long x6)]) hx hb dX0_tryGears_135 hl (by decide) rfl (fun ls hl => ?_)
                refine lv_iinc (v := (y13_109 + 1)) (lv' := [(13, .int (y13_109 + 1)), (12, .int (x_tg2_v135 y11_94 S_94 y12_109 y13_109)), (11, .int y11_94), (0, .ref (ad (0, 0))), (1, .int x1), (2, .int x2), (3, .long x3), (5, .long x4), (7, .long x5), (9, .long x6)]) hx hb dX0_tryGears_137 hl (k := 1) rfl rfl (by decide) rfl (fun ls hl => ?_)
                refine lv_goto (tgt := 109) hx hb dX0_tryGears_140 (by decide) ?_
                exact ih (x_tg2_v135 y11_94 S_94 y12_109 y13_109) (y13_109 + 1) _ _  _ (Nat.lt_of_lt_of_le (up_ hi13 (x_tg2_o25 S x1 x2 y11_94 S_94 y13_109 hI hat hi11 hJ hM c3 hwm hi13 c4)) (Nat.le_of_lt_succ hf)) (x_tg2_o24 S x1 x2 y11_94 S_94 y13_109 hI hat hi11 hJ hM c3 hwm hi13 c4) (Eq.trans (Eq.symm (Eq.trans (x_tg2_L109_s _ _ _ _ _ _) (if_neg c4))) hE) hR hS (lv_sub hl [0, 1, 2, 3, 4, 5, 6, 7, 8, 9] rfl)
              refine lv_icmp_eq (tgt := 133) hx hb dX0_tryGears_126 (by decide) (fun c6 => ?_) (fun c6 => ?_)
              · refine lv_iconst (v := 0) hx hb dX0_tryGears_133 (by decide) ?_
                exact J8 _ _ _  _ (Eq.symm (if_pos c6)) hR hS  (lv_sub hl [0, 1, 2, 3, 4, 5, 6, 7, 8, 9] rfl)
              · refine lv_iconst (v := 1) hx hb dX0_tryGears_129 (by decide) ?_
                refine lv_goto (tgt := 134) hx hb dX0_tryGears_130 (by decide) ?_
                exact J8 _ _ _  _ (Eq.symm (if_neg c6)) hR hS  (lv_sub hl [0, 1, 2, 3, 4, 5, 6, 7, 8, 9] rfl)
        exact L109 _ 1 0 _ _  _ (fz_lt _) (by decide) rfl hR hS (lv_sub hl [0, 1, 2, 3, 4, 5, 6, 7, 8, 9] rfl)
  exact L94 _ 0 S _ _  _ (fz_lt _) (by decide) (hI) (rfl) rfl hR hS (lv_sub hl [0, 1, 2, 3, 4, 5, 6, 7] rfl)
theorem x_tg3_o2 (S : XS) (x1 : Int32) (x2 : Int32) (hI : XInv S) (hat : 0 ≤ x1 ∧ x1 ≤ 1 ∧ x2 = x1 + 3) : ¬ x1 = x2 := by 
  have bl_x1 := Int32.toInt_lt x1
  have bl_x2 := Int32.toInt_lt x2
  try simp only [i_le, i_lt, i_eq, Int32.reduceToInt] at *
  first | (have e_0 := a32 (x := x1) (y := 3) (by (try simp only [Int32.reduceToInt]); omega); (try simp only [Int32.reduceToInt] at e_0)) | skip
  try simp only [Int32.reduceToInt] at *
  omega
theorem x_tg3_o5 (S : XS) (x1 : Int32) (x2 : Int32) (y11_94 : Int32) (S_94 : XS) (y13_109 : Int32) (hI : XInv S) (hat : 0 ≤ x1 ∧ x1 ≤ 1 ∧ x2 = x1 + 3) (hi11 : 0 ≤ y11_94) (hJ : XInv S_94) (hM : S_94.2.2.2 = S.2.2.2) (c3 : ¬ (S_94.1 20 0) ≤ y11_94) (hwm : 0 ≤ S_94.1 20 0 ∧ S_94.1 20 0 ≤ 12) (hi13 : 0 ≤ y13_109) (c4 : ¬ x1 ≤ y13_109) : 0 ≤ y13_109 ∧ y13_109 < 4 := by 
  have bl_x1 := Int32.toInt_lt x1
  have bl_x2 := Int32.toInt_lt x2
  have bl_y11_94 := Int32.toInt_lt y11_94
  have bl_y13_109 := Int32.toInt_lt y13_109
  try (have bu_0 := Int32.toInt_lt (S_94.1 20 0))
  try (have bu_1 := Int32.toInt_lt x1)
  try simp only [i_le, i_lt, i_eq, Int32.reduceToInt] at *
  first | (have e_0 := a32 (x := x1) (y := 3) (by (try simp only [Int32.reduceToInt]); omega); (try simp only [Int32.reduceToInt] at e_0)) | skip
  try simp only [Int32.reduceToInt] at *
  omega
def x_tg3_j134_s0 (y11_94 : Int32) (S_94 : XS) (y13_109 : Int32) : Int32 := (if (S_94.1 24 (Int32.toNatClampNeg y13_109)) = y11_94 then 0 else 1)
def x_tg3_v135 (y11_94 : Int32) (S_94 : XS) (y12_109 : Int32) (y13_109 : Int32) : Int32 := (y12_109 &&& (x_tg3_j134_s0 y11_94 S_94 y13_109))
def x_tg3_L109 (x1 : Int32) (y11_94 : Int32) (S_94 : XS) : Nat → Int32 → Int32 → Int32 × Int32
  | 0, y12_109, y13_109 => (y12_109, y13_109)
  | f109 + 1, y12_109, y13_109 => (if x1 ≤ y13_109 then (y12_109, y13_109) else (x_tg3_L109 x1 y11_94 S_94 f109 (x_tg3_v135 y11_94 S_94 y12_109 y13_109) (y13_109 + 1)))
theorem x_tg3_L109_s (x1 : Int32) (y11_94 : Int32) (S_94 : XS) (f109 : Nat) (y12_109 : Int32) (y13_109 : Int32) : x_tg3_L109 x1 y11_94 S_94 (f109 + 1) y12_109 y13_109 = (if x1 ≤ y13_109 then (y12_109, y13_109) else (x_tg3_L109 x1 y11_94 S_94 f109 (x_tg3_v135 y11_94 S_94 y12_109 y13_109) (y13_109 + 1))) := rfl
def x_tg3_R109 (x1 : Int32) (y11_94 : Int32) (S_94 : XS) : Int32 × Int32 := x_tg3_L109 x1 y11_94 S_94 (fz ((x1 - 0 : Int32).toNatClampNeg + 1)) 1 0
theorem x_tg3_o10 (S : XS) (x1 : Int32) (x2 : Int32) (y11_94 : Int32) (S_94 : XS) (hI : XInv S) (hat : 0 ≤ x1 ∧ x1 ≤ 1 ∧ x2 = x1 + 3) (hi11 : 0 ≤ y11_94) (hJ : XInv S_94) (hM : S_94.2.2.2 = S.2.2.2) (c3 : ¬ (S_94.1 20 0) ≤ y11_94) (hwm : 0 ≤ S_94.1 20 0 ∧ S_94.1 20 0 ≤ 12) (c9 : ¬ (x_tg3_R109 x1 y11_94 S_94).1 = 0) : 0 ≤ x1 ∧ x1 < 4 := by 
  have bl_x1 := Int32.toInt_lt x1
  have bl_x2 := Int32.toInt_lt x2
  have bl_y11_94 := Int32.toInt_lt y11_94
  try (have bu_0 := Int32.toInt_lt (S_94.1 20 0))
  try simp only [i_le, i_lt, i_eq, Int32.reduceToInt] at *
  first | (have e_0 := a32 (x := x1) (y := 3) (by (try simp only [Int32.reduceToInt]); omega); (try simp only [Int32.reduceToInt] at e_0)) | skip
  try simp only [Int32.reduceToInt] at *
  omega
theorem x_tg3_o12 (S : XS) (x1 : Int32) (x2 : Int32) (y11_94 : Int32) (S_94 : XS) (hI : XInv S) (hat : 0 ≤ x1 ∧ x1 ≤ 1 ∧ x2 = x1 + 3) (hi11 : 0 ≤ y11_94) (hJ : XInv S_94) (hM : S_94.2.2.2 = S.2.2.2) (c3 : ¬ (S_94.1 20 0) ≤ y11_94) (hwm : 0 ≤ S_94.1 20 0 ∧ S_94.1 20 0 ≤ 12) (c9 : ¬ (x_tg3_R109 x1 y11_94 S_94).1 = 0) (c11 : (x1 - x1 / 2 * 2) = 0) : 0 ≤ y11_94 ∧ y11_94 < 12 := by 
  have bl_x1 := Int32.toInt_lt x1
  have bl_x2 := Int32.toInt_lt x2
  have bl_y11_94 := Int32.toInt_lt y11_94
  try (have bu_0 := Int32.toInt_lt (S_94.1 20 0))
  try simp only [i_le, i_lt, i_eq, Int32.reduceToInt] at *
  first | (have e_0 := a32 (x := x1) (y := 3) (by (try simp only [Int32.reduceToInt]); omega); (try simp only [Int32.reduceToInt] at e_0)) | skip
  first | (have e_1 := d32 (x := x1) (y := 2) (by (try simp only [Int32.reduceToInt]); omega); (try simp only [Int32.reduceToInt] at e_1)) | skip
  first | (have e_2 := m32 (x := (x1 / 2)) (y := 2) (by (try simp only [Int32.reduceToInt]); omega); (try simp only [Int32.reduceToInt] at e_2)) | skip
  first | (have e_3 := s32 (x := x1) (y := (x1 / 2 * 2)) (by (try simp only [Int32.reduceToInt]); omega); (try simp only [Int32.reduceToInt] at e_3)) | skip
  try simp only [Int32.reduceToInt] at *
  omega
def x_tg3_j186_s0 (x1 : Int32) (x5 : Int64) (y11_94 : Int32) (S_94 : XS) : Int64 := (if (x1 - x1 / 2 * 2) = 0 then (x5 * (Int32.toInt64 (S_94.1 21 (Int32.toNatClampNeg y11_94)))) else x5)
theorem x_tg3_o16 (S : XS) (x1 : Int32) (x2 : Int32) (y11_94 : Int32) (S_94 : XS) (hI : XInv S) (hat : 0 ≤ x1 ∧ x1 ≤ 1 ∧ x2 = x1 + 3) (hi11 : 0 ≤ y11_94) (hJ : XInv S_94) (hM : S_94.2.2.2 = S.2.2.2) (c3 : ¬ (S_94.1 20 0) ≤ y11_94) (hwm : 0 ≤ S_94.1 20 0 ∧ S_94.1 20 0 ≤ 12) (c9 : ¬ (x_tg3_R109 x1 y11_94 S_94).1 = 0) (c15 : ¬ (x1 - x1 / 2 * 2) = 0) : 0 ≤ y11_94 ∧ y11_94 < 12 := by 
  have bl_x1 := Int32.toInt_lt x1
  have bl_x2 := Int32.toInt_lt x2
  have bl_y11_94 := Int32.toInt_lt y11_94
  try (have bu_0 := Int32.toInt_lt (S_94.1 20 0))
  try simp only [i_le, i_lt, i_eq, Int32.reduceToInt] at *
  first | (have e_0 := a32 (x := x1) (y := 3) (by (try simp only [Int32.reduceToInt]); omega); (try simp only [Int32.reduceToInt] at e_0)) | skip
  first | (have e_1 := d32 (x := x1) (y := 2) (by (try simp only [Int32.reduceToInt]); omega); (try simp only [Int32.reduceToInt] at e_1)) | skip
  first | (have e_2 := m32 (x := (x1 / 2)) (y := 2) (by (try simp only [Int32.reduceToInt]); omega); (try simp only [Int32.reduceToInt] at e_2)) | skip
  first | (have e_3 := s32 (x := x1) (y := (x1 / 2 * 2)) (by (try simp only [Int32.reduceToInt]); omega); (try simp only [Int32.reduceToInt] at e_3)) | skip
  try simp only [Int32.reduceToInt] at *
  omega
def x_tg3_j208_s0 (x1 : Int32) (x6 : Int64) (y11_94 : Int32) (S_94 : XS) : Int64 := (if (x1 - x1 / 2 * 2) = 0 then x6 else (x6 * (Int32.toInt64 (S_94.1 21 (Int32.toNatClampNeg y11_94)))))
theorem x_tg3_o19 (S : XS) (x1 : Int32) (x2 : Int32) (y11_94 : Int32) (S_94 : XS) (hI : XInv S) (hat : 0 ≤ x1 ∧ x1 ≤ 1 ∧ x2 = x1 + 3) (hi11 : 0 ≤ y11_94) (hJ : XInv S_94) (hM : S_94.2.2.2 = S.2.2.2) (c3 : ¬ (S_94.1 20 0) ≤ y11_94) (hwm : 0 ≤ S_94.1 20 0 ∧ S_94.1 20 0 ≤ 12) (c9 : ¬ (x_tg3_R109 x1 y11_94 S_94).1 = 0) : 0 ≤ (x1 + 1) ∧ (x1 + 1) ≤ 2 ∧ x2 = (x1 + 1) + 2 := by 
  have bl_x1 := Int32.toInt_lt x1
  have bl_x2 := Int32.toInt_lt x2
  have bl_y11_94 := Int32.toInt_lt y11_94
  try (have bu_0 := Int32.toInt_lt (S_94.1 20 0))
  try simp only [i_le, i_lt, i_eq, Int32.reduceToInt] at *
  first | (have e_0 := a32 (x := x1) (y := 3) (by (try simp only [Int32.reduceToInt]); omega); (try simp only [Int32.reduceToInt] at e_0)) | skip
  first | (have e_1 := a32 (x := x1) (y := 1) (by (try simp only [Int32.reduceToInt]); omega); (try simp only [Int32.reduceToInt] at e_1)) | skip
  first | (have e_2 := a32 (x := (x1 + 1)) (y := 2) (by (try simp only [Int32.reduceToInt]); omega); (try simp only [Int32.reduceToInt] at e_2)) | skip
  try simp only [Int32.reduceToInt] at *
  omega
def x_tg3_j211_S (x1 : Int32) (x2 : Int32) (x3 : Int64) (x4 : Int64) (x5 : Int64) (x6 : Int64) (y11_94 : Int32) (S_94 : XS) : XS := (if (x_tg3_R109 x1 y11_94 S_94).1 = 0 then S_94 else (x_tg2 (xu S_94 24 (Int32.toNatClampNeg x1) y11_94) (x1 + 1) x2 x3 x4 (x_tg3_j186_s0 x1 x5 y11_94 S_94) (x_tg3_j208_s0 x1 x6 y11_94 S_94)))
theorem x_tg3_j211_S_N (S : XS) (x1 : Int32) (x2 : Int32) (x3 : Int64) (x4 : Int64) (x5 : Int64) (x6 : Int64) (y11_94 : Int32) (S_94 : XS) (hI : XInv S) (hat : 0 ≤ x1 ∧ x1 ≤ 1 ∧ x2 = x1 + 3) (hi11 : 0 ≤ y11_94) (hJ : XInv S_94) (hM : S_94.2.2.2 = S.2.2.2) (c3 : ¬ (S_94.1 20 0) ≤ y11_94) : (x_tg3_j211_S x1 x2 x3 x4 x5 x6 y11_94 S_94).2.2.2 = S_94.2.2.2 := by
  unfold x_tg3_j211_S
  refine ifI (P := fun (z : XS) => z.2.2.2 = S_94.2.2.2) (fun c9 => ?_) (fun c9 => ?_)
  · exact rfl
  · have hwm : 0 ≤ S_94.1 20 0 ∧ S_94.1 20 0 ≤ 12 := xi_wm hJ
    have hN208 : (x_tg2 (xu S_94 24 (Int32.toNatClampNeg x1) y11_94) (x1 + 1) x2 x3 x4 (x_tg3_j186_s0 x1 x5 y11_94 S_94) (x_tg3_j208_s0 x1 x6 y11_94 S_94)).2.2.2 = S_94.2.2.2 := x_tg2_N (xu S_94 24 (Int32.toNatClampNeg x1) y11_94) (x1 + 1) x2 x3 x4 (x_tg3_j186_s0 x1 x5 y11_94 S_94) (x_tg3_j208_s0 x1 x6 y11_94 S_94) ((XInv_xu hJ _ _ _ (by decide))) (x_tg3_o19 S x1 x2 y11_94 S_94 hI hat hi11 hJ hM c3 hwm c9)
    exact hN208
theorem x_tg3_j211_S_I (S : XS) (x1 : Int32) (x2 : Int32) (x3 : Int64) (x4 : Int64) (x5 : Int64) (x6 : Int64) (y11_94 : Int32) (S_94 : XS) (hI : XInv S) (hat : 0 ≤ x1 ∧ x1 ≤ 1 ∧ x2 = x1 + 3) (hi11 : 0 ≤ y11_94) (hJ : XInv S_94) (hM : S_94.2.2.2 = S.2.2.2) (c3 : ¬ (S_94.1 20 0) ≤ y11_94) : XInv (x_tg3_j211_S x1 x2 x3 x4 x5 x6 y11_94 S_94) := by
  unfold x_tg3_j211_S
  refine ifI (P := XInv) (fun c9 => ?_) (fun c9 => ?_)
  · exact hJ
  · have hwm : 0 ≤ S_94.1 20 0 ∧ S_94.1 20 0 ≤ 12 := xi_wm hJ
    have hI208 : XInv (x_tg2 (xu S_94 24 (Int32.toNatClampNeg x1) y11_94) (x1 + 1) x2 x3 x4 (x_tg3_j186_s0 x1 x5 y11_94 S_94) (x_tg3_j208_s0 x1 x6 y11_94 S_94)) := x_tg2_inv (xu S_94 24 (Int32.toNatClampNeg x1) y11_94) (x1 + 1) x2 x3 x4 (x_tg3_j186_s0 x1 x5 y11_94 S_94) (x_tg3_j208_s0 x1 x6 y11_94 S_94) ((XInv_xu hJ _ _ _ (by decide))) (x_tg3_o19 S x1 x2 y11_94 S_94 hI hat hi11 hJ hM c3 hwm c9)
    exact hI208
def x_tg3_L94 (x1 : Int32) (x2 : Int32) (x3 : Int64) (x4 : Int64) (x5 : Int64) (x6 : Int64) : Nat → Int32 → XS → Int32 × XS
  | 0, y11_94, S_94 => (y11_94, S_94)
  | f94 + 1, y11_94, S_94 => (if (S_94.1 20 0) ≤ y11_94 then (y11_94, S_94) else (x_tg3_L94 x1 x2 x3 x4 x5 x6 f94 (y11_94 + 1) (x_tg3_j211_S x1 x2 x3 x4 x5 x6 y11_94 S_94)))
theorem x_tg3_L94_s (x1 : Int32) (x2 : Int32) (x3 : Int64) (x4 : Int64) (x5 : Int64) (x6 : Int64) (f94 : Nat) (y11_94 : Int32) (S_94 : XS) : x_tg3_L94 x1 x2 x3 x4 x5 x6 (f94 + 1) y11_94 S_94 = (if (S_94.1 20 0) ≤ y11_94 then (y11_94, S_94) else (x_tg3_L94 x1 x2 x3 x4 x5 x6 f94 (y11_94 + 1) (x_tg3_j211_S x1 x2 x3 x4 x5 x6 y11_94 S_94))) := rfl
def x_tg3_R94 (S : XS) (x1 : Int32) (x2 : Int32) (x3 : Int64) (x4 : Int64) (x5 : Int64) (x6 : Int64) : Int32 × XS := x_tg3_L94 x1 x2 x3 x4 x5 x6 (fz ((12 - 0 : Int32).toNatClampNeg + 1)) 0 S
theorem x_tg3_o22 (S : XS) (x1 : Int32) (x2 : Int32) (x3 : Int64) (x4 : Int64) (x5 : Int64) (x6 : Int64) (y11_94 : Int32) (S_94 : XS) (hI : XInv S) (hat : 0 ≤ x1 ∧ x1 ≤ 1 ∧ x2 = x1 + 3) (hi11 : 0 ≤ y11_94) (hJ : XInv S_94) (hM : S_94.2.2.2 = S.2.2.2) (c3 : ¬ (S_94.1 20 0) ≤ y11_94) (hwm : 0 ≤ S_94.1 20 0 ∧ S_94.1 20 0 ≤ 12) (hN_j211_S : (x_tg3_j211_S x1 x2 x3 x4 x5 x6 y11_94 S_94).2.2.2 = S_94.2.2.2) (hI_j211_S : XInv (x_tg3_j211_S x1 x2 x3 x4 x5 x6 y11_94 S_94)) : 0 ≤ (y11_94 + 1) := by 
  have bl_x1 := Int32.toInt_lt x1
  have bl_x2 := Int32.toInt_lt x2
  have bl_y11_94 := Int32.toInt_lt y11_94
  try (have bu_0 := Int32.toInt_lt (S_94.1 20 0))
  try simp only [i_le, i_lt, i_eq, Int32.reduceToInt] at *
  first | (have e_0 := a32 (x := x1) (y := 3) (by (try simp only [Int32.reduceToInt]); omega); (try simp only [Int32.reduceToInt] at e_0)) | skip
  first | (have e_1 := a32 (x := y11_94) (y := 1) (by (try simp only [Int32.reduceToInt]); omega); (try simp only [Int32.reduceToInt] at e_1)) | skip
  try simp only [Int32.reduceToInt] at *
  omega
theorem x_tg3_L94_P (S : XS) (x1 : Int32) (x2 : Int32) (x3 : Int64) (x4 : Int64) (x5 : Int64) (x6 : Int64) (hI : XInv S) (hat : 0 ≤ x1 ∧ x1 ≤ 1 ∧ x2 = x1 + 3) : ∀ (f94 : Nat) (y11_94 : Int32) (S_94 : XS), (0 ≤ y11_94) → (XInv S_94) → (S_94.2.2.2 = S.2.2.2) → (XInv (x_tg3_L94 x1 x2 x3 x4 x5 x6 f94 y11_94 S_94).2) ∧ ((x_tg3_L94 x1 x2 x3 x4 x5 x6 f94 y11_94 S_94).2.2.2.2 = S.2.2.2) := by
  intro f94
  induction f94 with
  | zero =>
    intro y11_94 S_94 hi11 hJ hM
    exact ⟨hJ, hM⟩
  | succ f94 ih =>
    intro y11_94 S_94 hi11 hJ hM
    rw [x_tg3_L94_s]
    refine ifI (P := fun (z : Int32 × XS) => (XInv z.2) ∧ (z.2.2.2.2 = S.2.2.2)) (fun c3 => ?_) (fun c3 => ?_)
    · exact ⟨hJ, hM⟩
    · have hwm : 0 ≤ S_94.1 20 0 ∧ S_94.1 20 0 ≤ 12 := xi_wm hJ
      have hN_j211_S : (x_tg3_j211_S x1 x2 x3 x4 x5 x6 y11_94 S_94).2.2.2 = S_94.2.2.2 := x_tg3_j211_S_N S x1 x2 x3 x4 x5 x6 y11_94 S_94 hI hat hi11 hJ hM c3
      have hI_j211_S : XInv (x_tg3_j211_S x1 x2 x3 x4 x5 x6 y11_94 S_94) := x_tg3_j211_S_I S x1 x2 x3 x4 x5 x6 y11_94 S_94 hI hat hi11 hJ hM c3
      exact ih (y11_94 + 1) (x_tg3_j211_S x1 x2 x3 x4 x5 x6 y11_94 S_94) (x_tg3_o22 S x1 x2 x3 x4 x5 x6 y11_94 S_94 hI hat hi11 hJ hM c3 hwm hN_j211_S hI_j211_S) (hI_j211_S) ((hN_j211_S.trans hM))
theorem x_tg3_R94_P (S : XS) (x1 : Int32) (x2 : Int32) (x3 : Int64) (x4 : Int64) (x5 : Int64) (x6 : Int64) (hI : XInv S) (hat : 0 ≤ x1 ∧ x1 ≤ 1 ∧ x2 = x1 + 3) : (XInv (x_tg3_R94 S x1 x2 x3 x4 x5 x6).2) ∧ ((x_tg3_R94 S x1 x2 x3 x4 x5 x6).2.2.2.2 = S.2.2.2) := by
  unfold x_tg3_R94
  exact x_tg3_L94_P S x1 x2 x3 x4 x5 x6 hI hat (fz ((12 - 0 : Int32).toNatClampNeg + 1)) 0 S (by decide) (hI) (rfl)
theorem x_tg3_o23 (S : XS) (x1 : Int32) (x2 : Int32) (x3 : Int64) (x4 : Int64) (x5 : Int64) (x6 : Int64) (y11_94 : Int32) (S_94 : XS) (hI : XInv S) (hat : 0 ≤ x1 ∧ x1 ≤ 1 ∧ x2 = x1 + 3) (hi11 : 0 ≤ y11_94) (hJ : XInv S_94) (hM : S_94.2.2.2 = S.2.2.2) (c3 : ¬ (S_94.1 20 0) ≤ y11_94) (hwm : 0 ≤ S_94.1 20 0 ∧ S_94.1 20 0 ≤ 12) (hN_j211_S : (x_tg3_j211_S x1 x2 x3 x4 x5 x6 y11_94 S_94).2.2.2 = S_94.2.2.2) (hI_j211_S : XInv (x_tg3_j211_S x1 x2 x3 x4 x5 x6 y11_94 S_94)) : y11_94 < 12 := by 
  have bl_x1 := Int32.toInt_lt x1
  have bl_x2 := Int32.toInt_lt x2
  have bl_y11_94 := Int32.toInt_lt y11_94
  try (have bu_0 := Int32.toInt_lt (S_94.1 20 0))
  try simp only [i_le, i_lt, i_eq, Int32.reduceToInt] at *
  first | (have e_0 := a32 (x := x1) (y := 3) (by (try simp only [Int32.reduceToInt]); omega); (try simp only [Int32.reduceToInt] at e_0)) | skip
  try simp only [Int32.reduceToInt] at *
  omega
theorem x_tg3_o24 (S : XS) (x1 : Int32) (x2 : Int32) (y11_94 : Int32) (S_94 : XS) (y13_109 : Int32) (hI : XInv S) (hat : 0 ≤ x1 ∧ x1 ≤ 1 ∧ x2 = x1 + 3) (hi11 : 0 ≤ y11_94) (hJ : XInv S_94) (hM : S_94.2.2.2 = S.2.2.2) (c3 : ¬ (S_94.1 20 0) ≤ y11_94) (hwm : 0 ≤ S_94.1 20 0 ∧ S_94.1 20 0 ≤ 12) (hi13 : 0 ≤ y13_109) (c4 : ¬ x1 ≤ y13_109) : 0 ≤ (y13_109 + 1) := by 
  have bl_x1 := Int32.toInt_lt x1
  have bl_x2 := Int32.toInt_lt x2
  have bl_y11_94 := Int32.toInt_lt y11_94
  have bl_y13_109 := Int32.toInt_lt y13_109
  try (have bu_0 := Int32.toInt_lt (S_94.1 20 0))
  try (have bu_1 := Int32.toInt_lt x1)
  try simp only [i_le, i_lt, i_eq, Int32.reduceToInt] at *
  first | (have e_0 := a32 (x := x1) (y := 3) (by (try simp only [Int32.reduceToInt]); omega); (try simp only [Int32.reduceToInt] at e_0)) | skip
  first | (have e_1 := a32 (x := y13_109) (y := 1) (by (try simp only [Int32.reduceToInt]); omega); (try simp only [Int32.reduceToInt] at e_1)) | skip
  try simp only [Int32.reduceToInt] at *
  omega
theorem x_tg3_o25 (S : XS) (x1 : Int32) (x2 : Int32) (y11_94 : Int32) (S_94 : XS) (y13_109 : Int32) (hI : XInv S) (hat : 0 ≤ x1 ∧ x1 ≤ 1 ∧ x2 = x1 + 3) (hi11 : 0 ≤ y11_94) (hJ : XInv S_94) (hM : S_94.2.2.2 = S.2.2.2) (c3 : ¬ (S_94.1 20 0) ≤ y11_94) (hwm : 0 ≤ S_94.1 20 0 ∧ S_94.1 20 0 ≤ 12) (hi13 : 0 ≤ y13_109) (c4 : ¬ x1 ≤ y13_109) : y13_109 < x1 := by 
  have bl_x1 := Int32.toInt_lt x1
  have bl_x2 := Int32.toInt_lt x2
  have bl_y11_94 := Int32.toInt_lt y11_94
  have bl_y13_109 := Int32.toInt_lt y13_109
  try (have bu_0 := Int32.toInt_lt (S_94.1 20 0))
  try (have bu_1 := Int32.toInt_lt x1)
  try simp only [i_le, i_lt, i_eq, Int32.reduceToInt] at *
  first | (have e_0 := a32 (x := x1) (y := 3) (by (try simp only [Int32.reduceToInt]); omega); (try simp only [Int32.reduceToInt] at e_0)) | skip
  try simp only [Int32.reduceToInt] at *
  omega
def x_tg3 (S : XS) (x1 : Int32) (x2 : Int32) (x3 : Int64) (x4 : Int64) (x5 : Int64) (x6 : Int64) : XS := (x_tg3_R94 S x1 x2 x3 x4 x5 x6).2
theorem x_tg3_N (S : XS) (x1 : Int32) (x2 : Int32) (x3 : Int64) (x4 : Int64) (x5 : Int64) (x6 : Int64) (hI : XInv S) (hat : 0 ≤ x1 ∧ x1 ≤ 1 ∧ x2 = x1 + 3) : (x_tg3 S x1 x2 x3 x4 x5 x6).2.2.2 = S.2.2.2 := by
  unfold x_tg3
  have hMp : (x_tg3_R94 S x1 x2 x3 x4 x5 x6).2.2.2.2 = S.2.2.2 := (x_tg3_R94_P S x1 x2 x3 x4 x5 x6 hI hat).2
  exact hMp
theorem x_tg3_inv (S : XS) (x1 : Int32) (x2 : Int32) (x3 : Int64) (x4 : Int64) (x5 : Int64) (x6 : Int64) (hI : XInv S) (hat : 0 ≤ x1 ∧ x1 ≤ 1 ∧ x2 = x1 + 3) : XInv (x_tg3 S x1 x2 x3 x4 x5 x6) := by
  unfold x_tg3
  have hJp : XInv (x_tg3_R94 S x1 x2 x3 x4 x5 x6).2 := (x_tg3_R94_P S x1 x2 x3 x4 x5 x6 hI hat).1
  exact hJp
set_option maxHeartbeats 4000000 in
theorem xt_tg3 (l : Launch) (D : va_G) (d : Nat → ClassId) (A : Nat → Prop) (ad : XK → Nat) (S : XS) (x1 : Int32) (x2 : Int32) (x3 : Int64) (x4 : Int64) (x5 : Int64) (x6 : Int64) (hI : XInv S) (hat : 0 ≤ x1 ∧ x1 ≤ 1 ∧ x2 = x1 + 3) : XV l yX0_tryGears cX0_tryGears 14 (rm_ 4) D d A ad S [.ref (ad (0, 0)), .int x1, .int x2, .long x3, .long x4, .long x5, .long x6] (x_tg3 S x1 x2 x3 x4 x5 x6) := by
  refine x_startV RX0 rfl (by decide) (Nat.le_of_ble_eq_true rfl) ?_
  intro p e s m av below meth c ls Q X hrt hlk hl hR hQ
  have hx := X.1.1.1
  have hb := X.1.1.2.1
  have hown := X.1.1.2.2.2.1
  have hts := X.1.1.2.2.2.2
  have hS : va_S A s.heap s.heap [] := va_S.rf
  have hl : lv_has ls 14 [(0, .ref (ad (0, 0))), (1, .int x1), (2, .int x2), (3, .long x3), (5, .long x4), (7, .long x5), (9, .long x6)] := hl
  refine lv_iload_n hx hb dX0_tryGears_0 rfl (lv_at hl 1 rfl) ?_
  refine lv_iload_n hx hb dX0_tryGears_1 rfl (lv_at hl 2 rfl) ?_
  refine lv_icmp_ne (tgt := 91) hx hb dX0_tryGears_2 (by decide) (fun _ => ?_) (fun c1 => False.elim (by first | exact c1 (x_tg3_o2 S x1 x2 hI hat) | exact (x_tg3_o2 S x1 x2 hI hat) c1))
  refine lv_iconst (v := 0) hx hb dX0_tryGears_91 (by decide) ?_
  refine lv_istore (lv' := [(11, .int 0), (0, .ref (ad (0, 0))), (1, .int x1), (2, .int x2), (3, .long x3), (5, .long x4), (7, .long x5), (9, .long x6)]) hx hb dX0_tryGears_92 hl (by decide) rfl (fun ls hl => ?_)
  have K94 : ∀ (H : Heap) (locs : List Loc) (ls : Array Slot), (XInv (x_tg3_R94 S x1 x2 x3 x4 x5 x6).2) → ((x_tg3_R94 S x1 x2 x3 x4 x5 x6).2.2.2.2 = S.2.2.2) → XR D d A ad (x_tg3_R94 S x1 x2 x3 x4 x5 x6).2 H → va_S A s.heap H locs → lv_has ls 14 [(11, .int (x_tg3_R94 S x1 x2 x3 x4 x5 x6).1), (0, .ref (ad (0, 0))), (1, .int x1), (2, .int x2), (3, .long x3), (5, .long x4), (7, .long x5), (9, .long x6)] → W p l e (rm_ 4) s m av below meth c H locs 0 0 Q (F0 m 217 ls []) := by
    intro H locs ls hJp hMp hR hS hl
    exact x_rv hx hb hrt hlk hR hS hQ rfl dX0_tryGears_217
  have L94 : ∀ (f94 : Nat) (y11_94 : Int32) (S_94 : XS) (H : Heap) (locs : List Loc) (ls : Array Slot), (12 - y11_94 : Int32).toNatClampNeg < f94 → 0 ≤ y11_94 → XInv S_94 → S_94.2.2.2 = S.2.2.2 → x_tg3_L94 x1 x2 x3 x4 x5 x6 (f94) y11_94 S_94 = (x_tg3_R94 S x1 x2 x3 x4 x5 x6) → XR D d A ad S_94 H → va_S A s.heap H locs → lv_has ls 14 [(11, .int y11_94), (0, .ref (ad (0, 0))), (1, .int x1), (2, .int x2), (3, .long x3), (5, .long x4), (7, .long x5), (9, .long x6)] → W p l e (rm_ 4) s m av below meth c H locs 0 0 Q (F0 m 94 ls []) := by
    intro f94
    induction f94 with
    | zero => intro y11_94 S_94 H locs ls hf; exact absurd hf (Nat.not_lt_zero _)
    | succ f94 ih =>
      intro y11_94 S_94 H locs ls hf hi11 hJ hM hE hR hS hl
      refine lv_iload hx hb dX0_tryGears_94 (lv_at hl 0 rfl) ?_
      refine lv_aload_n hx hb dX0_tryGears_96 rfl (lv_at hl 1 rfl) ?_
      refine xg_i X.1 hR 20 (by decide) rfl q117 rfl dX0_tryGears_97 ?_
      refine lv_icmp_ge (tgt := 217) hx hb dX0_tryGears_100 (by decide) (fun c3 => ?_) (fun c3 => ?_)
      · have e0 : (x_tg3_R94 S x1 x2 x3 x4 x5 x6) = (y11_94, S_94) := Eq.trans (Eq.symm hE) (Eq.trans (x_tg3_L94_s _ _ _ _ _ _ _ _ _) (if_pos c3))
        exact K94 _ _ _ ((by rw [e0]; exact hJ)) ((by rw [e0]; exact hM)) (by rw [e0]; exact hR) hS (by rw [e0]; exact lv_sub hl [0, 1, 2, 3, 4, 5, 6, 7] rfl)
      · have hwm : 0 ≤ S_94.1 20 0 ∧ S_94.1 20 0 ≤ 12 := xi_wm hJ
        refine lv_iconst (v := 1) hx hb dX0_tryGears_103 (by decide) ?_
        refine lv_istore (lv' := [(12, .int 1), (11, .int y11_94), (0, .ref (ad (0, 0))), (1, .int x1), (2, .int x2), (3, .long x3), (5, .long x4), (7, .long x5), (9, .long x6)]) hx hb dX0_tryGears_104 hl (by decide) rfl (fun ls hl => ?_)
        refine lv_iconst (v := 0) hx hb dX0_tryGears_106 (by decide) ?_
        refine lv_istore (lv' := [(13, .int 0), (12, .int 1), (11, .int y11_94), (0, .ref (ad (0, 0))), (1, .int x1), (2, .int x2), (3, .long x3), (5, .long x4), (7, .long x5), (9, .long x6)]) hx hb dX0_tryGears_107 hl (by decide) rfl (fun ls hl => ?_)
        have K109 : ∀ (H : Heap) (locs : List Loc) (ls : Array Slot), XR D d A ad S_94 H → va_S A s.heap H locs → lv_has ls 14 [(13, .int (x_tg3_R109 x1 y11_94 S_94).2), (12, .int (x_tg3_R109 x1 y11_94 S_94).1), (11, .int y11_94), (0, .ref (ad (0, 0))), (1, .int x1), (2, .int x2), (3, .long x3), (5, .long x4), (7, .long x5), (9, .long x6)] → W p l e (rm_ 4) s m av below meth c H locs 0 0 Q (F0 m 143 ls []) := by
          intro H locs ls hR hS hl
          refine lv_iload hx hb dX0_tryGears_143 (lv_at hl 1 rfl) ?_
          have J21 : ∀ (w20 : XS) (H : Heap) (locs : List Loc) (ls : Array Slot), w20 = (x_tg3_j211_S x1 x2 x3 x4 x5 x6 y11_94 S_94) → XR D d A ad w20 H → va_S A s.heap H locs → lv_has ls 14 [(13, .int (x_tg3_R109 x1 y11_94 S_94).2), (12, .int (x_tg3_R109 x1 y11_94 S_94).1), (11, .int y11_94), (0, .ref (ad (0, 0))), (1, .int x1), (2, .int x2), (3, .long x3), (5, .long x4), (7, .long x5), (9, .long x6)] → W p l e (rm_ 4) s m av below meth c H locs 0 0 Q (F0 m 211 ls []) := by
            intro w20 H locs ls ew20 hR hS hl
            subst ew20
            have hN_j211_S : (x_tg3_j211_S x1 x2 x3 x4 x5 x6 y11_94 S_94).2.2.2 = S_94.2.2.2 := x_tg3_j211_S_N S x1 x2 x3 x4 x5 x6 y11_94 S_94 hI hat hi11 hJ hM c3
            have hI_j211_S : XInv (x_tg3_j211_S x1 x2 x3 x4 x5 x6 y11_94 S_94) := x_tg3_j211_S_I S x1 x2 x3 x4 x5 x6 y11_94 S_94 hI hat hi11 hJ hM c3
            refine lv_iinc (v := (y11_94 + 1)) (lv' := [(11, .int (y11_94 + 1)), (13, .int (x_tg3_R109 x1 y11_94 S_94).2), (12, .int (x_tg3_R109 x1 y11_94 S_94).1), (0, .ref (ad (0, 0))), (1, .int x1), (2, .int x2), (3, .long x3), (5, .long x4), (7, .long x5), (9, .long x6)]) hx hb dX0_tryGears_211 hl (k := 2) rfl rfl (by decide) rfl (fun ls hl => ?_)
            refine lv_goto (tgt := 94) hx hb dX0_tryGears_214 (by decide) ?_
            exact ih (y11_94 + 1) (x_tg3_j211_S x1 x2 x3 x4 x5 x6 y11_94 S_94) _ _  _ (Nat.lt_of_lt_of_le (up_ hi11 (x_tg3_o23 S x1 x2 x3 x4 x5 x6 y11_94 S_94 hI hat hi11 hJ hM c3 hwm hN_j211_S hI_j211_S)) (Nat.le_of_lt_succ hf)) (x_tg3_o22 S x1 x2 x3 x4 x5 x6 y11_94 S_94 hI hat hi11 hJ hM c3 hwm hN_j211_S hI_j211_S) (hI_j211_S) ((hN_j211_S.trans hM)) (Eq.trans (Eq.symm (Eq.trans (x_tg3_L94_s _ _ _ _ _ _ _ _ _) (if_neg c3))) hE) hR hS (lv_sub hl [0, 3, 4, 5, 6, 7, 8, 9] rfl)
          refine lv_if_eq (tgt := 211) hx hb dX0_tryGears_145 (by decide) (fun c9 => ?_) (fun c9 => ?_)
          · exact J21 _ _ _  _ (Eq.symm (if_pos c9)) hR hS  (lv_sub hl [0, 1, 2, 3, 4, 5, 6, 7, 8, 9] rfl)
          · refine lv_aload_n hx hb dX0_tryGears_148 rfl (lv_at hl 3 rfl) ?_
            refine xg_a X.1 hR 24 (by decide) (by decide) q121 dX0_tryGears_149 ?_
            refine lv_iload_n hx hb dX0_tryGears_152 rfl (lv_at hl 4 rfl) ?_
            refine lv_iload hx hb dX0_tryGears_153 (lv_at hl 2 rfl) ?_
            refine x_st X.1 hR hS ⟨by decide, rfl⟩ (ixl 4 4 (by decide) rfl (x_tg3_o10 S x1 x2 y11_94 S_94 hI hat hi11 hJ hM c3 hwm c9)) dX0_tryGears_155 (fun H locs hR hS => ?_)
            refine lv_aload_n hx hb dX0_tryGears_156 rfl (lv_at hl 3 rfl) ?_
            refine lv_iload_n hx hb dX0_tryGears_157 rfl (lv_at hl 4 rfl) ?_
            refine lv_iconst (v := 1) hx hb dX0_tryGears_158 (by decide) ?_
            refine lv_iadd hx hb dX0_tryGears_159 ?_
            refine lv_iload_n hx hb dX0_tryGears_160 rfl (lv_at hl 5 rfl) ?_
            refine lv_lload_n hx hb dX0_tryGears_161 rfl (lv_at hl 6 rfl) ?_
            refine lv_lload hx hb dX0_tryGears_162 (lv_at hl 7 rfl) ?_
            refine lv_iload_n hx hb dX0_tryGears_164 rfl (lv_at hl 4 rfl) ?_
            refine lv_iconst (v := 2) hx hb dX0_tryGears_165 (by decide) ?_
            refine lv_irem hx hb dX0_tryGears_166 (by decide) ?_
            have J14 : ∀ (w13 : Int64) (H : Heap) (locs : List Loc) (ls : Array Slot), w13 = (x_tg3_j186_s0 x1 x5 y11_94 S_94) → XR D d A ad (xu S_94 24 (Int32.toNatClampNeg x1) y11_94) H → va_S A s.heap H locs → lv_has ls 14 [(13, .int (x_tg3_R109 x1 y11_94 S_94).2), (12, .int (x_tg3_R109 x1 y11_94 S_94).1), (11, .int y11_94), (0, .ref (ad (0, 0))), (1, .int x1), (2, .int x2), (3, .long x3), (5, .long x4), (7, .long x5), (9, .long x6)] → W p l e (rm_ 4) s m av below meth c H locs 0 0 Q (F0 m 186 ls [.long w13, .long x4, .long x3, .int x2, .int (x1 + 1), .ref (ad (0, 0))]) := by
              intro w13 H locs ls ew13 hR hS hl
              subst ew13
              refine lv_iload_n hx hb dX0_tryGears_186 rfl (lv_at hl 4 rfl) ?_
              refine lv_iconst (v := 2) hx hb dX0_tryGears_187 (by decide) ?_
              refine lv_irem hx hb dX0_tryGears_188 (by decide) ?_
              have J18 : ∀ (w17 : Int64) (H : Heap) (locs : List Loc) (ls : Array Slot), w17 = (x_tg3_j208_s0 x1 x6 y11_94 S_94) → XR D d A ad (xu S_94 24 (Int32.toNatClampNeg x1) y11_94) H → va_S A s.heap H locs → lv_has ls 14 [(13, .int (x_tg3_R109 x1 y11_94 S_94).2), (12, .int (x_tg3_R109 x1 y11_94 S_94).1), (11, .int y11_94), (0, .ref (ad (0, 0))), (1, .int x1), (2, .int x2), (3, .long x3), (5, .long x4), (7, .long x5), (9, .long x6)] → W p l e (rm_ 4) s m av below meth c H locs 0 0 Q (F0 m 208 ls [.long w17, .long (x_tg3_j186_s0 x1 x5 y11_94 S_94), .long x4, .long x3, .int x2, .int (x1 + 1), .ref (ad (0, 0))]) := by
                intro w17 H locs ls ew17 hR hS hl
                subst ew17
                refine x_bv hS (xr_V X hR x_lv0 (ci := 0) (fs := x_fs ad (xu S_94 24 (Int32.toNatClampNeg x1) y11_94)) rfl rfl (xt_tg2 l D d A ad (xu S_94 24 (Int32.toNatClampNeg x1) y11_94) (x1 + 1) x2 x3 x4 (x_tg3_j186_s0 x1 x5 y11_94 S_94) (x_tg3_j208_s0 x1 x6 y11_94 S_94) ((XInv_xu hJ _ _ _ (by decide))) (x_tg3_o19 S x1 x2 y11_94 S_94 hI hat hi11 hJ hM c3 hwm c9)) 6 (lw_V q1061 q1063 qs20 q58 q1064) ⟨rfl, rfl⟩ (by decide +kernel) ⟨by decide, by decide⟩ ⟨by decide, by decide⟩ rfl hl.1 rfl (Nat.le_of_ble_eq_true rfl) dX0_tryGears_208) (fun H locs hR hS => ?_)
                have hN208 : (x_tg2 (xu S_94 24 (Int32.toNatClampNeg x1) y11_94) (x1 + 1) x2 x3 x4 (x_tg3_j186_s0 x1 x5 y11_94 S_94) (x_tg3_j208_s0 x1 x6 y11_94 S_94)).2.2.2 = S_94.2.2.2 := x_tg2_N (xu S_94 24 (Int32.toNatClampNeg x1) y11_94) (x1 + 1) x2 x3 x4 (x_tg3_j186_s0 x1 x5 y11_94 S_94) (x_tg3_j208_s0 x1 x6 y11_94 S_94) ((XInv_xu hJ _ _ _ (by decide))) (x_tg3_o19 S x1 x2 y11_94 S_94 hI hat hi11 hJ hM c3 hwm c9)
                have hI208 : XInv (x_tg2 (xu S_94 24 (Int32.toNatClampNeg x1) y11_94) (x1 + 1) x2 x3 x4 (x_tg3_j186_s0 x1 x5 y11_94 S_94) (x_tg3_j208_s0 x1 x6 y11_94 S_94)) := x_tg2_inv (xu S_94 24 (Int32.toNatClampNeg x1) y11_94) (x1 + 1) x2 x3 x4 (x_tg3_j186_s0 x1 x5 y11_94 S_94) (x_tg3_j208_s0 x1 x6 y11_94 S_94) ((XInv_xu hJ _ _ _ (by decide))) (x_tg3_o19 S x1 x2 y11_94 S_94 hI hat hi11 hJ hM c3 hwm c9)
                exact J21 _ _ _  _ (Eq.symm (if_neg c9)) hR hS  (lv_sub hl [0, 1, 2, 3, 4, 5, 6, 7, 8, 9] rfl)
              refine lv_if_ne (tgt := 197) hx hb dX0_tryGears_189 (by decide) (fun c15 => ?_) (fun c15 => ?_)
              · refine lv_lload hx hb dX0_tryGears_197 (lv_at hl 9 rfl) ?_
                refine lv_aload_n hx hb dX0_tryGears_199 rfl (lv_at hl 3 rfl) ?_
                refine xg_a X.1 hR 21 (by decide) (by decide) q118 dX0_tryGears_200 ?_
                refine lv_iload hx hb dX0_tryGears_203 (lv_at hl 2 rfl) ?_
                refine x_ld X.1 hR ⟨by decide, rfl⟩ (ixl 12 12 (by decide) rfl (x_tg3_o16 S x1 x2 y11_94 S_94 hI hat hi11 hJ hM c3 hwm c9 c15)) (v := S_94.1 21 (Int32.toNatClampNeg y11_94)) ((xu_k _ (by decide) _ _ _).trans rfl) dX0_tryGears_205 ?_
                refine lv_i2l hx hb dX0_tryGears_206 rfl ?_
                refine lv_lmul hx hb dX0_tryGears_207 ?_
                exact J18 _ _ _  _ (Eq.symm (if_neg c15)) hR hS  (lv_sub hl [0, 1, 2, 3, 4, 5, 6, 7, 8, 9] rfl)
              · refine lv_lload hx hb dX0_tryGears_192 (lv_at hl 9 rfl) ?_
                refine lv_goto (tgt := 208) hx hb dX0_tryGears_194 (by decide) ?_
                exact J18 _ _ _  _ (Eq.symm (if_pos c15)) hR hS  (lv_sub hl [0, 1, 2, 3, 4, 5, 6, 7, 8, 9] rfl)
            refine lv_if_ne (tgt := 184) hx hb dX0_tryGears_167 (by decide) (fun c11 => ?_) (fun c11 => ?_)
            · refine lv_lload hx hb dX0_tryGears_184 (lv_at hl 8 rfl) ?_
              exact J14 _ _ _  _ (Eq.symm (if_neg c11)) hR hS  (lv_sub hl [0, 1, 2, 3, 4, 5, 6, 7, 8, 9] rfl)
            · refine lv_lload hx hb dX0_tryGears_170 (lv_at hl 8 rfl) ?_
              refine lv_aload_n hx hb dX0_tryGears_172 rfl (lv_at hl 3 rfl) ?_
              refine xg_a X.1 hR 21 (by decide) (by decide) q118 dX0_tryGears_173 ?_
              refine lv_iload hx hb dX0_tryGears_176 (lv_at hl 2 rfl) ?_
              refine x_ld X.1 hR ⟨by decide, rfl⟩ (ixl 12 12 (by decide) rfl (x_tg3_o12 S x1 x2 y11_94 S_94 hI hat hi11 hJ hM c3 hwm c9 c11)) (v := S_94.1 21 (Int32.toNatClampNeg y11_94)) ((xu_k _ (by decide) _ _ _).trans rfl) dX0_tryGears_178 ?_
              refine lv_i2l hx hb dX0_tryGears_179 rfl ?_
              refine lv_lmul hx hb dX0_tryGears_180 ?_
              refine lv_goto (tgt := 186) hx hb dX0_tryGears_181 (by decide) ?_
              exact J14 _ _ _  _ (Eq.symm (if_pos c11)) hR hS  (lv_sub hl [0, 1, 2, 3, 4, 5, 6, 7, 8, 9] rfl)
        have L109 : ∀ (f109 : Nat) (y12_109 : Int32) (y13_109 : Int32) (H : Heap) (locs : List Loc) (ls : Array Slot), (x1 - y13_109 : Int32).toNatClampNeg < f109 → 0 ≤ y13_109 → x_tg3_L109 x1 y11_94 S_94 (f109) y12_109 y13_109 = (x_tg3_R109 x1 y11_94 S_94) → XR D d A ad S_94 H → va_S A s.heap H locs → lv_has ls 14 [(13, .int y13_109), (12, .int y12_109), (11, .int y11_94), (0, .ref (ad (0, 0))), (1, .int x1), (2, .int x2), (3, .long x3), (5, .long x4), (7, .long x5), (9, .long x6)] → W p l e (rm_ 4) s m av below meth c H locs 0 0 Q (F0 m 109 ls []) := by
          intro f109
          induction f109 with
          | zero => intro y12_109 y13_109 H locs ls hf; exact absurd hf (Nat.not_lt_zero _)
          | succ f109 ih =>
            intro y12_109 y13_109 H locs ls hf hi13 hE hR hS hl
            refine lv_iload hx hb dX0_tryGears_109 (lv_at hl 0 rfl) ?_
            refine lv_iload_n hx hb dX0_tryGears_111 rfl (lv_at hl 4 rfl) ?_
            refine lv_icmp_ge (tgt := 143) hx hb dX0_tryGears_112 (by decide) (fun c4 => ?_) (fun c4 => ?_)
            · have e0 : (x_tg3_R109 x1 y11_94 S_94) = (y12_109, y13_109) := Eq.trans (Eq.symm hE) (Eq.trans (x_tg3_L109_s _ _ _ _ _ _) (if_pos c4))
              exact K109 _ _ _ hR hS (by rw [e0]; exact lv_sub hl [0, 1, 2, 3, 4, 5, 6, 7, 8, 9] rfl)
            · refine lv_iload hx hb dX0_tryGears_115 (lv_at hl 1 rfl) ?_
              refine lv_aload_n hx hb dX0_tryGears_117 rfl (lv_at hl 3 rfl) ?_
              refine xg_a X.1 hR 24 (by decide) (by decide) q121 dX0_tryGears_118 ?_
              refine lv_iload hx hb dX0_tryGears_121 (lv_at hl 0 rfl) ?_
              refine x_ld X.1 hR ⟨by decide, rfl⟩ (ixl 4 4 (by decide) rfl (x_tg3_o5 S x1 x2 y11_94 S_94 y13_109 hI hat hi11 hJ hM c3 hwm hi13 c4)) (v := S_94.1 24 (Int32.toNatClampNeg y13_109)) rfl dX0_tryGears_123 ?_
              refine lv_iload hx hb dX0_tryGears_124 (lv_at hl 2 rfl) ?_
              have J8 : ∀ (w7 : Int32) (H : Heap) (locs : List Loc) (ls : Array Slot), w7 = (x_tg3_j134_s0 y11_94 S_94 y13_109) → XR D d A ad S_94 H → va_S A s.heap H locs → lv_has ls 14 [(13, .int y13_109), (12, .int y12_109), (11, .int y11_94), (0, .ref (ad (0, 0))), (1, .int x1), (2, .int x2), (3, .long x3), (5, .long x4), (7, .long x5), (9, .long x6)] → W p l e (rm_ 4) s m av below meth c H locs 0 0 Q (F0 m 134 ls [.int w7, .int y12_109]) := by
                intro w7 H locs ls ew7 hR hS hl
                subst ew7
                refine lv_iand hx hb dX0_tryGears_134 ?_
                refine lv_istore (lv' := [(12, .int (x_tg3_v135 y11_94 S_94 y12_109 y13_109)), (13, .int y13_109), (11, .int y11_94), (0, .ref (ad (0, 0))), (1, .int x1), (2, .int x2), (3, .long x3), (5, .long x4), (7, .long x5), (9, .long x6)]) hx hb dX0_tryGears_135 hl (by decide) rfl (fun ls hl => ?_)
                refine lv_iinc (v := (y13_109 + 1)) (lv' := [(13, .int (y13_109 + 1)), (12, .int (x_tg3_v135 y11_94 S_94 y12_109 y13_109)), (11, .int y11_94), (0, .ref (ad (0, 0))), (1, .int x1), (2, .int x2), (3, .long x3), (5, .long x4), (7, .long x5), (9, .long x6)]) hx hb dX0_tryGears_137 hl (k := 1) rfl rfl (by decide) rfl (fun ls hl => ?_)
                refine lv_goto (tgt := 109) hx hb dX0_tryGears_140 (by decide) ?_
                exact ih (x_tg3_v135 y11_94 S_94 y12_109 y13_109) (y13_109 + 1) _ _  _ (Nat.lt_of_lt_of_le (up_ hi13 (x_tg3_o25 S x1 x2 y11_94 S_94 y13_109 hI hat hi11 hJ hM c3 hwm hi13 c4)) (Nat.le_of_lt_succ hf)) (x_tg3_o24 S x1 x2 y11_94 S_94 y13_109 hI hat hi11 hJ hM c3 hwm hi13 c4) (Eq.trans (Eq.symm (Eq.trans (x_tg3_L109_s _ _ _ _ _ _) (if_neg c4))) hE) hR hS (lv_sub hl [0, 1, 2, 3, 4, 5, 6, 7, 8, 9] rfl)
              refine lv_icmp_eq (tgt := 133) hx hb dX0_tryGears_126 (by decide) (fun c6 => ?_) (fun c6 => ?_)
              · refine lv_iconst (v := 0) hx hb dX0_tryGears_133 (by decide) ?_
                exact J8 _ _ _  _ (Eq.symm (if_pos c6)) hR hS  (lv_sub hl [0, 1, 2, 3, 4, 5, 6, 7, 8, 9] rfl)
              · refine lv_iconst (v := 1) hx hb dX0_tryGears_129 (by decide) ?_
                refine lv_goto (tgt := 134) hx hb dX0_tryGears_130 (by decide) ?_
                exact J8 _ _ _  _ (Eq.symm (if_neg c6)) hR hS  (lv_sub hl [0, 1, 2, 3, 4, 5, 6, 7, 8, 9] rfl)
        exact L109 _ 1 0 _ _  _ (fz_lt _) (by decide) rfl hR hS (lv_sub hl [0, 1, 2, 3, 4, 5, 6, 7, 8, 9] rfl)
  exact L94 _ 0 S _ _  _ (fz_lt _) (by decide) (hI) (rfl) rfl hR hS (lv_sub hl [0, 1, 2, 3, 4, 5, 6, 7] rfl)
theorem x_tg4_o2 (S : XS) (x1 : Int32) (x2 : Int32) (hI : XInv S) (hat : 0 ≤ x1 ∧ x1 ≤ 0 ∧ x2 = x1 + 4) : ¬ x1 = x2 := by 
  have bl_x1 := Int32.toInt_lt x1
  have bl_x2 := Int32.toInt_lt x2
  try simp only [i_le, i_lt, i_eq, Int32.reduceToInt] at *
  first | (have e_0 := a32 (x := x1) (y := 4) (by (try simp only [Int32.reduceToInt]); omega); (try simp only [Int32.reduceToInt] at e_0)) | skip
  try simp only [Int32.reduceToInt] at *
  omega
theorem x_tg4_o5 (S : XS) (x1 : Int32) (x2 : Int32) (y11_94 : Int32) (S_94 : XS) (y13_109 : Int32) (hI : XInv S) (hat : 0 ≤ x1 ∧ x1 ≤ 0 ∧ x2 = x1 + 4) (hi11 : 0 ≤ y11_94) (hJ : XInv S_94) (hM : S_94.2.2.2 = S.2.2.2) (c3 : ¬ (S_94.1 20 0) ≤ y11_94) (hwm : 0 ≤ S_94.1 20 0 ∧ S_94.1 20 0 ≤ 12) (hi13 : 0 ≤ y13_109) (c4 : ¬ x1 ≤ y13_109) : 0 ≤ y13_109 ∧ y13_109 < 4 := by 
  have bl_x1 := Int32.toInt_lt x1
  have bl_x2 := Int32.toInt_lt x2
  have bl_y11_94 := Int32.toInt_lt y11_94
  have bl_y13_109 := Int32.toInt_lt y13_109
  try (have bu_0 := Int32.toInt_lt (S_94.1 20 0))
  try (have bu_1 := Int32.toInt_lt x1)
  try simp only [i_le, i_lt, i_eq, Int32.reduceToInt] at *
  first | (have e_0 := a32 (x := x1) (y := 4) (by (try simp only [Int32.reduceToInt]); omega); (try simp only [Int32.reduceToInt] at e_0)) | skip
  try simp only [Int32.reduceToInt] at *
  omega
def x_tg4_j134_s0 (y11_94 : Int32) (S_94 : XS) (y13_109 : Int32) : Int32 := (if (S_94.1 24 (Int32.toNatClampNeg y13_109)) = y11_94 then 0 else 1)
def x_tg4_v135 (y11_94 : Int32) (S_94 : XS) (y12_109 : Int32) (y13_109 : Int32) : Int32 := (y12_109 &&& (x_tg4_j134_s0 y11_94 S_94 y13_109))
def x_tg4_L109 (x1 : Int32) (y11_94 : Int32) (S_94 : XS) : Nat → Int32 → Int32 → Int32 × Int32
  | 0, y12_109, y13_109 => (y12_109, y13_109)
  | f109 + 1, y12_109, y13_109 => (if x1 ≤ y13_109 then (y12_109, y13_109) else (x_tg4_L109 x1 y11_94 S_94 f109 (x_tg4_v135 y11_94 S_94 y12_109 y13_109) (y13_109 + 1)))
theorem x_tg4_L109_s (x1 : Int32) (y11_94 : Int32) (S_94 : XS) (f109 : Nat) (y12_109 : Int32) (y13_109 : Int32) : x_tg4_L109 x1 y11_94 S_94 (f109 + 1) y12_109 y13_109 = (if x1 ≤ y13_109 then (y12_109, y13_109) else (x_tg4_L109 x1 y11_94 S_94 f109 (x_tg4_v135 y11_94 S_94 y12_109 y13_109) (y13_109 + 1))) := rfl
def x_tg4_R109 (x1 : Int32) (y11_94 : Int32) (S_94 : XS) : Int32 × Int32 := x_tg4_L109 x1 y11_94 S_94 (fz ((x1 - 0 : Int32).toNatClampNeg + 1)) 1 0
theorem x_tg4_o10 (S : XS) (x1 : Int32) (x2 : Int32) (y11_94 : Int32) (S_94 : XS) (hI : XInv S) (hat : 0 ≤ x1 ∧ x1 ≤ 0 ∧ x2 = x1 + 4) (hi11 : 0 ≤ y11_94) (hJ : XInv S_94) (hM : S_94.2.2.2 = S.2.2.2) (c3 : ¬ (S_94.1 20 0) ≤ y11_94) (hwm : 0 ≤ S_94.1 20 0 ∧ S_94.1 20 0 ≤ 12) (c9 : ¬ (x_tg4_R109 x1 y11_94 S_94).1 = 0) : 0 ≤ x1 ∧ x1 < 4 := by 
  have bl_x1 := Int32.toInt_lt x1
  have bl_x2 := Int32.toInt_lt x2
  have bl_y11_94 := Int32.toInt_lt y11_94
  try (have bu_0 := Int32.toInt_lt (S_94.1 20 0))
  try simp only [i_le, i_lt, i_eq, Int32.reduceToInt] at *
  first | (have e_0 := a32 (x := x1) (y := 4) (by (try simp only [Int32.reduceToInt]); omega); (try simp only [Int32.reduceToInt] at e_0)) | skip
  try simp only [Int32.reduceToInt] at *
  omega
theorem x_tg4_o12 (S : XS) (x1 : Int32) (x2 : Int32) (y11_94 : Int32) (S_94 : XS) (hI : XInv S) (hat : 0 ≤ x1 ∧ x1 ≤ 0 ∧ x2 = x1 + 4) (hi11 : 0 ≤ y11_94) (hJ : XInv S_94) (hM : S_94.2.2.2 = S.2.2.2) (c3 : ¬ (S_94.1 20 0) ≤ y11_94) (hwm : 0 ≤ S_94.1 20 0 ∧ S_94.1 20 0 ≤ 12) (c9 : ¬ (x_tg4_R109 x1 y11_94 S_94).1 = 0) (c11 : (x1 - x1 / 2 * 2) = 0) : 0 ≤ y11_94 ∧ y11_94 < 12 := by 
  have bl_x1 := Int32.toInt_lt x1
  have bl_x2 := Int32.toInt_lt x2
  have bl_y11_94 := Int32.toInt_lt y11_94
  try (have bu_0 := Int32.toInt_lt (S_94.1 20 0))
  try simp only [i_le, i_lt, i_eq, Int32.reduceToInt] at *
  first | (have e_0 := a32 (x := x1) (y := 4) (by (try simp only [Int32.reduceToInt]); omega); (try simp only [Int32.reduceToInt] at e_0)) | skip
  first | (have e_1 := d32 (x := x1) (y := 2) (by (try simp only [Int32.reduceToInt]); omega); (try simp only [Int32.reduceToInt] at e_1)) | skip
  first | (have e_2 := m32 (x := (x1 / 2)) (y := 2) (by (try simp only [Int32.reduceToInt]); omega); (try simp only [Int32.reduceToInt] at e_2)) | skip
  first | (have e_3 := s32 (x := x1) (y := (x1 / 2 * 2)) (by (try simp only [Int32.reduceToInt]); omega); (try simp only [Int32.reduceToInt] at e_3)) | skip
  try simp only [Int32.reduceToInt] at *
  omega
def x_tg4_j186_s0 (x1 : Int32) (x5 : Int64) (y11_94 : Int32) (S_94 : XS) : Int64 := (if (x1 - x1 / 2 * 2) = 0 then (x5 * (Int32.toInt64 (S_94.1 21 (Int32.toNatClampNeg y11_94)))) else x5)
theorem x_tg4_o16 (S : XS) (x1 : Int32) (x2 : Int32) (y11_94 : Int32) (S_94 : XS) (hI : XInv S) (hat : 0 ≤ x1 ∧ x1 ≤ 0 ∧ x2 = x1 + 4) (hi11 : 0 ≤ y11_94) (hJ : XInv S_94) (hM : S_94.2.2.2 = S.2.2.2) (c3 : ¬ (S_94.1 20 0) ≤ y11_94) (hwm : 0 ≤ S_94.1 20 0 ∧ S_94.1 20 0 ≤ 12) (c9 : ¬ (x_tg4_R109 x1 y11_94 S_94).1 = 0) (c15 : ¬ (x1 - x1 / 2 * 2) = 0) : 0 ≤ y11_94 ∧ y11_94 < 12 := by 
  have bl_x1 := Int32.toInt_lt x1
  have bl_x2 := Int32.toInt_lt x2
  have bl_y11_94 := Int32.toInt_lt y11_94
  try (have bu_0 := Int32.toInt_lt (S_94.1 20 0))
  try simp only [i_le, i_lt, i_eq, Int32.reduceToInt] at *
  first | (have e_0 := a32 (x := x1) (y := 4) (by (try simp only [Int32.reduceToInt]); omega); (try simp only [Int32.reduceToInt] at e_0)) | skip
  first | (have e_1 := d32 (x := x1) (y := 2) (by (try simp only [Int32.reduceToInt]); omega); (try simp only [Int32.reduceToInt] at e_1)) | skip
  first | (have e_2 := m32 (x := (x1 / 2)) (y := 2) (by (try simp only [Int32.reduceToInt]); omega); (try simp only [Int32.reduceToInt] at e_2)) | skip
  first | (have e_3 := s32 (x := x1) (y := (x1 / 2 * 2)) (by (try simp only [Int32.reduceToInt]); omega); (try simp only [Int32.reduceToInt] at e_3)) | skip
  try simp only [Int32.reduceToInt] at *
  omega
def x_tg4_j208_s0 (x1 : Int32) (x6 : Int64) (y11_94 : Int32) (S_94 : XS) : Int64 := (if (x1 - x1 / 2 * 2) = 0 then x6 else (x6 * (Int32.toInt64 (S_94.1 21 (Int32.toNatClampNeg y11_94)))))
theorem x_tg4_o19 (S : XS) (x1 : Int32) (x2 : Int32) (y11_94 : Int32) (S_94 : XS) (hI : XInv S) (hat : 0 ≤ x1 ∧ x1 ≤ 0 ∧ x2 = x1 + 4) (hi11 : 0 ≤ y11_94) (hJ : XInv S_94) (hM : S_94.2.2.2 = S.2.2.2) (c3 : ¬ (S_94.1 20 0) ≤ y11_94) (hwm : 0 ≤ S_94.1 20 0 ∧ S_94.1 20 0 ≤ 12) (c9 : ¬ (x_tg4_R109 x1 y11_94 S_94).1 = 0) : 0 ≤ (x1 + 1) ∧ (x1 + 1) ≤ 1 ∧ x2 = (x1 + 1) + 3 := by 
  have bl_x1 := Int32.toInt_lt x1
  have bl_x2 := Int32.toInt_lt x2
  have bl_y11_94 := Int32.toInt_lt y11_94
  try (have bu_0 := Int32.toInt_lt (S_94.1 20 0))
  try simp only [i_le, i_lt, i_eq, Int32.reduceToInt] at *
  first | (have e_0 := a32 (x := x1) (y := 4) (by (try simp only [Int32.reduceToInt]); omega); (try simp only [Int32.reduceToInt] at e_0)) | skip
  first | (have e_1 := a32 (x := x1) (y := 1) (by (try simp only [Int32.reduceToInt]); omega); (try simp only [Int32.reduceToInt] at e_1)) | skip
  first | (have e_2 := a32 (x := (x1 + 1)) (y := 3) (by (try simp only [Int32.reduceToInt]); omega); (try simp only [Int32.reduceToInt] at e_2)) | skip
  try simp only [Int32.reduceToInt] at *
  omega
def x_tg4_j211_S (x1 : Int32) (x2 : Int32) (x3 : Int64) (x4 : Int64) (x5 : Int64) (x6 : Int64) (y11_94 : Int32) (S_94 : XS) : XS := (if (x_tg4_R109 x1 y11_94 S_94).1 = 0 then S_94 else (x_tg3 (xu S_94 24 (Int32.toNatClampNeg x1) y11_94) (x1 + 1) x2 x3 x4 (x_tg4_j186_s0 x1 x5 y11_94 S_94) (x_tg4_j208_s0 x1 x6 y11_94 S_94)))
theorem x_tg4_j211_S_N (S : XS) (x1 : Int32) (x2 : Int32) (x3 : Int64) (x4 : Int64) (x5 : Int64) (x6 : Int64) (y11_94 : Int32) (S_94 : XS) (hI : XInv S) (hat : 0 ≤ x1 ∧ x1 ≤ 0 ∧ x2 = x1 + 4) (hi11 : 0 ≤ y11_94) (hJ : XInv S_94) (hM : S_94.2.2.2 = S.2.2.2) (c3 : ¬ (S_94.1 20 0) ≤ y11_94) : (x_tg4_j211_S x1 x2 x3 x4 x5 x6 y11_94 S_94).2.2.2 = S_94.2.2.2 := by
  unfold x_tg4_j211_S
  refine ifI (P := fun (z : XS) => z.2.2.2 = S_94.2.2.2) (fun c9 => ?_) (fun c9 => ?_)
  · exact rfl
  · have hwm : 0 ≤ S_94.1 20 0 ∧ S_94.1 20 0 ≤ 12 := xi_wm hJ
    have hN208 : (x_tg3 (xu S_94 24 (Int32.toNatClampNeg x1) y11_94) (x1 + 1) x2 x3 x4 (x_tg4_j186_s0 x1 x5 y11_94 S_94) (x_tg4_j208_s0 x1 x6 y11_94 S_94)).2.2.2 = S_94.2.2.2 := x_tg3_N (xu S_94 24 (Int32.toNatClampNeg x1) y11_94) (x1 + 1) x2 x3 x4 (x_tg4_j186_s0 x1 x5 y11_94 S_94) (x_tg4_j208_s0 x1 x6 y11_94 S_94) ((XInv_xu hJ _ _ _ (by decide))) (x_tg4_o19 S x1 x2 y11_94 S_94 hI hat hi11 hJ hM c3 hwm c9)
    exact hN208
theorem x_tg4_j211_S_I (S : XS) (x1 : Int32) (x2 : Int32) (x3 : Int64) (x4 : Int64) (x5 : Int64) (x6 : Int64) (y11_94 : Int32) (S_94 : XS) (hI : XInv S) (hat : 0 ≤ x1 ∧ x1 ≤ 0 ∧ x2 = x1 + 4) (hi11 : 0 ≤ y11_94) (hJ : XInv S_94) (hM : S_94.2.2.2 = S.2.2.2) (c3 : ¬ (S_94.1 20 0) ≤ y11_94) : XInv (x_tg4_j211_S x1 x2 x3 x4 x5 x6 y11_94 S_94) := by
  unfold x_tg4_j211_S
  refine ifI (P := XInv) (fun c9 => ?_) (fun c9 => ?_)
  · exact hJ
  · have hwm : 0 ≤ S_94.1 20 0 ∧ S_94.1 20 0 ≤ 12 := xi_wm hJ
    have hI208 : XInv (x_tg3 (xu S_94 24 (Int32.toNatClampNeg x1) y11_94) (x1 + 1) x2 x3 x4 (x_tg4_j186_s0 x1 x5 y11_94 S_94) (x_tg4_j208_s0 x1 x6 y11_94 S_94)) := x_tg3_inv (xu S_94 24 (Int32.toNatClampNeg x1) y11_94) (x1 + 1) x2 x3 x4 (x_tg4_j186_s0 x1 x5 y11_94 S_94) (x_tg4_j208_s0 x1 x6 y11_94 S_94) ((XInv_xu hJ _ _ _ (by decide))) (x_tg4_o19 S x1 x2 y11_94 S_94 hI hat hi11 hJ hM c3 hwm c9)
    exact hI208
def x_tg4_L94 (x1 : Int32) (x2 : Int32) (x3 : Int64) (x4 : Int64) (x5 : Int64) (x6 : Int64) : Nat → Int32 → XS → Int32 × XS
  | 0, y11_94, S_94 => (y11_94, S_94)
  | f94 + 1, y11_94, S_94 => (if (S_94.1 20 0) ≤ y11_94 then (y11_94, S_94) else (x_tg4_L94 x1 x2 x3 x4 x5 x6 f94 (y11_94 + 1) (x_tg4_j211_S x1 x2 x3 x4 x5 x6 y11_94 S_94)))
theorem x_tg4_L94_s (x1 : Int32) (x2 : Int32) (x3 : Int64) (x4 : Int64) (x5 : Int64) (x6 : Int64) (f94 : Nat) (y11_94 : Int32) (S_94 : XS) : x_tg4_L94 x1 x2 x3 x4 x5 x6 (f94 + 1) y11_94 S_94 = (if (S_94.1 20 0) ≤ y11_94 then (y11_94, S_94) else (x_tg4_L94 x1 x2 x3 x4 x5 x6 f94 (y11_94 + 1) (x_tg4_j211_S x1 x2 x3 x4 x5 x6 y11_94 S_94))) := rfl
def x_tg4_R94 (S : XS) (x1 : Int32) (x2 : Int32) (x3 : Int64) (x4 : Int64) (x5 : Int64) (x6 : Int64) : Int32 × XS := x_tg4_L94 x1 x2 x3 x4 x5 x6 (fz ((12 - 0 : Int32).toNatClampNeg + 1)) 0 S
theorem x_tg4_o22 (S : XS) (x1 : Int32) (x2 : Int32) (x3 : Int64) (x4 : Int64) (x5 : Int64) (x6 : Int64) (y11_94 : Int32) (S_94 : XS) (hI : XInv S) (hat : 0 ≤ x1 ∧ x1 ≤ 0 ∧ x2 = x1 + 4) (hi11 : 0 ≤ y11_94) (hJ : XInv S_94) (hM : S_94.2.2.2 = S.2.2.2) (c3 : ¬ (S_94.1 20 0) ≤ y11_94) (hwm : 0 ≤ S_94.1 20 0 ∧ S_94.1 20 0 ≤ 12) (hN_j211_S : (x_tg4_j211_S x1 x2 x3 x4 x5 x6 y11_94 S_94).2.2.2 = S_94.2.2.2) (hI_j211_S : XInv (x_tg4_j211_S x1 x2 x3 x4 x5 x6 y11_94 S_94)) : 0 ≤ (y11_94 + 1) := by 
  have bl_x1 := Int32.toInt_lt x1
  have bl_x2 := Int32.toInt_lt x2
  have bl_y11_94 := Int32.toInt_lt y11_94
  try (have bu_0 := Int32.toInt_lt (S_94.1 20 0))
  try simp only [i_le, i_lt, i_eq, Int32.reduceToInt] at *
  first | (have e_0 := a32 (x := x1) (y := 4) (by (try simp only [Int32.reduceToInt]); omega); (try simp only [Int32.reduceToInt] at e_0)) | skip
  first | (have e_1 := a32 (x := y11_94) (y := 1) (by (try simp only [Int32.reduceToInt]); omega); (try simp only [Int32.reduceToInt] at e_1)) | skip
  try simp only [Int32.reduceToInt] at *
  omega
theorem x_tg4_L94_P (S : XS) (x1 : Int32) (x2 : Int32) (x3 : Int64) (x4 : Int64) (x5 : Int64) (x6 : Int64) (hI : XInv S) (hat : 0 ≤ x1 ∧ x1 ≤ 0 ∧ x2 = x1 + 4) : ∀ (f94 : Nat) (y11_94 : Int32) (S_94 : XS), (0 ≤ y11_94) → (XInv S_94) → (S_94.2.2.2 = S.2.2.2) → (XInv (x_tg4_L94 x1 x2 x3 x4 x5 x6 f94 y11_94 S_94).2) ∧ ((x_tg4_L94 x1 x2 x3 x4 x5 x6 f94 y11_94 S_94).2.2.2.2 = S.2.2.2) := by
  intro f94
  induction f94 with
  | zero =>
    intro y11_94 S_94 hi11 hJ hM
    exact ⟨hJ, hM⟩
  | succ f94 ih =>
    intro y11_94 S_94 hi11 hJ hM
    rw [x_tg4_L94_s]
    refine ifI (P := fun (z : Int32 × XS) => (XInv z.2) ∧ (z.2.2.2.2 = S.2.2.2)) (fun c3 => ?_) (fun c3 => ?_)
    · exact ⟨hJ, hM⟩
    · have hwm : 0 ≤ S_94.1 20 0 ∧ S_94.1 20 0 ≤ 12 := xi_wm hJ
      have hN_j211_S : (x_tg4_j211_S x1 x2 x3 x4 x5 x6 y11_94 S_94).2.2.2 = S_94.2.2.2 := x_tg4_j211_S_N S x1 x2 x3 x4 x5 x6 y11_94 S_94 hI hat hi11 hJ hM c3
      have hI_j211_S : XInv (x_tg4_j211_S x1 x2 x3 x4 x5 x6 y11_94 S_94) := x_tg4_j211_S_I S x1 x2 x3 x4 x5 x6 y11_94 S_94 hI hat hi11 hJ hM c3
      exact ih (y11_94 + 1) (x_tg4_j211_S x1 x2 x3 x4 x5 x6 y11_94 S_94) (x_tg4_o22 S x1 x2 x3 x4 x5 x6 y11_94 S_94 hI hat hi11 hJ hM c3 hwm hN_j211_S hI_j211_S) (hI_j211_S) ((hN_j211_S.trans hM))
theorem x_tg4_R94_P (S : XS) (x1 : Int32) (x2 : Int32) (x3 : Int64) (x4 : Int64) (x5 : Int64) (x6 : Int64) (hI : XInv S) (hat : 0 ≤ x1 ∧ x1 ≤ 0 ∧ x2 = x1 + 4) : (XInv (x_tg4_R94 S x1 x2 x3 x4 x5 x6).2) ∧ ((x_tg4_R94 S x1 x2 x3 x4 x5 x6).2.2.2.2 = S.2.2.2) := by
  unfold x_tg4_R94
  exact x_tg4_L94_P S x1 x2 x3 x4 x5 x6 hI hat (fz ((12 - 0 : Int32).toNatClampNeg + 1)) 0 S (by decide) (hI) (rfl)
theorem x_tg4_o23 (S : XS) (x1 : Int32) (x2 : Int32) (x3 : Int64) (x4 : Int64) (x5 : Int64) (x6 : Int64) (y11_94 : Int32) (S_94 : XS) (hI : XInv S) (hat : 0 ≤ x1 ∧ x1 ≤ 0 ∧ x2 = x1 + 4) (hi11 : 0 ≤ y11_94) (hJ : XInv S_94) (hM : S_94.2.2.2 = S.2.2.2) (c3 : ¬ (S_94.1 20 0) ≤ y11_94) (hwm : 0 ≤ S_94.1 20 0 ∧ S_94.1 20 0 ≤ 12) (hN_j211_S : (x_tg4_j211_S x1 x2 x3 x4 x5 x6 y11_94 S_94).2.2.2 = S_94.2.2.2) (hI_j211_S : XInv (x_tg4_j211_S x1 x2 x3 x4 x5 x6 y11_94 S_94)) : y11_94 < 12 := by 
  have bl_x1 := Int32.toInt_lt x1
  have bl_x2 := Int32.toInt_lt x2
  have bl_y11_94 := Int32.toInt_lt y11_94
  try (have bu_0 := Int32.toInt_lt (S_94.1 20 0))
  try simp only [i_le, i_lt, i_eq, Int32.reduceToInt] at *
  first | (have e_0 := a32 (x := x1) (y := 4) (by (try simp only [Int32.reduceToInt]); omega); (try simp only [Int32.reduceToInt] at e_0)) | skip
  try simp only [Int32.reduceToInt] at *
  omega
theorem x_tg4_o24 (S : XS) (x1 : Int32) (x2 : Int32) (y11_94 : Int32) (S_94 : XS) (y13_109 : Int32) (hI : XInv S) (hat : 0 ≤ x1 ∧ x1 ≤ 0 ∧ x2 = x1 + 4) (hi11 : 0 ≤ y11_94) (hJ : XInv S_94) (hM : S_94.2.2.2 = S.2.2.2) (c3 : ¬ (S_94.1 20 0) ≤ y11_94) (hwm : 0 ≤ S_94.1 20 0 ∧ S_94.1 20 0 ≤ 12) (hi13 : 0 ≤ y13_109) (c4 : ¬ x1 ≤ y13_109) : 0 ≤ (y13_109 + 1) := by 
  have bl_x1 := Int32.toInt_lt x1
  have bl_x2 := Int32.toInt_lt x2
  have bl_y11_94 := Int32.toInt_lt y11_94
  have bl_y13_109 := Int32.toInt_lt y13_109
  try (have bu_0 := Int32.toInt_lt (S_94.1 20 0))
  try (have bu_1 := Int32.toInt_lt x1)
  try simp only [i_le, i_lt, i_eq, Int32.reduceToInt] at *
  first | (have e_0 := a32 (x := x1) (y := 4) (by (try simp only [Int32.reduceToInt]); omega); (try simp only [Int32.reduceToInt] at e_0)) | skip
  first | (have e_1 := a32 (x := y13_109) (y := 1) (by (try simp only [Int32.reduceToInt]); omega); (try simp only [Int32.reduceToInt] at e_1)) | skip
  try simp only [Int32.reduceToInt] at *
  omega
theorem x_tg4_o25 (S : XS) (x1 : Int32) (x2 : Int32) (y11_94 : Int32) (S_94 : XS) (y13_109 : Int32) (hI : XInv S) (hat : 0 ≤ x1 ∧ x1 ≤ 0 ∧ x2 = x1 + 4) (hi11 : 0 ≤ y11_94) (hJ : XInv S_94) (hM : S_94.2.2.2 = S.2.2.2) (c3 : ¬ (S_94.1 20 0) ≤ y11_94) (hwm : 0 ≤ S_94.1 20 0 ∧ S_94.1 20 0 ≤ 12) (hi13 : 0 ≤ y13_109) (c4 : ¬ x1 ≤ y13_109) : y13_109 < x1 := by 
  have bl_x1 := Int32.toInt_lt x1
  have bl_x2 := Int32.toInt_lt x2
  have bl_y11_94 := Int32.toInt_lt y11_94
  have bl_y13_109 := Int32.toInt_lt y13_109
  try (have bu_0 := Int32.toInt_lt (S_94.1 20 0))
  try (have bu_1 := Int32.toInt_lt x1)
  try simp only [i_le, i_lt, i_eq, Int32.reduceToInt] at *
  first | (have e_0 := a32 (x := x1) (y := 4) (by (try simp only [Int32.reduceToInt]); omega); (try simp only [Int32.reduceToInt] at e_0)) | skip
  try simp only [Int32.reduceToInt] at *
  omega
def x_tg4 (S : XS) (x1 : Int32) (x2 : Int32) (x3 : Int64) (x4 : Int64) (x5 : Int64) (x6 : Int64) : XS := (x_tg4_R94 S x1 x2 x3 x4 x5 x6).2
theorem x_tg4_N (S : XS) (x1 : Int32) (x2 : Int32) (x3 : Int64) (x4 : Int64) (x5 : Int64) (x6 : Int64) (hI : XInv S) (hat : 0 ≤ x1 ∧ x1 ≤ 0 ∧ x2 = x1 + 4) : (x_tg4 S x1 x2 x3 x4 x5 x6).2.2.2 = S.2.2.2 := by
  unfold x_tg4
  have hMp : (x_tg4_R94 S x1 x2 x3 x4 x5 x6).2.2.2.2 = S.2.2.2 := (x_tg4_R94_P S x1 x2 x3 x4 x5 x6 hI hat).2
  exact hMp
theorem x_tg4_inv (S : XS) (x1 : Int32) (x2 : Int32) (x3 : Int64) (x4 : Int64) (x5 : Int64) (x6 : Int64) (hI : XInv S) (hat : 0 ≤ x1 ∧ x1 ≤ 0 ∧ x2 = x1 + 4) : XInv (x_tg4 S x1 x2 x3 x4 x5 x6) := by
  unfold x_tg4
  have hJp : XInv (x_tg4_R94 S x1 x2 x3 x4 x5 x6).2 := (x_tg4_R94_P S x1 x2 x3 x4 x5 x6 hI hat).1
  exact hJp
set_option maxHeartbeats 4000000 in
theorem xt_tg4 (l : Launch) (D : va_G) (d : Nat → ClassId) (A : Nat → Prop) (ad : XK → Nat) (S : XS) (x1 : Int32) (x2 : Int32) (x3 : Int64) (x4 : Int64) (x5 : Int64) (x6 : Int64) (hI : XInv S) (hat : 0 ≤ x1 ∧ x1 ≤ 0 ∧ x2 = x1 + 4) : XV l yX0_tryGears cX0_tryGears 14 (rm_ 5) D d A ad S [.ref (ad (0, 0)), .int x1, .int x2, .long x3, .long x4, .long x5, .long x6] (x_tg4 S x1 x2 x3 x4 x5 x6) := by
  refine x_startV RX0 rfl (by decide) (Nat.le_of_ble_eq_true rfl) ?_
  intro p e s m av below meth c ls Q X hrt hlk hl hR hQ
  have hx := X.1.1.1
  have hb := X.1.1.2.1
  have hown := X.1.1.2.2.2.1
  have hts := X.1.1.2.2.2.2
  have hS : va_S A s.heap s.heap [] := va_S.rf
  have hl : lv_has ls 14 [(0, .ref (ad (0, 0))), (1, .int x1), (2, .int x2), (3, .long x3), (5, .long x4), (7, .long x5), (9, .long x6)] := hl
  refine lv_iload_n hx hb dX0_tryGears_0 rfl (lv_at hl 1 rfl) ?_
  refine lv_iload_n hx hb dX0_tryGears_1 rfl (lv_at hl 2 rfl) ?_
  refine lv_icmp_ne (tgt := 91) hx hb dX0_tryGears_2 (by decide) (fun _ => ?_) (fun c1 => False.elim (by first | exact c1 (x_tg4_o2 S x1 x2 hI hat) | exact (x_tg4_o2 S x1 x2 hI hat) c1))
  refine lv_iconst (v := 0) hx hb dX0_tryGears_91 (by decide) ?_
  refine lv_istore (lv' := [(11, .int 0), (0, .ref (ad (0, 0))), (1, .int x1), (2, .int x2), (3, .long x3), (5, .long x4), (7, .long x5), (9, .long x6)]) hx hb dX0_tryGears_92 hl (by decide) rfl (fun ls hl => ?_)
  have K94 : ∀ (H : Heap) (locs : List Loc) (ls : Array Slot), (XInv (x_tg4_R94 S x1 x2 x3 x4 x5 x6).2) → ((x_tg4_R94 S x1 x2 x3 x4 x5 x6).2.2.2.2 = S.2.2.2) → XR D d A ad (x_tg4_R94 S x1 x2 x3 x4 x5 x6).2 H → va_S A s.heap H locs → lv_has ls 14 [(11, .int (x_tg4_R94 S x1 x2 x3 x4 x5 x6).1), (0, .ref (ad (0, 0))), (1, .int x1), (2, .int x2), (3, .long x3), (5, .long x4), (7, .long x5), (9, .long x6)] → W p l e (rm_ 5) s m av below meth c H locs 0 0 Q (F0 m 217 ls []) := by
    intro H locs ls hJp hMp hR hS hl
    exact x_rv hx hb hrt hlk hR hS hQ rfl dX0_tryGears_217
  have L94 : ∀ (f94 : Nat) (y11_94 : Int32) (S_94 : XS) (H : Heap) (locs : List Loc) (ls : Array Slot), (12 - y11_94 : Int32).toNatClampNeg < f94 → 0 ≤ y11_94 → XInv S_94 → S_94.2.2.2 = S.2.2.2 → x_tg4_L94 x1 x2 x3 x4 x5 x6 (f94) y11_94 S_94 = (x_tg4_R94 S x1 x2 x3 x4 x5 x6) → XR D d A ad S_94 H → va_S A s.heap H locs → lv_has ls 14 [(11, .int y11_94), (0, .ref (ad (0, 0))), (1, .int x1), (2, .int x2), (3, .long x3), (5, .long x4), (7, .long x5), (9, .long x6)] → W p l e (rm_ 5) s m av below meth c H locs 0 0 Q (F0 m 94 ls []) := by
    intro f94
    induction f94 with
    | zero => intro y11_94 S_94 H locs ls hf; exact absurd hf (Nat.not_lt_zero _)
    | succ f94 ih =>
      intro y11_94 S_94 H locs ls hf hi11 hJ hM hE hR hS hl
      refine lv_iload hx hb dX0_tryGears_94 (lv_at hl 0 rfl) ?_
      refine lv_aload_n hx hb dX0_tryGears_96 rfl (lv_at hl 1 rfl) ?_
      refine xg_i X.1 hR 20 (by decide) rfl q117 rfl dX0_tryGears_97 ?_
      refine lv_icmp_ge (tgt := 217) hx hb dX0_tryGears_100 (by decide) (fun c3 => ?_) (fun c3 => ?_)
      · have e0 : (x_tg4_R94 S x1 x2 x3 x4 x5 x6) = (y11_94, S_94) := Eq.trans (Eq.symm hE) (Eq.trans (x_tg4_L94_s _ _ _ _ _ _ _ _ _) (if_pos c3))
        exact K94 _ _ _ ((by rw [e0]; exact hJ)) ((by rw [e0]; exact hM)) (by rw [e0]; exact hR) hS (by rw [e0]; exact lv_sub hl [0, 1, 2, 3, 4, 5, 6, 7] rfl)
      · have hwm : 0 ≤ S_94.1 20 0 ∧ S_94.1 20 0 ≤ 12 := xi_wm hJ
        refine lv_iconst (v := 1) hx hb dX0_tryGears_103 (by decide) ?_
        refine lv_istore (lv' := [(12, .int 1), (11, .int y11_94), (0, .ref (ad (0, 0))), (1, .int x1), (2, .int x2), (3, .long x3), (5, .long x4), (7, .long x5), (9, .long x6)]) hx hb dX0_tryGears_104 hl (by decide) rfl (fun ls hl => ?_)
        refine lv_iconst (v := 0) hx hb dX0_tryGears_106 (by decide) ?_
        refine lv_istore (lv' := [(13, .int 0), (12, .int 1), (11, .int y11_94), (0, .ref (ad (0, 0))), (1, .int x1), (2, .int x2), (3, .long x3), (5, .long x4), (7, .long x5), (9, .long x6)]) hx hb dX0_tryGears_107 hl (by decide) rfl (fun ls hl => ?_)
        have K109 : ∀ (H : Heap) (locs : List Loc) (ls : Array Slot), XR D d A ad S_94 H → va_S A s.heap H locs → lv_has ls 14 [(13, .int (x_tg4_R109 x1 y11_94 S_94).2), (12, .int (x_tg4_R109 x1 y11_94 S_94).1), (11, .int y11_94), (0, .ref (ad (0, 0))), (1, .int x1), (2, .int x2), (3, .long x3), (5, .long x4), (7, .long x5), (9, .long x6)] → W p l e (rm_ 5) s m av below meth c H locs 0 0 Q (F0 m 143 ls []) := by
          intro H locs ls hR hS hl
          refine lv_iload hx hb dX0_tryGears_143 (lv_at hl 1 rfl) ?_
          have J21 : ∀ (w20 : XS) (H : Heap) (locs : List Loc) (ls : Array Slot), w20 = (x_tg4_j211_S x1 x2 x3 x4 x5 x6 y11_94 S_94) → XR D d A ad w20 H → va_S A s.heap H locs → lv_has ls 14 [(13, .int (x_tg4_R109 x1 y11_94 S_94).2), (12, .int (x_tg4_R109 x1 y11_94 S_94).1), (11, .int y11_94), (0, .ref (ad (0, 0))), (1, .int x1), (2, .int x2), (3, .long x3), (5, .long x4), (7, .long x5), (9, .long x6)] → W p l e (rm_ 5) s m av below meth c H locs 0 0 Q (F0 m 211 ls []) := by
            intro w20 H locs ls ew20 hR hS hl
            subst ew20
            have hN_j211_S : (x_tg4_j211_S x1 x2 x3 x4 x5 x6 y11_94 S_94).2.2.2 = S_94.2.2.2 := x_tg4_j211_S_N S x1 x2 x3 x4 x5 x6 y11_94 S_94 hI hat hi11 hJ hM c3
            have hI_j211_S : XInv (x_tg4_j211_S x1 x2 x3 x4 x5 x6 y11_94 S_94) := x_tg4_j211_S_I S x1 x2 x3 x4 x5 x6 y11_94 S_94 hI hat hi11 hJ hM c3
            refine lv_iinc (v := (y11_94 + 1)) (lv' := [(11, .int (y11_94 + 1)), (13, .int (x_tg4_R109 x1 y11_94 S_94).2), (12, .int (x_tg4_R109 x1 y11_94 S_94).1), (0, .ref (ad (0, 0))), (1, .int x1), (2, .int x2), (3, .long x3), (5, .long x4), (7, .long x5), (9, .long x6)]) hx hb dX0_tryGears_211 hl (k := 2) rfl rfl (by decide) rfl (fun ls hl => ?_)
            refine lv_goto (tgt := 94) hx hb dX0_tryGears_214 (by decide) ?_
            exact ih (y11_94 + 1) (x_tg4_j211_S x1 x2 x3 x4 x5 x6 y11_94 S_94) _ _  _ (Nat.lt_of_lt_of_le (up_ hi11 (x_tg4_o23 S x1 x2 x3 x4 x5 x6 y11_94 S_94 hI hat hi11 hJ hM c3 hwm hN_j211_S hI_j211_S)) (Nat.le_of_lt_succ hf)) (x_tg4_o22 S x1 x2 x3 x4 x5 x6 y11_94 S_94 hI hat hi11 hJ hM c3 hwm hN_j211_S hI_j211_S) (hI_j211_S) ((hN_j211_S.trans hM)) (Eq.trans (Eq.symm (Eq.trans (x_tg4_L94_s _ _ _ _ _ _ _ _ _) (if_neg c3))) hE) hR hS (lv_sub hl [0, 3, 4, 5, 6, 7, 8, 9] rfl)
          refine lv_if_eq (tgt := 211) hx hb dX0_tryGears_145 (by decide) (fun c9 => ?_) (fun c9 => ?_)
          · exact J21 _ _ _  _ (Eq.symm (if_pos c9)) hR hS  (lv_sub hl [0, 1, 2, 3, 4, 5, 6, 7, 8, 9] rfl)
          · refine lv_aload_n hx hb dX0_tryGears_148 rfl (lv_at hl 3 rfl) ?_
            refine xg_a X.1 hR 24 (by decide) (by decide) q121 dX0_tryGears_149 ?_
            refine lv_iload_n hx hb dX0_tryGears_152 rfl (lv_at hl 4 rfl) ?_
            refine lv_iload hx hb dX0_tryGears_153 (lv_at hl 2 rfl) ?_
            refine x_st X.1 hR hS ⟨by decide, rfl⟩ (ixl 4 4 (by decide) rfl (x_tg4_o10 S x1 x2 y11_94 S_94 hI hat hi11 hJ hM c3 hwm c9)) dX0_tryGears_155 (fun H locs hR hS => ?_)
            refine lv_aload_n hx hb dX0_tryGears_156 rfl (lv_at hl 3 rfl) ?_
            refine lv_iload_n hx hb dX0_tryGears_157 rfl (lv_at hl 4 rfl) ?_
            refine lv_iconst (v := 1) hx hb dX0_tryGears_158 (by decide) ?_
            refine lv_iadd hx hb dX0_tryGears_159 ?_
            refine lv_iload_n hx hb dX0_tryGears_160 rfl (lv_at hl 5 rfl) ?_
            refine lv_lload_n hx hb dX0_tryGears_161 rfl (lv_at hl 6 rfl) ?_
            refine lv_lload hx hb dX0_tryGears_162 (lv_at hl 7 rfl) ?_
            refine lv_iload_n hx hb dX0_tryGears_164 rfl (lv_at hl 4 rfl) ?_
            refine lv_iconst (v := 2) hx hb dX0_tryGears_165 (by decide) ?_
            refine lv_irem hx hb dX0_tryGears_166 (by decide) ?_
            have J14 : ∀ (w13 : Int64) (H : Heap) (locs : List Loc) (ls : Array Slot), w13 = (x_tg4_j186_s0 x1 x5 y11_94 S_94) → XR D d A ad (xu S_94 24 (Int32.toNatClampNeg x1) y11_94) H → va_S A s.heap H locs → lv_has ls 14 [(13, .int (x_tg4_R109 x1 y11_94 S_94).2), (12, .int (x_tg4_R109 x1 y11_94 S_94).1), (11, .int y11_94), (0, .ref (ad (0, 0))), (1, .int x1), (2, .int x2), (3, .long x3), (5, .long x4), (7, .long x5), (9, .long x6)] → W p l e (rm_ 5) s m av below meth c H locs 0 0 Q (F0 m 186 ls [.long w13, .long x4, .long x3, .int x2, .int (x1 + 1), .ref (ad (0, 0))]) := by
              intro w13 H locs ls ew13 hR hS hl
              subst ew13
              refine lv_iload_n hx hb dX0_tryGears_186 rfl (lv_at hl 4 rfl) ?_
              refine lv_iconst (v := 2) hx hb dX0_tryGears_187 (by decide) ?_
              refine lv_irem hx hb dX0_tryGears_188 (by decide) ?_
              have J18 : ∀ (w17 : Int64) (H : Heap) (locs : List Loc) (ls : Array Slot), w17 = (x_tg4_j208_s0 x1 x6 y11_94 S_94) → XR D d A ad (xu S_94 24 (Int32.toNatClampNeg x1) y11_94) H → va_S A s.heap H locs → lv_has ls 14 [(13, .int (x_tg4_R109 x1 y11_94 S_94).2), (12, .int (x_tg4_R109 x1 y11_94 S_94).1), (11, .int y11_94), (0, .ref (ad (0, 0))), (1, .int x1), (2, .int x2), (3, .long x3), (5, .long x4), (7, .long x5), (9, .long x6)] → W p l e (rm_ 5) s m av below meth c H locs 0 0 Q (F0 m 208 ls [.long w17, .long (x_tg4_j186_s0 x1 x5 y11_94 S_94), .long x4, .long x3, .int x2, .int (x1 + 1), .ref (ad (0, 0))]) := by
                intro w17 H locs ls ew17 hR hS hl
                subst ew17
                refine x_bv hS (xr_V X hR x_lv0 (ci := 0) (fs := x_fs ad (xu S_94 24 (Int32.toNatClampNeg x1) y11_94)) rfl rfl (xt_tg3 l D d A ad (xu S_94 24 (Int32.toNatClampNeg x1) y11_94) (x1 + 1) x2 x3 x4 (x_tg4_j186_s0 x1 x5 y11_94 S_94) (x_tg4_j208_s0 x1 x6 y11_94 S_94) ((XInv_xu hJ _ _ _ (by decide))) (x_tg4_o19 S x1 x2 y11_94 S_94 hI hat hi11 hJ hM c3 hwm c9)) 6 (lw_V q1061 q1063 qs20 q58 q1064) ⟨rfl, rfl⟩ (by decide +kernel) ⟨by decide, by decide⟩ ⟨by decide, by decide⟩ rfl hl.1 rfl (Nat.le_of_ble_eq_true rfl) dX0_tryGears_208) (fun H locs hR hS => ?_)
                have hN208 : (x_tg3 (xu S_94 24 (Int32.toNatClampNeg x1) y11_94) (x1 + 1) x2 x3 x4 (x_tg4_j186_s0 x1 x5 y11_94 S_94) (x_tg4_j208_s0 x1 x6 y11_94 S_94)).2.2.2 = S_94.2.2.2 := x_tg3_N (xu S_94 24 (Int32.toNatClampNeg x1) y11_94) (x1 + 1) x2 x3 x4 (x_tg4_j186_s0 x1 x5 y11_94 S_94) (x_tg4_j208_s0 x1 x6 y11_94 S_94) ((XInv_xu hJ _ _ _ (by decide))) (x_tg4_o19 S x1 x2 y11_94 S_94 hI hat hi11 hJ hM c3 hwm c9)
                have hI208 : XInv (x_tg3 (xu S_94 24 (Int32.toNatClampNeg x1) y11_94) (x1 + 1) x2 x3 x4 (x_tg4_j186_s0 x1 x5 y11_94 S_94) (x_tg4_j208_s0 x1 x6 y11_94 S_94)) := x_tg3_inv (xu S_94 24 (Int32.toNatClampNeg x1) y11_94) (x1 + 1) x2 x3 x4 (x_tg4_j186_s0 x1 x5 y11_94 S_94) (x_tg4_j208_s0 x1 x6 y11_94 S_94) ((XInv_xu hJ _ _ _ (by decide))) (x_tg4_o19 S x1 x2 y11_94 S_94 hI hat hi11 hJ hM c3 hwm c9)
                exact J21 _ _ _  _ (Eq.symm (if_neg c9)) hR hS  (lv_sub hl [0, 1, 2, 3, 4, 5, 6, 7, 8, 9] rfl)
              refine lv_if_ne (tgt := 197) hx hb dX0_tryGears_189 (by decide) (fun c15 => ?_) (fun c15 => ?_)
              · refine lv_lload hx hb dX0_tryGears_197 (lv_at hl 9 rfl) ?_
                refine lv_aload_n hx hb dX0_tryGears_199 rfl (lv_at hl 3 rfl) ?_
                refine xg_a X.1 hR 21 (by decide) (by decide) q118 dX0_tryGears_200 ?_
                refine lv_iload hx hb dX0_tryGears_203 (lv_at hl 2 rfl) ?_
                refine x_ld X.1 hR ⟨by decide, rfl⟩ (ixl 12 12 (by decide) rfl (x_tg4_o16 S x1 x2 y11_94 S_94 hI hat hi11 hJ hM c3 hwm c9 c15)) (v := S_94.1 21 (Int32.toNatClampNeg y11_94)) ((xu_k _ (by decide) _ _ _).trans rfl) dX0_tryGears_205 ?_
                refine lv_i2l hx hb dX0_tryGears_206 rfl ?_
                refine lv_lmul hx hb dX0_tryGears_207 ?_
                exact J18 _ _ _  _ (Eq.symm (if_neg c15)) hR hS  (lv_sub hl [0, 1, 2, 3, 4, 5, 6, 7, 8, 9] rfl)
              · refine lv_lload hx hb dX0_tryGears_192 (lv_at hl 9 rfl) ?_
                refine lv_goto (tgt := 208) hx hb dX0_tryGears_194 (by decide) ?_
                exact J18 _ _ _  _ (Eq.symm (if_pos c15)) hR hS  (lv_sub hl [0, 1, 2, 3, 4, 5, 6, 7, 8, 9] rfl)
            refine lv_if_ne (tgt := 184) hx hb dX0_tryGears_167 (by decide) (fun c11 => ?_) (fun c11 => ?_)
            · refine lv_lload hx hb dX0_tryGears_184 (lv_at hl 8 rfl) ?_
              exact J14 _ _ _  _ (Eq.symm (if_neg c11)) hR hS  (lv_sub hl [0, 1, 2, 3, 4, 5, 6, 7, 8, 9] rfl)
            · refine lv_lload hx hb dX0_tryGears_170 (lv_at hl 8 rfl) ?_
              refine lv_aload_n hx hb dX0_tryGears_172 rfl (lv_at hl 3 rfl) ?_
              refine xg_a X.1 hR 21 (by decide) (by decide) q118 dX0_tryGears_173 ?_
              refine lv_iload hx hb dX0_tryGears_176 (lv_at hl 2 rfl) ?_
              refine x_ld X.1 hR ⟨by decide, rfl⟩ (ixl 12 12 (by decide) rfl (x_tg4_o12 S x1 x2 y11_94 S_94 hI hat hi11 hJ hM c3 hwm c9 c11)) (v := S_94.1 21 (Int32.toNatClampNeg y11_94)) ((xu_k _ (by decide) _ _ _).trans rfl) dX0_tryGears_178 ?_
              refine lv_i2l hx hb dX0_tryGears_179 rfl ?_
              refine lv_lmul hx hb dX0_tryGears_180 ?_
              refine lv_goto (tgt := 186) hx hb dX0_tryGears_181 (by decide) ?_
              exact J14 _ _ _  _ (Eq.symm (if_pos c11)) hR hS  (lv_sub hl [0, 1, 2, 3, 4, 5, 6, 7, 8, 9] rfl)
        have L109 : ∀ (f109 : Nat) (y12_109 : Int32) (y13_109 : Int32) (H : Heap) (locs : List Loc) (ls : Array Slot), (x1 - y13_109 : Int32).toNatClampNeg < f109 → 0 ≤ y13_109 → x_tg4_L109 x1 y11_94 S_94 (f109) y12_109 y13_109 = (x_tg4_R109 x1 y11_94 S_94) → XR D d A ad S_94 H → va_S A s.heap H locs → lv_has ls 14 [(13, .int y13_109), (12, .int y12_109), (11, .int y11_94), (0, .ref (ad (0, 0))), (1, .int x1), (2, .int x2), (3, .long x3), (5, .long x4), (7, .long x5), (9, .long x6)] → W p l e (rm_ 5) s m av below meth c H locs 0 0 Q (F0 m 109 ls []) := by
          intro f109
          induction f109 with
          | zero => intro y12_109 y13_109 H locs ls hf; exact absurd hf (Nat.not_lt_zero _)
          | succ f109 ih =>
            intro y12_109 y13_109 H locs ls hf hi13 hE hR hS hl
            refine lv_iload hx hb dX0_tryGears_109 (lv_at hl 0 rfl) ?_
            refine lv_iload_n hx hb dX0_tryGears_111 rfl (lv_at hl 4 rfl) ?_
            refine lv_icmp_ge (tgt := 143) hx hb dX0_tryGears_112 (by decide) (fun c4 => ?_) (fun c4 => ?_)
            · have e0 : (x_tg4_R109 x1 y11_94 S_94) = (y12_109, y13_109) := Eq.trans (Eq.symm hE) (Eq.trans (x_tg4_L109_s _ _ _ _ _ _) (if_pos c4))
              exact K109 _ _ _ hR hS (by rw [e0]; exact lv_sub hl [0, 1, 2, 3, 4, 5, 6, 7, 8, 9] rfl)
            · refine lv_iload hx hb dX0_tryGears_115 (lv_at hl 1 rfl) ?_
              refine lv_aload_n hx hb dX0_tryGears_117 rfl (lv_at hl 3 rfl) ?_
              refine xg_a X.1 hR 24 (by decide) (by decide) q121 dX0_tryGears_118 ?_
              refine lv_iload hx hb dX0_tryGears_121 (lv_at hl 0 rfl) ?_
              refine x_ld X.1 hR ⟨by decide, rfl⟩ (ixl 4 4 (by decide) rfl (x_tg4_o5 S x1 x2 y11_94 S_94 y13_109 hI hat hi11 hJ hM c3 hwm hi13 c4)) (v := S_94.1 24 (Int32.toNatClampNeg y13_109)) rfl dX0_tryGears_123 ?_
              refine lv_iload hx hb dX0_tryGears_124 (lv_at hl 2 rfl) ?_
              have J8 : ∀ (w7 : Int32) (H : Heap) (locs : List Loc) (ls : Array Slot), w7 = (x_tg4_j134_s0 y11_94 S_94 y13_109) → XR D d A ad S_94 H → va_S A s.heap H locs → lv_has ls 14 [(13, .int y13_109), (12, .int y12_109), (11, .int y11_94), (0, .ref (ad (0, 0))), (1, .int x1), (2, .int x2), (3, .long x3), (5, .long x4), (7, .long x5), (9, .long x6)] → W p l e (rm_ 5) s m av below meth c H locs 0 0 Q (F0 m 134 ls [.int w7, .int y12_109]) := by
                intro w7 H locs ls ew7 hR hS hl
                subst ew7
                refine lv_iand hx hb dX0_tryGears_134 ?_
                refine lv_istore (lv' := [(12, .int (x_tg4_v135 y11_94 S_94 y12_109 y13_109)), (13, .int y13_109), (11, .int y11_94), (0, .ref (ad (0, 0))), (1, .int x1), (2, .int x2), (3, .long x3), (5, .long x4), (7, .long x5), (9, .long x6)]) hx hb dX0_tryGears_135 hl (by decide) rfl (fun ls hl => ?_)
                refine lv_iinc (v := (y13_109 + 1)) (lv' := [(13, .int (y13_109 + 1)), (12, .int (x_tg4_v135 y11_94 S_94 y12_109 y13_109)), (11, .int y11_94), (0, .ref (ad (0, 0))), (1, .int x1), (2, .int x2), (3, .long x3), (5, .long x4), (7, .long x5), (9, .long x6)]) hx hb dX0_tryGears_137 hl (k := 1) rfl rfl (by decide) rfl (fun ls hl => ?_)
                refine lv_goto (tgt := 109) hx hb dX0_tryGears_140 (by decide) ?_
                exact ih (x_tg4_v135 y11_94 S_94 y12_109 y13_109) (y13_109 + 1) _ _  _ (Nat.lt_of_lt_of_le (up_ hi13 (x_tg4_o25 S x1 x2 y11_94 S_94 y13_109 hI hat hi11 hJ hM c3 hwm hi13 c4)) (Nat.le_of_lt_succ hf)) (x_tg4_o24 S x1 x2 y11_94 S_94 y13_109 hI hat hi11 hJ hM c3 hwm hi13 c4) (Eq.trans (Eq.symm (Eq.trans (x_tg4_L109_s _ _ _ _ _ _) (if_neg c4))) hE) hR hS (lv_sub hl [0, 1, 2, 3, 4, 5, 6, 7, 8, 9] rfl)
              refine lv_icmp_eq (tgt := 133) hx hb dX0_tryGears_126 (by decide) (fun c6 => ?_) (fun c6 => ?_)
              · refine lv_iconst (v := 0) hx hb dX0_tryGears_133 (by decide) ?_
                exact J8 _ _ _  _ (Eq.symm (if_pos c6)) hR hS  (lv_sub hl [0, 1, 2, 3, 4, 5, 6, 7, 8, 9] rfl)
              · refine lv_iconst (v := 1) hx hb dX0_tryGears_129 (by decide) ?_
                refine lv_goto (tgt := 134) hx hb dX0_tryGears_130 (by decide) ?_
                exact J8 _ _ _  _ (Eq.symm (if_neg c6)) hR hS  (lv_sub hl [0, 1, 2, 3, 4, 5, 6, 7, 8, 9] rfl)
        exact L109 _ 1 0 _ _  _ (fz_lt _) (by decide) rfl hR hS (lv_sub hl [0, 1, 2, 3, 4, 5, 6, 7, 8, 9] rfl)
  exact L94 _ 0 S _ _  _ (fz_lt _) (by decide) (hI) (rfl) rfl hR hS (lv_sub hl [0, 1, 2, 3, 4, 5, 6, 7] rfl)
