/-! PRINTED by gen/run_x15.py -/
set_option maxRecDepth 100000
/-- nothing is pending -/
def XQ (X : XS) : Prop := X.2.2.2 8 0 = 0 ∧ X.2.2.2 9 0 = 0 ∧ X.2.2.2 10 0 = 0
theorem x_m16 {X : XS} (hI : XInv X) (h : ¬ X.1 5 0 = 16) : X.2.2.2 7 0 < 16 := by
  rcases Nat.lt_or_eq_of_le hI.1.1 with q | q
  · exact q
  · exact absurd (by rw [hI.2.1, q]; rfl) h
theorem x_te0 (ad : XK → Nat) (X : XS) (n : Int32) : x_te ad (xtr X 0 n) (X.2.2.2 7 0) = [] := by
  unfold x_te
  rw [xtr_0]
  rfl
theorem x_te1 (ad : XK → Nat) (X : XS) (n : Int32) : x_te ad (xtr X 1 n) (X.2.2.2 7 0) = [.ref (ad (41, X.2.2.2 7 0)), .int 0] := by
  unfold x_te
  rw [xtr_0, (xtr_at X 1 n).1]
  rfl
theorem x_te2 (ad : XK → Nat) (X : XS) (n : Int32) : x_te ad (xtr X 2 n) (X.2.2.2 7 0) = [.ref (ad (41, X.2.2.2 7 0))] := by
  unfold x_te
  rw [xtr_0]
  rfl
theorem x_te3 (ad : XK → Nat) (X : XS) (n : Int32) : x_te ad (xtr X 3 n) (X.2.2.2 7 0) = [.ref (ad (41, X.2.2.2 7 0)), .int 0, .ref (ad (42, X.2.2.2 7 0)), .int 0] := by
  unfold x_te
  rw [xtr_0, (xtr_at X 3 n).1, (xtr_at X 3 n).2]
  rfl
section XTAIL
variable {p : Program} {l : Launch} {e : Env} {R : Room} {s : State} {m : MethodId} {args : Array Value} {below : List Frame} {meth : Method} {c : Code} {H : Heap} {locs : List Loc} {cells slots : Nat} {Q : State → Prop}
variable {cc : ByteArray} {pc nL : Nat} {ls : Array Slot} {rest st0 : List Value} {D : va_G} {A : Nat → Prop} {d : Nat → ClassId} {own : String} {ad : XK → Nat} {X : XS}
theorem x_tail (X0 : xX p m c cc nL s args RX0 D d) {ad1 : XK → Nat} {q kd : Nat} {n : Int32} {F : Int32 × XS} {mc ms : Nat} (hR : XR D d A (adU ad1 (40, X.2.2.2 7 0) q) (xtr X kd n) H) (hS : va_S A s.heap H locs) (had : ad1 (0, 0) = ad (0, 0)) (h5 : X.1 5 0 = nI (X.2.2.2 7 0)) (hm : X.2.2.2 7 0 < 16) (hkd : kd ≤ 3) (h9 : ¬ kd = 0 → X.2.2.2 9 0 ≠ 0) (h10 : kd = 3 → X.2.2.2 10 0 ≠ 0) (hrt : meth.sig.returnType = some .int) (hlk : meth.locks = false) (hQ : Q = MQ below (xQa D d A ad F) args s mc ms A) (hF : F = x_comes (xtr X kd n)) (hcs : cells ≤ mc ∧ slots ≤ ms) (hrc : cells ≤ R.cells ∧ slots ≤ R.slots) (hRm : 1 ≤ R.frames ∧ 60 ≤ R.locals) (hl : ls.size = nL) (hdg : decode cc pc = .ok (.invokevirtual 99, 3)) (hdr : decode cc (pc + 3) = .ok (.ireturn, 1)) : W p l e R s m args below meth c H locs cells slots Q (F0 m pc ls [.ref q, .ref (ad1 (0, 0))]) := by
  have e1 : q = adU ad1 (40, X.2.2.2 7 0) q (40, (xtr X kd n).2.2.2 7 0) := (adU_self _ _ _).symm
  have e2 : ad1 (0, 0) = adU ad1 (40, X.2.2.2 7 0) q (0, 0) := (adU_s _ _ (by decide)).symm
  have h0 : (xtr X kd n).2.2.2 0 ((xtr X kd n).2.2.2 7 0) = kd := xtr_0 X kd n
  refine W.eq (g2 := F0 m pc ls [.ref (adU ad1 (40, X.2.2.2 7 0) q (40, (xtr X kd n).2.2.2 7 0)), .ref (adU ad1 (40, X.2.2.2 7 0) q (0, 0))]) (by rw [← e1, ← e2]) ?_
  refine x_bi hS (xr_V X0 hR x_lv0 (ci := 0) (fs := x_fs (adU ad1 (40, X.2.2.2 7 0) q) (xtr X kd n)) rfl rfl (xt_comes l D d A _ (xtr X kd n) ((xtr_i X kd n (by decide) 0).trans h5) hm (by rw [xtr_8]; decide) (fun h => ?_) (fun h => ?_) (by rw [h0]; exact hkd)) 1 (lw_V q412 q414 qs3 q58 q415) ⟨rfl, rfl⟩ (by decide +kernel) ⟨hRm.1, Nat.le_trans (Nat.le_of_ble_eq_true rfl) hRm.2⟩ hrc rfl hl rfl (Nat.le_of_ble_eq_true rfl) hdg) (fun H locs hR hS => ?_)
  · exact h9 (by rw [h0] at h; exact h)
  · exact h10 (by rw [h0] at h; exact h)
  exact x_riA X0.1.1.1 X0.1.1.2.1 hrt rfl hlk hR (e2.symm.trans had) hS hQ (hF.trans rfl) hcs hdr
end XTAIL
def x_train (S : XS) : Int32 × XS := if S.1 5 0 = 16 then (-2, S) else x_comes (xtr S 0 (S.1 5 0))
set_option maxHeartbeats 4000000 in
theorem xt_train (l : Launch) (D : va_G) (d : Nat → ClassId) (A : Nat → Prop) (ad : XK → Nat) (S : XS) (hI : XInv S) (hq : XQ S) : XIa l yX0_train cX0_train 1 .int (rmc_ 2 1 11) D d A ad S [.ref (ad (0, 0))] (x_train S) 1 11 := by
  refine x_startIa RX0 rfl (by decide) (Nat.le_of_ble_eq_true rfl) ?_
  intro p e s m av below meth c ls Q X hrt hlk hl hR hA hQ
  have hx := X.1.1.1
  have hb := X.1.1.2.1
  have hown := X.1.1.2.2.2.1
  have hts := X.1.1.2.2.2.2
  have hS : va_S A s.heap s.heap [] := va_S.rf
  have hl : lv_has ls 1 [(0, .ref (ad (0, 0)))] := hl
  refine lv_aload_n hx hb dX0_train_0 rfl (lv_at hl 0 rfl) ?_
  refine xg_i X.1 hR 5 (by decide) rfl q101 rfl dX0_train_1 ?_
  refine lv_bipush (v := 16) hx hb dX0_train_4 (by decide) ?_
  refine lv_icmp_ne (tgt := 14) hx hb dX0_train_6 (by decide) (fun c1 => ?_) (fun c1 => ?_)
  · have h8 := hq.1
    have ho := hI.1.2.2.1
    have h5 := hI.2.1
    have hm := x_m16 hI c1
    refine lv_aload_n hx hb dX0_train_14 rfl (lv_at hl 0 rfl) ?_
    refine x_new X hS hA (ci := 2) (CN := RX2) (T := TT2) (N := 10) rfl in_T2 ty_T2 q92 q350 q69 [.int 0, .int 0, .int 0, .int 0, .int 0, .int 0, .int 0, .int 0, .int 0, .int 0] (by decide +kernel) ⟨by decide, by decide⟩ dX0_train_15 fun q H1 hqz hAq hk hq hS => ?_
    have hR1 := hR.beside hk
    refine lv_dup hx hb dX0_train_18 rfl ?_
    refine lv_aload_n hx hb dX0_train_19 rfl (lv_at hl 0 rfl) ?_
    refine lv_aload_n hx hb dX0_train_20 rfl (lv_at hl 0 rfl) ?_
    refine xg_i X.1 hR1 5 (by decide) rfl q101 rfl dX0_train_21 ?_
    refine x_ctor X hR h8 (ho) (kd := 0) (n := S.1 5 0) hqz hAq hk hq hS (As := [.ref (ad (0, 0)), .int (S.1 5 0)]) (o_train2 l D d q (ad (0, 0)) (S.1 5 0) [.int 0, .int 0, .int 0, .int 0, .int 0, .int 0, .int 0, .int 0, .int 0, .int 0] (by decide)) rfl (by rw [xtr_tf, x_te0]; rfl) 2 q351 q352 q69 q353 ⟨rfl, rfl⟩ rfl ⟨by decide, by decide, rfl⟩ ⟨by decide, by decide⟩ ⟨by decide, by decide⟩ rfl hl.1 rfl (Nat.le_of_ble_eq_true rfl) dX0_train_24 fun H locs hR hS => ?_
    exact x_tail X hR hS rfl h5 hm (by decide) (fun h => absurd rfl h) (fun h => absurd h (by decide)) hrt hlk hQ (if_neg c1) ⟨by decide, by decide⟩ ⟨by decide, by decide⟩ ⟨by decide, by decide⟩ hl.1 dX0_train_27 dX0_train_30
  · refine lv_bipush (v := (-2)) hx hb dX0_train_9 (by decide) ?_
    refine lv_goto (tgt := 30) hx hb dX0_train_11 (by decide) ?_
    exact x_riA hx hb hrt rfl hlk hR rfl hS hQ (if_pos c1) ⟨by decide, by decide⟩ dX0_train_30
