/-! THE CLASS: tower. -/
set_option maxRecDepth 100000
/-- the train at a place is nowhere -/
def xpk (S : XS) (t k : Nat) : XS := if S.2.2.2 4 (2 * t + k) = 0 then S else xu S 47 (S.2.2.2 4 (2 * t + k) - 1) (-9)
theorem xpk_N (S : XS) (t k : Nat) : (xpk S t k).2.2.2 = S.2.2.2 := by
  unfold xpk
  split <;> rfl
def x_tower (S : XS) (x1 : Int32) : Int32 × XS := if x_isTower x1 = 0 then (-1, S) else if S.2.2.2 5 (Int32.toNatClampNeg x1) = 0 then (0, xtw S (Int32.toNatClampNeg x1)) else (1, xtw (xpk (xpk S (Int32.toNatClampNeg x1) 0) (Int32.toNatClampNeg x1) 1) (Int32.toNatClampNeg x1))
theorem x_tw4 {x : Int32} (h : ¬ (x_isTower x) = 0) : 0 ≤ x ∧ x < 4 := by
  simp only [x_isTower_eq] at h
  simp only [i_le, i_lt, i_eq, Int32.reduceToInt] at *
  omega
theorem XInv_xpk {S : XS} (h : XInv S) (t k : Nat) : XInv (xpk S t k) := by
  unfold xpk
  split
  · exact h
  · exact XInv_xu h _ _ _ (by decide)
section XTOWER2
variable {p : Program} {l : Launch} {e : Env} {R : Room} {s : State} {m : MethodId} {args : Array Value} {below : List Frame} {meth : Method} {c : Code} {H : Heap} {locs : List Loc} {cells slots : Nat} {Q : State → Prop}
variable {cc : ByteArray} {pc nL : Nat} {ls : Array Slot} {rest st0 : List Value} {D : va_G} {A : Nat → Prop} {d : Nat → ClassId} {own : String} {ad : XK → Nat} {X : XS}
theorem x_twStore (X0 : xX p m c cc nL s args own D d) {q q1 q2 : Nat} (hw : hp_R D A (tkL X) (tkA ad q q1 q2) (tkC d ad X q1 q2) H) (hS : va_S A s.heap H locs) {i : Int32} (hi : vp_in i 4) (hdg : decode cc pc = .ok (.aastore, 1))
    (kk : ∀ (H : Heap) (locs : List Loc), XR D d A (twA ad i.toNatClampNeg q q1 q2) (xtw X i.toNatClampNeg) H → va_S A s.heap H locs → W p l e R s m args below meth c H locs cells slots Q (F0 m (pc + 1) ls rest)) : W p l e R s m args below meth c H locs cells slots Q (F0 m pc ls (.ref q :: .int i :: .ref (ad (7, 0)) :: rest)) := by
  have e7 : tkA ad q q1 q2 (7, 0) = ad (7, 0) := by
    unfold tkA
    rw [if_neg (pne (by decide)), if_neg (pne (by decide)), if_neg (pne (by decide))]
  have c7 : tkC d ad X q1 q2 (7, 0) = x_C d ad X (7, 0) := by
    unfold tkC
    rw [if_neg (pne (by decide)), if_neg (pne (by decide)), if_neg (pne (by decide))]
  refine W.eq (g2 := F0 m pc ls (.ref (tkA ad q q1 q2 (90, 0)) :: .int i :: .ref (tkA ad q q1 q2 (7, 0)) :: rest)) (by rw [e7]; rfl) ?_
  refine hp_aast X0.1 hw hS (k := (7, 0)) (kv := (90, 0)) (C' := tkC' d ad X i.toNatClampNeg q q1 q2) (Or.inl (x_lva ⟨by decide, by decide⟩)) (Or.inr (Or.inl rfl)) (f := fun t => if X.2.2.2 5 t = 0 then none else some (ad (70, t))) (cA := d 5) (n := 4) (by rw [c7]; rfl) 5 rfl (ci := 6) (vs := twF q1 q2 (ad (0, 0))) rfl rfl (Or.inr rfl) hi hdg (if_pos rfl) (fun k' _ hne => if_neg hne) (fun H locs h hS => kk H locs (XR_tw h) hS)
def xPo (D : va_G) (d : Nat → ClassId) (A : Nat → Prop) (ad : XK → Nat) (X : XS) (av : List Value) : Array Value → State → Prop := va_Pc av (fun U => XR D d A ad X U.heap ∧ va_K D vwCl (dd_T d) U ∧ XE d U ∧ (∀ q, U.heap.size ≤ q → A q) ∧ va_AO "HammerTowers$Train" U)
theorem tw_blind {q z : Nat} {fs As : List Value} : FrameBlind (tP D d q z fs As) := fun a' U g mk h => ⟨h.1, h.2.1, h.2.2.1, va_K.moved (u := U) (U := U.calling g mk a') (Vm.Alike.refl U.vm) h.2.2.2.1, XE.same (u := U) (U := U.calling g mk a') rfl h.2.2.2.2.1, va_AO.moved (u := U) (U := U.calling g mk a') (Vm.Alike.refl U.vm) h.2.2.2.2.2⟩
end XTOWER2
set_option maxHeartbeats 4000000 in
theorem xt_tower (l : Launch) (D : va_G) (d : Nat → ClassId) (A : Nat → Prop) (ad : XK → Nat) (S : XS) (x1 : Int32) (hI : XInv S) : Met l yX0_tower (ws_ yX0_tower cX0_tower 4 (some .int)) (rmc_ 2 3 254) (xPo D d A ad S [.ref (ad (0, 0)), .int x1]) (xQa D d A ad (x_tower S x1)) 3 254 A := by
  refine Met.ofW (cc := cX0_tower) (maxL := 4) (ret := some .int) (by decide) rfl ?_
  intro p e s m args below meth c s₁ B hml hv
  obtain ⟨rfl, hR, hK, hE, hA, hO⟩ := hv
  have hts0 := atoms_spec (ws := ws_ yX0_tower cX0_tower 4 (some .int)) B.pre
  have hl := lv_entry [.ref (ad (0, 0)), .int x1] (n := 4) (Nat.le_of_ble_eq_true rfl)
  have ho : s.vm.findClass RX0 = some m.cls := findClass_of_methodNamed B.named
  rw [lg_entry_eq]
  generalize ((lg_sl [Value.ref (ad (0, 0)), Value.int x1] ++ List.replicate (4 - (lg_sl [Value.ref (ad (0, 0)), Value.int x1]).length) Slot.unset).toArray) = ls at hl ⊢
  have X : xX p m c cX0_tower 4 s [Value.ref (ad (0, 0)), Value.int x1].toArray RX0 D d := ⟨⟨⟨B.exec, B.bytes, hml, ho, fun w h => hts0 w (List.mem_cons_of_mem _ h)⟩, hK⟩, hE⟩
  have hrt := B.returns
  have hlk : meth.locks = false := B.notSynchronized
  obtain ⟨Q, hQ⟩ : ∃ Q, Q = MQ below (xQa D d A ad (x_tower S x1)) [Value.ref (ad (0, 0)), Value.int x1].toArray s 3 254 A := ⟨_, rfl⟩
  rw [← hQ]
  have hx := X.1.1.1
  have hb := X.1.1.2.1
  have hts := X.1.1.2.2.2.2
  have hS : va_S A s.heap s.heap [] := va_S.rf
  have hl : lv_has ls 4 [(0, .ref (ad (0, 0))), (1, .int x1)] := hl
  have tail : ∀ (Y : XS) (v k : Int32) (H : Heap) (locs : List Loc) (ls : Array Slot), ¬ x_isTower x1 = 0 → XR D d A ad Y H → va_S A s.heap H locs → lv_has ls 4 [(3, .int k), (2, .int v), (0, .ref (ad (0, 0))), (1, .int x1)] → x_tower S x1 = (v, xtw Y (Int32.toNatClampNeg x1)) → W p l e (rmc_ 2 3 254) s m [Value.ref (ad (0, 0)), Value.int x1].toArray below meth c H locs 0 0 Q (F0 m 72 ls []) := by
    intro Y v k H locs ls c1 hR hS hl hF
    refine lv_aload_n hx hb dX0_tower_72 rfl (lv_at hl 2 rfl) ?_
    refine xg_a X.1 hR 7 (by decide) (by decide) q104 dX0_tower_73 ?_
    refine lv_iload_n hx hb dX0_tower_76 rfl (lv_at hl 3 rfl) ?_
    refine x_new X hS hA (ci := 6) (CN := RX6) (T := TX6) (N := 12) rfl in_X6 tyX6_ok q94 q689 q77 [.int 0, .int 0, .int 0, .int 0, .int 0, .null, .int 0, .int 0, .int 0, .int 0, .null, .null] (by decide +kernel) ⟨by decide, by decide⟩ dX0_tower_77 fun q H1 hqz hAq hk hqo hS1 => ?_
    have hlt : q < H1.size := by
      obtain ⟨_, cell, z1, _⟩ := hqo
      exact (Array.getElem?_eq_some_iff.mp z1).1
    refine lv_dup hx hb dX0_tower_80 rfl ?_
    refine lv_aload_n hx hb dX0_tower_81 rfl (lv_at hl 2 rfl) ?_
    refine va_callv (va_runIN (As := [.ref (ad (0, 0))]) (rest := [.ref q, .int x1, .ref (ad (7, 0))]) X.1.1 (o_tower l D d q H1.size (ad (0, 0)) hlt) ⟨va_cnB 1 hts (lw_meth q692) rfl rfl rfl (X.2.nw q690 rfl) (hts _ q77) (by decide +kernel) ⟨by decide, by decide⟩, rfl, hts _ q691⟩ ⟨tw_blind, fun U hU hW => ⟨rfl, by rw [hU]; exact hqo.1, by rw [hU], va_K.moved hW.alike hK, hE.moved hW, hO.moved hW.alike⟩⟩ rfl rfl hl.1 rfl (lv_room (Nat.le_of_ble_eq_true rfl)) dX0_tower_82 ⟨by decide, by decide⟩) hS1 (fun x _ h => ?_) (fun x h => ?_) fun u t H2 locs2 ht hvm hw hB hz2 hk2 hS2 => ?_
    · rcases h with h | h
      · rw [h]; exact hAq
      · exact hA x (by have := hS.1; omega)
    · rcases h with h | h
      · rw [h]; exact hAq
      · exact hA x (by have := hS.1; omega)
    obtain ⟨q1, q2⟩ := u
    obtain ⟨w1, w2, w3⟩ := hw
    dsimp only at w1 w2 w3
    rw [ht] at hB
    have hkk : ∀ x, x < H.size → H2[x]? = H[x]? := fun x hx => by
      rw [hk2 x (by omega) (by rintro (h | h) <;> omega), hk x hx]
    have hw := tk_world (q := q) (q1 := q1) (q2 := q2) hR hkk hqz (by omega) (by omega) (by omega) (by omega) w3 (fun x h => hA x (Nat.le_trans hS.1 h)) hB
    refine x_twStore X hw hS2 (ixl 4 4 (by decide) rfl (x_tw4 c1)) dX0_tower_85 fun H locs hR hS => ?_
    refine lv_iload_n hx hb dX0_tower_86 rfl (lv_at hl 1 rfl) ?_
    refine x_riA hx hb hrt rfl hlk hR ?_ hS hQ hF ⟨by decide, by decide⟩ dX0_tower_87
    unfold twA
    rw [if_neg (pne (by decide)), if_neg (pne (by decide)), if_neg (pne (by decide))]
  refine lv_iload_n hx hb dX0_tower_0 rfl (lv_at hl 1 rfl) ?_
  refine s_ci X.1.1 (st_x_isTower l x1) 1 (lw_S q686 q687 q58 q688) ⟨rfl, rfl⟩ (by decide +kernel) ⟨by decide, by decide⟩ ⟨by decide, by decide⟩ rfl hl.1 rfl (Nat.le_of_ble_eq_true rfl) dX0_tower_1 ?_
  refine lv_if_ne (tgt := 9) hx hb dX0_tower_4 (by decide) (fun c1 => ?_) (fun c1 => ?_)
  · have h4 := x_tw4 c1
    have ht4 := tn4 h4
    refine lv_aload_n hx hb dX0_tower_9 rfl (lv_at hl 0 rfl) ?_
    refine xg_a X.1 hR 7 (by decide) (by decide) q104 dX0_tower_10 ?_
    refine lv_iload_n hx hb dX0_tower_13 rfl (lv_at hl 1 rfl) ?_
    refine x_ldwB X hR (ixl 4 4 (by decide) rfl h4) dX0_tower_14 (fun c2 => ?_) (fun c2 => ?_)
    · refine lv_ifnonnullN hx hb dX0_tower_15 ?_
      refine lv_iconst (v := 0) hx hb dX0_tower_18 (by decide) ?_
      refine lv_goto (tgt := 23) hx hb dX0_tower_19 (by decide) ?_
      refine lv_istore_n (lv' := [(2, .int 0), (0, .ref (ad (0, 0))), (1, .int x1)]) hx hb dX0_tower_23 rfl hl (by decide) rfl (fun ls hl => ?_)
      refine lv_iconst (v := 0) hx hb dX0_tower_24 (by decide) ?_
      refine lv_istore_n (lv' := [(3, .int 0), (2, .int 0), (0, .ref (ad (0, 0))), (1, .int x1)]) hx hb dX0_tower_25 rfl hl (by decide) rfl (fun ls hl => ?_)
      refine lv_iload_n hx hb dX0_tower_26 rfl (lv_at hl 0 rfl) ?_
      refine lv_iconst (v := 2) hx hb dX0_tower_27 (by decide) ?_
      refine lv_icmp_ge (tgt := 72) hx hb dX0_tower_28 (by decide) (fun c3 => absurd c3 (by decide)) (fun c3 => ?_)
      refine lv_iload_n hx hb dX0_tower_31 rfl (lv_at hl 1 rfl) ?_
      refine lv_iconst (v := 1) hx hb dX0_tower_32 (by decide) ?_
      refine lv_icmp_ne (tgt := 72) hx hb dX0_tower_33 (by decide) (fun c4 => ?_) (fun c4 => absurd c4 (by decide))
      exact tail S 0 0 _ _ ls c1 hR hS hl ((if_neg c1).trans (if_pos c2))
    · refine lv_ifnonnull (tgt := 22) hx hb dX0_tower_15 (by decide) ?_
      refine lv_iconst (v := 1) hx hb dX0_tower_22 (by decide) ?_
      refine lv_istore_n (lv' := [(2, .int 1), (0, .ref (ad (0, 0))), (1, .int x1)]) hx hb dX0_tower_23 rfl hl (by decide) rfl (fun ls hl => ?_)
      refine lv_iconst (v := 0) hx hb dX0_tower_24 (by decide) ?_
      refine lv_istore_n (lv' := [(3, .int 0), (2, .int 1), (0, .ref (ad (0, 0))), (1, .int x1)]) hx hb dX0_tower_25 rfl hl (by decide) rfl (fun ls hl => ?_)
      have it : ∀ (k : Int32) (Y : XS) (H : Heap) (locs : List Loc) (ls : Array Slot), (0 ≤ k ∧ k < 2) → XInv Y → Y.2.2.2 = S.2.2.2 → XR D d A ad Y H → va_S A s.heap H locs → lv_has ls 4 [(3, .int k), (2, .int 1), (0, .ref (ad (0, 0))), (1, .int x1)] → (∀ (H : Heap) (locs : List Loc) (ls : Array Slot), XR D d A ad (xpk Y (Int32.toNatClampNeg x1) (Int32.toNatClampNeg k)) H → va_S A s.heap H locs → lv_has ls 4 [(3, .int (k + 1)), (2, .int 1), (0, .ref (ad (0, 0))), (1, .int x1)] → W p l e (rmc_ 2 3 254) s m [Value.ref (ad (0, 0)), Value.int x1].toArray below meth c H locs 0 0 Q (F0 m 26 ls [])) → W p l e (rmc_ 2 3 254) s m [Value.ref (ad (0, 0)), Value.int x1].toArray below meth c H locs 0 0 Q (F0 m 26 ls []) := by
        intro k Y H locs ls hk hIY hN hR hS hl kt
        have c2' : ¬ Y.2.2.2 5 (Int32.toNatClampNeg x1) = 0 := by rw [hN]; exact c2
        refine lv_iload_n hx hb dX0_tower_26 rfl (lv_at hl 0 rfl) ?_
        refine lv_iconst (v := 2) hx hb dX0_tower_27 (by decide) ?_
        refine lv_icmp_ge (tgt := 72) hx hb dX0_tower_28 (by decide) (fun c3 => absurd hk.2 (Int32.not_lt.mpr c3)) (fun c3 => ?_)
        refine lv_iload_n hx hb dX0_tower_31 rfl (lv_at hl 1 rfl) ?_
        refine lv_iconst (v := 1) hx hb dX0_tower_32 (by decide) ?_
        refine lv_icmp_ne (tgt := 72) hx hb dX0_tower_33 (by decide) (fun c4 => absurd rfl c4) (fun c4 => ?_)
        refine lv_aload_n hx hb dX0_tower_36 rfl (lv_at hl 2 rfl) ?_
        refine xg_a X.1 hR 7 (by decide) (by decide) q104 dX0_tower_37 ?_
        refine lv_iload_n hx hb dX0_tower_40 rfl (lv_at hl 3 rfl) ?_
        refine x_ldw X hR (ixl 4 4 (by decide) rfl h4) c2' dX0_tower_41 ?_
        refine xgwo X hR (x_lvw ht4 c2') (Or.inr q706) dX0_tower_42 ?_
        refine lv_iload_n hx hb dX0_tower_45 rfl (lv_at hl 0 rfl) ?_
        refine x_ldoB X hR (x_lvo ht4 c2') (ixl 2 2 (by decide) rfl hk) dX0_tower_46 (fun c5 => ?_) (fun c5 => ?_)
        · refine lv_ifnullN (tgt := 66) hx hb dX0_tower_47 (by decide) ?_
          refine lv_iinc (v := k + 1) (lv' := [(3, .int (k + 1)), (2, .int 1), (0, .ref (ad (0, 0))), (1, .int x1)]) hx hb dX0_tower_66 hl (k := 0) rfl rfl (by decide) rfl (fun ls hl => ?_)
          refine lv_goto (tgt := 26) hx hb dX0_tower_69 (by decide) ?_
          refine kt _ _ ls ?_ hS hl
          unfold xpk
          rw [if_pos c5]
          exact hR
        · refine lv_ifnull hx hb dX0_tower_47 ?_
          refine lv_aload_n hx hb dX0_tower_50 rfl (lv_at hl 2 rfl) ?_
          refine xg_a X.1 hR 7 (by decide) (by decide) q104 dX0_tower_51 ?_
          refine lv_iload_n hx hb dX0_tower_54 rfl (lv_at hl 3 rfl) ?_
          refine x_ldw X hR (ixl 4 4 (by decide) rfl h4) c2' dX0_tower_55 ?_
          refine xgwo X hR (x_lvw ht4 c2') (Or.inr q706) dX0_tower_56 ?_
          refine lv_iload_n hx hb dX0_tower_59 rfl (lv_at hl 0 rfl) ?_
          refine x_ldo X hR (x_lvo ht4 c2') (ixl 2 2 (by decide) rfl hk) c5 dX0_tower_60 ?_
          refine lv_bipush (v := (-9)) hx hb dX0_tower_61 (by decide) ?_
          have hj := xi_own (X := Y) hIY (show 2 * Int32.toNatClampNeg x1 + Int32.toNatClampNeg k < 8 by have := tn2 hk; omega) c5
          refine xpt X hR hS (x_lvt hj) (xi_kd (X := Y) hIY hj) 7 (by decide) rfl q378 (Or.inl rfl) rfl dX0_tower_63 (fun H locs hR hS => ?_)
          refine lv_iinc (v := k + 1) (lv' := [(3, .int (k + 1)), (2, .int 1), (0, .ref (ad (0, 0))), (1, .int x1)]) hx hb dX0_tower_66 hl (k := 0) rfl rfl (by decide) rfl (fun ls hl => ?_)
          refine lv_goto (tgt := 26) hx hb dX0_tower_69 (by decide) ?_
          refine kt _ _ ls ?_ hS hl
          unfold xpk
          rw [if_neg c5]
          exact hR
      refine it 0 S _ _ ls (by decide) hI rfl hR hS hl fun H locs ls hR hS hl => ?_
      refine it 1 _ _ _ ls (by decide) (XInv_xpk hI _ _) (xpk_N S _ _) hR hS hl fun H locs ls hR hS hl => ?_
      refine lv_iload_n hx hb dX0_tower_26 rfl (lv_at hl 0 rfl) ?_
      refine lv_iconst (v := 2) hx hb dX0_tower_27 (by decide) ?_
      refine lv_icmp_ge (tgt := 72) hx hb dX0_tower_28 (by decide) (fun c3 => ?_) (fun c3 => absurd (by decide) c3)
      exact tail _ 1 _ _ _ ls c1 hR hS hl ((if_neg c1).trans (if_neg c2))
  · refine lv_iconst (v := (-1)) hx hb dX0_tower_7 (by decide) ?_
    exact x_riA hx hb hrt rfl hlk hR rfl hS hQ (if_pos c1) ⟨by decide, by decide⟩ dX0_tower_8
