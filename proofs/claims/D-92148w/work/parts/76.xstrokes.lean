/-! THE CLASS: strokesOf. -/
set_option maxRecDepth 100000
/-- are the first i of a row strokes, and is its length a length of notches -/
def sg (S : XS) (r : Nat) : Nat → Int32
  | 0 => x_in (nI (S.2.2.2 3 r - 1)) 1 24
  | i + 1 => sg S r i &&& x_in (S.2.2.1 3 r i) 1 24
def x_good (S : XS) (r : Nat) : Int32 := sg S r (S.2.2.2 3 r - 1)
def sfl (S : XS) (r k : Nat) : Nat → Int32 := fun i => if i < k then S.2.2.1 3 r i else 0
def x_strokes (S : XS) (r : Nat) : XS := xsn S (S.2.2.2 3 r - 1) (sfl S r (S.2.2.2 3 r - 1))
theorem nI_s (k : Nat) : nI k + 1 = nI (k + 1) := (Int32.ofNat_add k 1).symm
theorem sfl_s (S : XS) (r k : Nat) : upd (sfl S r k) k (S.2.2.1 3 r k) = sfl S r (k + 1) := by
  funext i
  unfold upd sfl
  by_cases h : i = k
  · subst h
    rw [if_pos rfl, if_pos (Nat.lt_succ_self _)]
  · rw [if_neg h]
    by_cases h2 : i < k
    · rw [if_pos h2, if_pos (by omega)]
    · rw [if_neg h2, if_neg (by omega)]
theorem sfl_0 (S : XS) (r : Nat) : sfl S r 0 = fun _ => 0 := by
  funext i
  exact if_neg (Nat.not_lt_zero i)
theorem xb_xsn (X : XS) (len : Nat) (f : Nat → Int32) (i : Nat) (v : Int32) : xb (xsn X len f) 0 (X.2.2.2 7 0) i v = xsn X len (upd f i v) := by
  unfold xb xsn
  refine Prod.ext rfl (Prod.ext rfl (Prod.ext ?_ rfl))
  funext s o j
  dsimp only
  by_cases h : s = 0 ∧ o = X.2.2.2 7 0
  · rw [if_pos h]
    unfold upd
    by_cases hj : j = i
    · rw [if_pos ⟨h.1, h.2, hj⟩, if_pos hj, if_pos h]
    · rw [if_neg (fun q => hj q.2.2), if_neg hj, if_pos h]
  · rw [if_neg h, if_neg (fun q => h ⟨q.1, q.2.1⟩), if_neg h]
section XSTROKES
variable {p : Program} {l : Launch} {e : Env} {R : Room} {s : State} {m : MethodId} {args : Array Value} {below : List Frame} {meth : Method} {c : Code} {H : Heap} {locs : List Loc} {cells slots : Nat} {Q : State → Prop}
variable {cc : ByteArray} {pc nL : Nat} {ls : Array Slot} {rest st0 : List Value} {D : va_G} {A : Nat → Prop} {d : Nat → ClassId} {own : String} {ad : XK → Nat} {X : XS}
theorem x_startG {y : MethodName} {cy : ByteArray} {ny : Nat} {ret : Option FieldType} {rm : Room} {As : List Value} {Qc : Array Value → State → Outcome → State → Prop} {mc ms : Nat} (own : String) (hyo : y.cls = own) (hy : plainName own = true) (hn : (lg_sl As).length ≤ ny)
    (body : ∀ (p : Program) (e : Env) (s : State) (m : MethodId) (av : Array Value) (below : List Frame) (meth : Method) (c : Code) (ls : Array Slot) (Q : State → Prop), xX p m c cy ny s av own D d → meth.sig.returnType = ret → meth.locks = false → lv_has ls ny (lv_args 0 As) → XR D d A ad X s.heap → (∀ q, s.heap.size ≤ q → A q) → Q = MQ below Qc av s mc ms A → W p l e rm s m av below meth c s.heap [] 0 0 Q (F0 m 0 ls [])) : Met l y (ws_ y cy ny ret) rm (xPa D d A ad X As) Qc mc ms A := by
  refine Met.ofW (cc := cy) (maxL := ny) (ret := ret) (by rw [hyo]; exact hy) rfl ?_
  intro p e s m args below meth c s₁ B hml hv
  obtain ⟨rfl, hR, hK, hE, hA⟩ := hv
  have hts := atoms_spec (ws := ws_ y cy ny ret) B.pre
  have hl := lv_entry As (n := ny) hn
  have ho : s.vm.findClass y.cls = some m.cls := findClass_of_methodNamed B.named
  rw [hyo] at ho
  rw [lg_entry_eq]
  exact body p e s m _ below meth c _ _ ⟨⟨⟨B.exec, B.bytes, hml, ho, fun w h => hts w (List.mem_cons_of_mem _ h)⟩, hK⟩, hE⟩ B.returns B.notSynchronized hl hR hA rfl
end XSTROKES
/-- what strokesOf leaves -/
def xSs (ad : XK → Nat) (S : XS) (r : Nat) (o : Option Nat) (u : (XK → Nat) × XS) : Prop := (x_good S r = 0 → o = none ∧ u = (ad, S)) ∧ (¬ x_good S r = 0 → ∃ q, o = some q ∧ u = (adU ad (41, S.2.2.2 7 0) q, x_strokes S r))
abbrev xQs (D : va_G) (d : Nat → ClassId) (A : Nat → Prop) (ad : XK → Nat) (S : XS) (r : Nat) : Array Value → State → Outcome → State → Prop := va_Qq (xSs ad S r) (fun (u : (XK → Nat) × XS) t => XR D d A u.1 u.2 t.heap) A
set_option maxHeartbeats 4000000 in
theorem xt_strokes (l : Launch) (D : va_G) (d : Nat → ClassId) (A : Nat → Prop) (ad : XK → Nat) (S : XS) (r : Nat) (hI : XInv S) (hr : r < 8) (h3 : ¬ S.2.2.2 3 r = 0) (h8 : S.2.2.2 8 0 = 0) (h9 : S.2.2.2 9 0 = 0) : Met l yX0_strokesOf (ws_ yX0_strokesOf cX0_strokesOf 4 (some (.array .int))) (rmc_ 1 1 48) (xPa D d A ad S [.ref (ad (30, r))]) (xQs D d A ad S r) 1 48 A := by
  refine x_startG RX0 rfl (by decide) (Nat.le_of_ble_eq_true rfl) ?_
  intro p e s m av below meth c ls Q X hrt hlk hl hR hA hQ
  have hx := X.1.1.1
  have hb := X.1.1.2.1
  have hS : va_S A s.heap s.heap [] := va_S.rf
  have hl : lv_has ls 4 [(0, .ref (ad (30, r)))] := hl
  have hlv : x_live S (30, r) := x_lvr hr h3
  obtain ⟨L, hL⟩ : ∃ L, L = S.2.2.2 3 r - 1 := ⟨_, rfl⟩
  have hL48 : L ≤ 48 := by have := hI.1.2.2.2 r hr; omega
  have hix : ∀ k, k < L → vp_in (nI k) L := fun k hk => ix_ (by omega) ⟨nI_pos' (by omega), nI_lt hk (by omega)⟩
  have lp : ∀ (m2 k : Nat) (ls : Array Slot), k + m2 = L → lv_has ls 4 [(2, .int (nI k)), (1, .int (sg S r k)), (0, .ref (ad (30, r)))] → (∀ ls : Array Slot, lv_has ls 4 [(2, .int (nI L)), (1, .int (sg S r L)), (0, .ref (ad (30, r)))] → W p l e (rmc_ 1 1 48) s m av below meth c s.heap [] 0 0 Q (F0 m 35 ls [])) → W p l e (rmc_ 1 1 48) s m av below meth c s.heap [] 0 0 Q (F0 m 11 ls []) := by
    intro m2
    induction m2 with
    | zero =>
      intro k ls hk hl kt
      have hk : k = L := by omega
      subst hk
      refine lv_iload_n hx hb dX0_strokesOf_11 rfl (lv_at hl 0 rfl) ?_
      refine lv_aload_n hx hb dX0_strokesOf_12 rfl (lv_at hl 2 rfl) ?_
      refine x_lnr X hR hlv (v := nI k) (by rw [hL]) dX0_strokesOf_13 ?_
      refine lv_icmp_ge (tgt := 35) hx hb dX0_strokesOf_14 (by decide) (fun c1 => kt ls hl) (fun c1 => ?_)
      exact absurd (Int32.le_refl _) c1
    | succ m2 ih =>
      intro k ls hk hl kt
      have hkL : k < L := by omega
      refine lv_iload_n hx hb dX0_strokesOf_11 rfl (lv_at hl 0 rfl) ?_
      refine lv_aload_n hx hb dX0_strokesOf_12 rfl (lv_at hl 2 rfl) ?_
      refine x_lnr X hR hlv (v := nI L) (by rw [hL]) dX0_strokesOf_13 ?_
      refine lv_icmp_ge (tgt := 35) hx hb dX0_strokesOf_14 (by decide) (fun c1 => absurd c1 (Int32.not_le.mpr (nI_lt hkL (by omega)))) (fun c1 => ?_)
      refine lv_iload_n hx hb dX0_strokesOf_17 rfl (lv_at hl 1 rfl) ?_
      refine lv_aload_n hx hb dX0_strokesOf_18 rfl (lv_at hl 2 rfl) ?_
      refine lv_iload_n hx hb dX0_strokesOf_19 rfl (lv_at hl 0 rfl) ?_
      refine x_ldr X hR hlv (by rw [← hL]; exact hix k hkL) (v := S.2.2.1 3 r k) (by rw [nI_clamp (by omega)]) dX0_strokesOf_20 ?_
      refine lv_iconst (v := 1) hx hb dX0_strokesOf_21 (by decide) ?_
      refine lv_bipush (v := 24) hx hb dX0_strokesOf_22 (by decide) ?_
      refine s_ci X.1.1 (st_x_in l (S.2.2.1 3 r k) 1 24) 3 (lw_S q280 q281 q58 q282) ⟨rfl, rfl⟩ (by decide +kernel) ⟨by decide, by decide⟩ ⟨by decide, by decide⟩ rfl hl.1 rfl (Nat.le_of_ble_eq_true rfl) dX0_strokesOf_24 ?_
      refine lv_iand hx hb dX0_strokesOf_27 ?_
      refine lv_istore_n (lv' := [(1, .int (sg S r (k + 1))), (2, .int (nI k)), (0, .ref (ad (30, r)))]) hx hb dX0_strokesOf_28 rfl hl (by decide) rfl (fun ls hl => ?_)
      refine lv_iinc (v := nI k + 1) (lv' := [(2, .int (nI k + 1)), (1, .int (sg S r (k + 1))), (0, .ref (ad (30, r)))]) hx hb dX0_strokesOf_29 hl (k := 1) rfl rfl (by decide) rfl (fun ls hl => ?_)
      refine lv_goto (tgt := 11) hx hb dX0_strokesOf_32 (by decide) ?_
      rw [nI_s] at hl
      exact ih (k + 1) ls (by omega) hl kt
  refine lv_aload_n hx hb dX0_strokesOf_0 rfl (lv_at hl 0 rfl) ?_
  refine x_lnr X hR hlv (v := nI (S.2.2.2 3 r - 1)) rfl dX0_strokesOf_1 ?_
  refine lv_iconst (v := 1) hx hb dX0_strokesOf_2 (by decide) ?_
  refine lv_bipush (v := 24) hx hb dX0_strokesOf_3 (by decide) ?_
  refine s_ci X.1.1 (st_x_in l (nI (S.2.2.2 3 r - 1)) 1 24) 3 (lw_S q280 q281 q58 q282) ⟨rfl, rfl⟩ (by decide +kernel) ⟨by decide, by decide⟩ ⟨by decide, by decide⟩ rfl hl.1 rfl (Nat.le_of_ble_eq_true rfl) dX0_strokesOf_5 ?_
  refine lv_istore_n (lv' := [(1, .int (sg S r 0)), (0, .ref (ad (30, r)))]) hx hb dX0_strokesOf_8 rfl hl (by decide) rfl (fun ls hl => ?_)
  refine lv_iconst (v := 0) hx hb dX0_strokesOf_9 (by decide) ?_
  refine lv_istore_n (lv' := [(2, .int (nI 0)), (1, .int (sg S r 0)), (0, .ref (ad (30, r)))]) hx hb dX0_strokesOf_10 rfl hl (by decide) rfl (fun ls hl => ?_)
  refine lp L 0 ls (by omega) hl fun ls hl => ?_
  have hg : sg S r L = x_good S r := by rw [hL]; rfl
  rw [hg] at hl
  refine lv_iload_n hx hb dX0_strokesOf_35 rfl (lv_at hl 1 rfl) ?_
  refine lv_if_ne (tgt := 41) hx hb dX0_strokesOf_36 (by decide) (fun c1 => ?_) (fun c1 => ?_)
  · refine lv_aload_n hx hb dX0_strokesOf_41 rfl (lv_at hl 2 rfl) ?_
    refine x_lnr X hR hlv (v := nI L) (by rw [hL]) dX0_strokesOf_42 ?_
    refine x_newI X hS hA (N := L) (nI_pos (by omega)) (nI_clamp (by omega)) (by omega) ⟨by decide, by show 0 + L ≤ 48; omega⟩ dX0_strokesOf_43 fun q H hqz hAq hk hc hS => ?_
    have hR := XR_sn (f := fun _ => 0) hR h8 h9 hqz hAq hk hc
    obtain ⟨ad', had⟩ : ∃ ad', ad' = adU ad (41, S.2.2.2 7 0) q := ⟨_, rfl⟩
    have e1 : q = ad' (41, S.2.2.2 7 0) := by rw [had, adU_self]
    have e2 : ad (30, r) = ad' (30, r) := by rw [had, adU_s _ _ (by decide)]
    rw [← had, ← sfl_0 S r] at hR
    rw [e2] at hl
    refine lv_astore_n (lv' := [(2, .ref q), (1, .int (x_good S r)), (0, .ref (ad' (30, r)))]) hx hb dX0_strokesOf_45 rfl hl (by decide) rfl (fun ls hl => ?_)
    rw [e1] at hl
    refine lv_iconst (v := 0) hx hb dX0_strokesOf_46 (by decide) ?_
    refine lv_istore_n (lv' := [(3, .int (nI 0)), (2, .ref (ad' (41, S.2.2.2 7 0))), (1, .int (x_good S r)), (0, .ref (ad' (30, r)))]) hx hb dX0_strokesOf_47 rfl hl (by decide) rfl (fun ls hl => ?_)
    have n3 : ∀ k, (xsn S L (sfl S r k)).2.2.2 3 r = S.2.2.2 3 r := fun k => xsn_N S L _ (by decide) (by decide) r
    have hlv' : ∀ k, x_live (xsn S L (sfl S r k)) (30, r) := fun k => x_lvr hr (by rw [n3]; exact h3)
    have hln' : ∀ k, x_live (xsn S L (sfl S r k)) (41, S.2.2.2 7 0) := fun k => x_lvnP (X := xsn S L (sfl S r k)) (by rw [xsn_9]; decide)
    have lp2 : ∀ (m2 k : Nat) (ls : Array Slot) (H : Heap) (locs : List Loc), k + m2 = L → XR D d A ad' (xsn S L (sfl S r k)) H → va_S A s.heap H locs → lv_has ls 4 [(3, .int (nI k)), (2, .ref (ad' (41, S.2.2.2 7 0))), (1, .int (x_good S r)), (0, .ref (ad' (30, r)))] → W p l e (rmc_ 1 1 48) s m av below meth c H locs (0 + 1) (0 + L) Q (F0 m 48 ls []) := by
      intro m2
      induction m2 with
      | zero =>
        intro k ls H locs hk hRz hSz hlz
        have hk : k = L := by omega
        subst hk
        refine lv_iload_n hx hb dX0_strokesOf_48 rfl (lv_at hlz 0 rfl) ?_
        refine lv_aload_n hx hb dX0_strokesOf_49 rfl (lv_at hlz 3 rfl) ?_
        refine x_lnr X hRz (hlv' _) (v := nI k) (by rw [n3, ← hL]) dX0_strokesOf_50 ?_
        refine lv_icmp_ge (tgt := 66) hx hb dX0_strokesOf_51 (by decide) (fun c2 => ?_) (fun c2 => absurd (Int32.le_refl _) c2)
        refine lv_aload_n hx hb dX0_strokesOf_66 rfl (lv_at hlz 1 rfl) ?_
        subst hQ
        refine W.widen (k := 1) (n := 48) (by decide) (by omega) ?_
        refine W.aret hx hb hrt (Or.inr ⟨_, rfl⟩) (Or.inr ⟨_, rfl⟩) (fun t ht hW => ⟨⟨some (ad' (41, S.2.2.2 7 0)), (ad', x_strokes S r), rfl, ⟨fun h => absurd h c1, fun _ => ⟨_, rfl, ?_⟩⟩, ?_⟩, hSz.F ht⟩) hSz.2.2 dX0_strokesOf_67 hlk
        · rw [← e1, had]
        · show XR D d A ad' (x_strokes S r) t.heap
          rw [ht]
          unfold x_strokes
          rw [← hL]
          exact hRz
      | succ m2 ih =>
        intro k ls H locs hk hR hS hl
        have hkL : k < L := by omega
        refine lv_iload_n hx hb dX0_strokesOf_48 rfl (lv_at hl 0 rfl) ?_
        refine lv_aload_n hx hb dX0_strokesOf_49 rfl (lv_at hl 3 rfl) ?_
        refine x_lnr X hR (hlv' _) (v := nI L) (by rw [n3, ← hL]) dX0_strokesOf_50 ?_
        refine lv_icmp_ge (tgt := 66) hx hb dX0_strokesOf_51 (by decide) (fun c2 => absurd c2 (Int32.not_le.mpr (nI_lt hkL (by omega)))) (fun c2 => ?_)
        refine lv_aload_n hx hb dX0_strokesOf_54 rfl (lv_at hl 1 rfl) ?_
        refine lv_iload_n hx hb dX0_strokesOf_55 rfl (lv_at hl 0 rfl) ?_
        refine lv_aload_n hx hb dX0_strokesOf_56 rfl (lv_at hl 3 rfl) ?_
        refine lv_iload_n hx hb dX0_strokesOf_57 rfl (lv_at hl 0 rfl) ?_
        refine x_ldr X hR (hlv' _) (by rw [n3, ← hL]; exact hix k hkL) (v := S.2.2.1 3 r k) (by rw [nI_clamp (by omega), xsn_B _ _ _ (by decide)]) dX0_strokesOf_58 ?_
        refine x_stn X hR hS (hln' _) (by rw [xsn_1]; exact hix k hkL) dX0_strokesOf_59 (fun H locs hR hS => ?_)
        rw [xb_xsn, nI_clamp (by omega), sfl_s] at hR
        refine lv_iinc (v := nI k + 1) (lv' := [(3, .int (nI k + 1)), (2, .ref (ad' (41, S.2.2.2 7 0))), (1, .int (x_good S r)), (0, .ref (ad' (30, r)))]) hx hb dX0_strokesOf_60 hl (k := 0) rfl rfl (by decide) rfl (fun ls hl => ?_)
        refine lv_goto (tgt := 48) hx hb dX0_strokesOf_63 (by decide) ?_
        rw [nI_s] at hl
        exact ih (k + 1) ls H locs (by omega) hR hS hl
    exact lp2 L 0 ls H _ (by omega) hR hS hl
  · refine lv_null hx hb dX0_strokesOf_39 ?_
    subst hQ
    refine W.widen (k := 1) (n := 48) (by decide) (by decide) ?_
    exact W.aret hx hb hrt (Or.inr ⟨_, rfl⟩) (Or.inl rfl) (fun t ht hW => ⟨⟨none, (ad, S), rfl, ⟨fun _ => ⟨rfl, rfl⟩, fun h => absurd c1 h⟩, by show XR D d A ad S t.heap; rw [ht]; exact hR⟩, hS.F ht⟩) hS.2.2 dX0_strokesOf_40 hlk
