/-! THE CLASS: Tower's constructor. -/
set_option maxRecDepth 100000
def tP (D : va_G) (d : Nat → ClassId) (q z : Nat) (fs : List Value) (av : List Value) : Array Value → State → Prop := va_Pc av (fun U => va_at D vwCl (q, .inr (6, fs)) U.heap ∧ U.heap.size = z ∧ va_K D vwCl (dd_T d) U ∧ XE d U ∧ va_AO "HammerTowers$Train" U)
/-- a new tower's fields: own, log, the class's object -/
def twF (q1 q2 t : Nat) : List Value := [.int 0, .int 0, .int 0, .int 20000, .int 1, .ref q1, .int 0, .int 0, .int 0, .int 0, .ref q2, .ref t]
def twW (d : Nat → ClassId) (q t : Nat) (u : Nat × Nat) : va_W := [(q, .inr (6, twF u.1 u.2 t)), (u.1, .inl (d 4, 2, .inr (.inr (.inr (.inr (fun _ => none)))))), (u.2, .inl (d 0, 240, .inl (fun _ => 0)))]
abbrev tQ (D : va_G) (d : Nat → ClassId) (q z t : Nat) : Array Value → State → Outcome → State → Prop := va_Qv (fun u : Nat × Nat => z ≤ u.1 ∧ z ≤ u.2 ∧ u.1 ≠ u.2) (fun u s' => va_P D vwCl (twW d q t u) s'.heap) (fun x => x = q ∨ z ≤ x)
set_option maxHeartbeats 4000000 in
theorem o_tower (l : Launch) (D : va_G) (d : Nat → ClassId) (q z t : Nat) (hqz : q < z) : Met l yX6_init (ws_ yX6_init cX6_init 2 none) (rmc_ 1 2 242) (tP D d q z [.int 0, .int 0, .int 0, .int 0, .int 0, .null, .int 0, .int 0, .int 0, .int 0, .null, .null] [.ref q, .ref t]) (tQ D d q z t) 2 242 (fun x => x = q ∨ z ≤ x) := by
  refine Met.ofW (cc := cX6_init) (maxL := 2) (ret := none) (by decide) rfl ?_
  intro p e s m args below meth c s₁ B hml hv
  obtain ⟨rfl, hq, hz, hK, hE, hO⟩ := hv
  have hts0 := atoms_spec (ws := ws_ yX6_init cX6_init 2 none) B.pre
  have hts : ∀ w ∈ lw_all, w.before _ s = true := fun w h => hts0 w (List.mem_cons_of_mem _ h)
  have hl := lv_entry [.ref q, .ref t] (n := 2) (Nat.le_of_ble_eq_true rfl)
  have hown : s.vm.findClass RX6 = some m.cls := findClass_of_methodNamed B.named
  have hin : meth.name = "<init>" := (name_of_methodNamed B.named B.method).1
  have hx := B.exec
  have hb := B.bytes
  rw [lg_entry_eq]
  generalize ((lg_sl [Value.ref q, Value.ref t] ++ List.replicate (2 - (lg_sl [Value.ref q, Value.ref t]).length) Slot.unset).toArray) = ls at hl ⊢
  have hl : lv_has ls 2 [(0, .ref q), (1, .ref t)] := hl
  have hS : va_S (fun x => x = q ∨ z ≤ x) s.heap s.heap [] := va_S.rf
  have hA : ∀ x, s.heap.size ≤ x → (fun x => x = q ∨ z ≤ x) x := fun x h => Or.inr (by omega)
  have hP := vp1 hq
  have hD : va_D (fun x => x = q ∨ z ≤ x) [(q, (Sum.inr (6, [.int 0, .int 0, .int 0, .int 0, .int 0, .null, .int 0, .int 0, .int 0, .int 0, .null, .null]) : va_E))] := vd1 (Or.inl rfl)
  refine lv_aload_n hx hb dX6_init_0 rfl (lv_at hl 0 rfl) ?_
  refine lv_aload_n hx hb dX6_init_1 rfl (lv_at hl 1 rfl) ?_
  refine va_putF (ci := 6) (C := RX6) (T := TX6) (N := 12) hx hb hts in_X6 tyX6 tyX6_ok nmX6 hown hK hP hD hS 0 rfl rfl 11 (by decide) (hts _ q717) (fun _ h => h) rfl hin rfl (tyX6_ok 11 (by decide)) rfl rfl (Nat.le_of_ble_eq_true rfl) dX6_init_2 fun H locs hP hD hS => ?_
  refine lv_aload_n hx hb dX6_init_5 rfl (lv_at hl 0 rfl) ?_
  refine W.objInit hx hb hown (hts _ q693) (hts _ q88) (hts _ q89) rfl (hl.1.trans hml.symm) rfl dX6_init_6 (Nat.le_of_ble_eq_true rfl) (Nat.le_of_ble_eq_true rfl) ?_
  refine lv_aload_n hx hb dX6_init_9 rfl (lv_at hl 0 rfl) ?_
  refine lv_sipush (v := 20000) hx hb dX6_init_10 (by decide) ?_
  refine va_put (ci := 6) (C := RX6) (T := TX6) (N := 12) hx hb hts in_X6 tyX6 tyX6_ok nmX6 hown hK hP hD hS 0 rfl rfl 3 (by decide) (hts _ q701) (fun _ h => h) rfl (tyX6_ok 3 (by decide)) rfl rfl (Nat.le_of_ble_eq_true rfl) dX6_init_13 fun H locs hP hD hS => ?_
  refine lv_aload_n hx hb dX6_init_16 rfl (lv_at hl 0 rfl) ?_
  refine lv_iconst (v := 1) hx hb dX6_init_17 (by decide) ?_
  refine va_put (ci := 6) (C := RX6) (T := TX6) (N := 12) hx hb hts in_X6 tyX6 tyX6_ok nmX6 hown hK hP hD hS 0 rfl rfl 4 (by decide) (hts _ q703) (fun _ h => h) rfl (tyX6_ok 4 (by decide)) rfl rfl (Nat.le_of_ble_eq_true rfl) dX6_init_18 fun H locs hP hD hS => ?_
  refine lv_aload_n hx hb dX6_init_21 rfl (lv_at hl 0 rfl) ?_
  refine lv_iconst (v := 2) hx hb dX6_init_22 (by decide) ?_
  refine va_newq (C := "HammerTowers$Train") (N' := 2) hx hb hown (hts _ q694) hO hK hP hD hS hA (by decide) rfl (by decide) (by decide) (by decide) dX6_init_23 fun q1 cA H hK1 hP hD hS => ?_
  have hcA : cA = d 4 := by
    obtain ⟨_, _, -, -, -, f1⟩ := (hK1.2 6 _ rfl).2
    obtain ⟨_, _, -, -, -, f2⟩ := (hK.2 4 _ rfl).2
    exact Option.some.inj (f1.symm.trans f2)
  subst hcA
  refine va_putF (ci := 6) (C := RX6) (T := TX6) (N := 12) (v := .ref q1) hx hb hts in_X6 tyX6 tyX6_ok nmX6 hown hK hP hD hS 0 rfl rfl 5 (by decide) (hts _ q705) (fun _ h => h) rfl hin rfl (tyX6_ok 5 (by decide)) rfl rfl (Nat.le_of_ble_eq_true rfl) dX6_init_26 fun H locs hP hD hS => ?_
  refine lv_aload_n hx hb dX6_init_29 rfl (lv_at hl 0 rfl) ?_
  refine lv_sipush (v := 240) hx hb dX6_init_30 (by decide) ?_
  refine va_newa (atype := .int) (ty := .int) (N' := 240) (a0 := (240, .inl (fun _ => 0))) hx hb (hts _ q185) rfl hK hP hD hS hA (fun _ => rfl) (by decide) rfl (by decide) (by decide) (by decide) dX6_init_33 fun q2 cB H hK2 hP hD hS => ?_
  have hcB : cB = d 0 := Option.some.inj ((hK2.2 6 _ rfl).2.symm.trans (hK.2 0 _ rfl).2)
  subst hcB
  refine va_putF (ci := 6) (C := RX6) (T := TX6) (N := 12) (v := .ref q2) hx hb hts in_X6 tyX6 tyX6_ok nmX6 hown hK hP hD hS 0 rfl rfl 10 (by decide) (hts _ q715) (fun _ h => h) rfl hin rfl (tyX6_ok 10 (by decide)) rfl rfl (Nat.le_of_ble_eq_true rfl) dX6_init_35 fun H locs hP hD hS => ?_
  have d01 : q ≠ q1 := fun e => absurd (hD.1 0 1 _ _ rfl rfl e) (by decide)
  have d02 : q ≠ q2 := fun e => absurd (hD.1 0 2 _ _ rfl rfl e) (by decide)
  have d12 : q1 ≠ q2 := fun e => absurd (hD.1 1 2 _ _ rfl rfl e) (by decide)
  have z1 : z ≤ q1 := (hD.2 1 _ rfl).resolve_left (fun e => d01 e.symm)
  have z2 : z ≤ q2 := (hD.2 2 _ rfl).resolve_left (fun e => d02 e.symm)
  exact W.vret hx hb B.returns (fun t' ht hW => ⟨⟨(q1, q2), rfl, ⟨z1, z2, d12⟩, by show va_P D vwCl (twW d q t (q1, q2)) t'.heap; rw [ht]; exact hP⟩, hS.F ht⟩) hS.2.2 dX6_init_38 B.notSynchronized
