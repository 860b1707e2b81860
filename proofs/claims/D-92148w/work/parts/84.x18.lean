/-! PRINTED by gen/run_x18.py -/
set_option maxRecDepth 100000
/-- an array of arrays of bytes is made -/
theorem va_newA {p : Program} {l : Launch} {e : Env} {R : Room} {s : State} {m : MethodId} {args : Array Value} {below : List Frame} {meth : Method} {c : Code} {H : Heap} {locs : List Loc} {cells slots : Nat} {Q : State → Prop} {cc : ByteArray} {pc : Nat} {ls : Array Slot} {rest : List Value} {D : va_G} {A : Nat → Prop} {d : Nat → ClassId} {ws : va_W} {H0 : Heap} {own : String} {index : Nat} (hx : p.tables.exec = Jvm.exec) (hb : c.code = cc) (hown : s.vm.findClass own = some m.cls) (hclink : (Cond.classLink own index "[B").before args s = true) (hover : (Cond.arrayOver (.array .byte)).before args s = true) (hK : va_K D vwCl (dd_T d) s) (hP : va_P D vwCl ws H) (hD : va_D A ws) (hS : va_S A H0 H locs) (hA : ∀ q, H0.size ≤ q → A q)
    {n : Int32} {N' : Nat} (hn : ¬ n < 0) (hN : n.toNatClampNeg = N') (hbytes : N' * 4 ≤ 536870912) (hcells : cells + 1 ≤ R.cells) (hslots : slots + N' ≤ R.slots) (hdg : decode cc pc = .ok (.anewarray index, 3))
    (kk : ∀ (q : Nat) (H1 : Heap), va_P D vwCl (ws ++ [(q, .inl (d 3, N', .inr (.inr (.inr (.inr (fun _ => none))))))]) H1 → va_D A (ws ++ [(q, .inl (d 3, N', .inr (.inr (.inr (.inr (fun _ => none))))))]) → va_S A H0 H1 locs →
      W p l e R s m args below meth c H1 locs (cells + 1) (slots + N') Q (F0 m (pc + 3) ls (.ref q :: rest))) : W p l e R s m args below meth c H locs cells slots Q (F0 m pc ls (.int n :: rest)) := by
  subst hN
  refine W.anewA (t := .byte) hx hb hown hclink hover rfl hdg rfl hn hbytes hcells hslots fun cA kA comp f1 f2 f3 f4 => ?_
  have hcA : cA = d 3 := Option.some.inj (f1.symm.trans (hK.2 3 _ rfl).2)
  subst hcA
  generalize hH1 : H.push ({ cls := d 3, slots := Array.replicate n.toNatClampNeg .null, vm := .none } : Cell) = H1
  have z1 : H1.size = H.size + 1 := by rw [← hH1, Array.size_push]
  have e1 : H1[H.size]? = some (arrV (d 3) n.toNatClampNeg (fun _ => .null)) := by rw [← hH1, Array.getElem?_push_size, ← arrV_new]
  have o1 : ∀ q : Nat, q < H.size → H1[q]? = H[q]? := fun q hq => by rw [← hH1, Array.getElem?_push, if_neg (Nat.ne_of_lt hq)]
  have hk : ∀ (k : Nat) (x : Nat × va_E), ws[k]? = some x → H1[x.1]? = H[x.1]? := fun k x hx => o1 x.1 ((hP k x hx).lt)
  refine kk H.size H1 ((hP.kept hk).app (fun k x hx => ?_)) (hD.push hP rfl (hA _ hS.1)) ⟨Nat.le_trans hS.1 (by omega), fun x h1 h2 => (o1 x (Nat.lt_of_lt_of_le h1 hS.1)).trans (hS.2.1 x h1 h2), hS.2.2⟩
  have hz : k < 1 := (List.getElem?_eq_some_iff.mp hx).1
  rw [show k = 0 by omega] at hx
  cases hx
  show H1[H.size]? = some (vp_cell _ _)
  rw [vp_cell_q]
  exact e1
/-- the class's object, new -/
def x_init : XS := (fun k i => if (k = 12 ∨ k = 13 ∨ k = 16 ∨ k = 17) ∧ i = 0 then -9 else 0, fun k => if k = 19 then 1 else 0, fun _ _ _ => 0, fun _ _ => 0)
def iP (D : va_G) (d : Nat → ClassId) (q z : Nat) (av : List Value) : Array Value → State → Prop := va_Pc av (fun U => va_at D vwCl (q, .inr (0, [.int 0, .null, .int 0, .null, .null, .int 0, .int 0, .null, .null, .int 0, .null, .int 0, .int 0, .int 0, .int 0, .int 0, .int 0, .int 0, .long 0, .long 0, .int 0, .null, .int 0, .null, .null, .long 0, .long 0, .long 0, .long 0])) U.heap ∧ U.heap.size = z ∧ va_K D vwCl (dd_T d) U ∧ XE d U ∧ va_AO "HammerTowers$Train" U ∧ va_AO "HammerTowers$Tower" U ∧ (Cond.arrayOver (.array .byte)).before #[] U = true)
def adI (q q1 q3 q4 q7 q8 q10 q21 q23 q24 : Nat) : XK → Nat := fun k => match k.1 with
  | 0 => q
  | 1 => q1
  | 3 => q3
  | 4 => q4
  | 7 => q7
  | 8 => q8
  | 10 => q10
  | 21 => q21
  | 23 => q23
  | _ => q24
def ixI : Nat → Nat := fun k => match k with
  | 0 => 0
  | 1 => 1
  | 3 => 2
  | 4 => 3
  | 7 => 4
  | 8 => 5
  | 10 => 6
  | 21 => 7
  | 23 => 8
  | _ => 9
theorem x_init_live {k : XK} (h : x_live x_init k) : k.2 = 0 ∧ (k.1 = 0 ∨ k.1 = 1 ∨ k.1 = 3 ∨ k.1 = 4 ∨ k.1 = 7 ∨ k.1 = 8 ∨ k.1 = 10 ∨ k.1 = 21 ∨ k.1 = 23 ∨ k.1 = 24) := by
  rcases h with r | r | r | r | r | r
  · refine ⟨r.2.1, ?_⟩
    have key : ∀ a, a < 29 → (a = 0 ∨ 2 ≤ x_kd a) → (a = 0 ∨ a = 1 ∨ a = 3 ∨ a = 4 ∨ a = 7 ∨ a = 8 ∨ a = 10 ∨ a = 21 ∨ a = 23 ∨ a = 24) := by decide
    exact key k.1 r.1 r.2.2
  · exact absurd rfl r.2.2
  · rcases r.2 with r2 | r2
    · exact absurd r2 (Nat.not_lt_zero _)
    · exact absurd rfl r2.2
  · rcases r.2 with r2 | r2
    · exact absurd r2.1 (Nat.not_lt_zero _)
    · exact absurd rfl r2.2
  · rcases r.2 with r2 | r2
    · exact absurd r2.1 (Nat.not_lt_zero _)
    · exact absurd rfl r2.2
  · exact absurd rfl r.2.2
theorem x_init_R {D : va_G} {d : Nat → ClassId} {A : Nat → Prop} {H : Heap} {q q1 q3 q4 q7 q8 q10 q21 q23 q24 : Nat} (hP : va_P D vwCl [(q, .inr (0, [.int 0, .ref q1, .int 0, .ref q3, .ref q4, .int 0, .int 0, .ref q7, .ref q8, .int 0, .ref q10, .int 0, .int (-9), .int (-9), .int 0, .int 0, .int (-9), .int (-9), .long 0, .long 1, .int 0, .ref q21, .int 0, .ref q23, .ref q24, .long 0, .long 0, .long 0, .long 0])), (q1, .inl (d 0, 6, .inl (fun _ => 0))), (q3, .inl (d 3, 8, .inr (.inr (.inr (.inr (fun _ => none)))))), (q4, .inl (d 4, 16, .inr (.inr (.inr (.inr (fun _ => none)))))), (q7, .inl (d 5, 4, .inr (.inr (.inr (.inr (fun _ => none)))))), (q8, .inl (d 0, 144, .inl (fun _ => 0))), (q10, .inl (d 0, 48, .inl (fun _ => 0))), (q21, .inl (d 0, 12, .inl (fun _ => 0))), (q23, .inl (d 0, 4, .inl (fun _ => 0))), (q24, .inl (d 0, 4, .inl (fun _ => 0)))] H) (hD : va_D A [(q, .inr (0, [.int 0, .ref q1, .int 0, .ref q3, .ref q4, .int 0, .int 0, .ref q7, .ref q8, .int 0, .ref q10, .int 0, .int (-9), .int (-9), .int 0, .int 0, .int (-9), .int (-9), .long 0, .long 1, .int 0, .ref q21, .int 0, .ref q23, .ref q24, .long 0, .long 0, .long 0, .long 0])), (q1, .inl (d 0, 6, .inl (fun _ => 0))), (q3, .inl (d 3, 8, .inr (.inr (.inr (.inr (fun _ => none)))))), (q4, .inl (d 4, 16, .inr (.inr (.inr (.inr (fun _ => none)))))), (q7, .inl (d 5, 4, .inr (.inr (.inr (.inr (fun _ => none)))))), (q8, .inl (d 0, 144, .inl (fun _ => 0))), (q10, .inl (d 0, 48, .inl (fun _ => 0))), (q21, .inl (d 0, 12, .inl (fun _ => 0))), (q23, .inl (d 0, 4, .inl (fun _ => 0))), (q24, .inl (d 0, 4, .inl (fun _ => 0)))]) : XR D d A (adI q q1 q3 q4 q7 q8 q10 q21 q23 q24) x_init H := by
  refine XR.of (fun k k' a b e => ?_) fun k a => ?_
  · obtain ⟨k, i⟩ := k
    obtain ⟨k', i'⟩ := k'
    obtain ⟨rfl, ra⟩ := x_init_live a
    obtain ⟨rfl, rb⟩ := x_init_live b
    dsimp only at ra rb
    rcases ra with rfl | rfl | rfl | rfl | rfl | rfl | rfl | rfl | rfl | rfl
    · rcases rb with rfl | rfl | rfl | rfl | rfl | rfl | rfl | rfl | rfl | rfl
      · rfl
      · exact absurd (hD.1 0 1 _ _ rfl rfl e) (by decide)
      · exact absurd (hD.1 0 2 _ _ rfl rfl e) (by decide)
      · exact absurd (hD.1 0 3 _ _ rfl rfl e) (by decide)
      · exact absurd (hD.1 0 4 _ _ rfl rfl e) (by decide)
      · exact absurd (hD.1 0 5 _ _ rfl rfl e) (by decide)
      · exact absurd (hD.1 0 6 _ _ rfl rfl e) (by decide)
      · exact absurd (hD.1 0 7 _ _ rfl rfl e) (by decide)
      · exact absurd (hD.1 0 8 _ _ rfl rfl e) (by decide)
      · exact absurd (hD.1 0 9 _ _ rfl rfl e) (by decide)
    · rcases rb with rfl | rfl | rfl | rfl | rfl | rfl | rfl | rfl | rfl | rfl
      · exact absurd (hD.1 1 0 _ _ rfl rfl e) (by decide)
      · rfl
      · exact absurd (hD.1 1 2 _ _ rfl rfl e) (by decide)
      · exact absurd (hD.1 1 3 _ _ rfl rfl e) (by decide)
      · exact absurd (hD.1 1 4 _ _ rfl rfl e) (by decide)
      · exact absurd (hD.1 1 5 _ _ rfl rfl e) (by decide)
      · exact absurd (hD.1 1 6 _ _ rfl rfl e) (by decide)
      · exact absurd (hD.1 1 7 _ _ rfl rfl e) (by decide)
      · exact absurd (hD.1 1 8 _ _ rfl rfl e) (by decide)
      · exact absurd (hD.1 1 9 _ _ rfl rfl e) (by decide)
    · rcases rb with rfl | rfl | rfl | rfl | rfl | rfl | rfl | rfl | rfl | rfl
      · exact absurd (hD.1 2 0 _ _ rfl rfl e) (by decide)
      · exact absurd (hD.1 2 1 _ _ rfl rfl e) (by decide)
      · rfl
      · exact absurd (hD.1 2 3 _ _ rfl rfl e) (by decide)
      · exact absurd (hD.1 2 4 _ _ rfl rfl e) (by decide)
      · exact absurd (hD.1 2 5 _ _ rfl rfl e) (by decide)
      · exact absurd (hD.1 2 6 _ _ rfl rfl e) (by decide)
      · exact absurd (hD.1 2 7 _ _ rfl rfl e) (by decide)
      · exact absurd (hD.1 2 8 _ _ rfl rfl e) (by decide)
      · exact absurd (hD.1 2 9 _ _ rfl rfl e) (by decide)
    · rcases rb with rfl | rfl | rfl | rfl | rfl | rfl | rfl | rfl | rfl | rfl
      · exact absurd (hD.1 3 0 _ _ rfl rfl e) (by decide)
      · exact absurd (hD.1 3 1 _ _ rfl rfl e) (by decide)
      · exact absurd (hD.1 3 2 _ _ rfl rfl e) (by decide)
      · rfl
      · exact absurd (hD.1 3 4 _ _ rfl rfl e) (by decide)
      · exact absurd (hD.1 3 5 _ _ rfl rfl e) (by decide)
      · exact absurd (hD.1 3 6 _ _ rfl rfl e) (by decide)
      · exact absurd (hD.1 3 7 _ _ rfl rfl e) (by decide)
      · exact absurd (hD.1 3 8 _ _ rfl rfl e) (by decide)
      · exact absurd (hD.1 3 9 _ _ rfl rfl e) (by decide)
    · rcases rb with rfl | rfl | rfl | rfl | rfl | rfl | rfl | rfl | rfl | rfl
      · exact absurd (hD.1 4 0 _ _ rfl rfl e) (by decide)
      · exact absurd (hD.1 4 1 _ _ rfl rfl e) (by decide)
      · exact absurd (hD.1 4 2 _ _ rfl rfl e) (by decide)
      · exact absurd (hD.1 4 3 _ _ rfl rfl e) (by decide)
      · rfl
      · exact absurd (hD.1 4 5 _ _ rfl rfl e) (by decide)
      · exact absurd (hD.1 4 6 _ _ rfl rfl e) (by decide)
      · exact absurd (hD.1 4 7 _ _ rfl rfl e) (by decide)
      · exact absurd (hD.1 4 8 _ _ rfl rfl e) (by decide)
      · exact absurd (hD.1 4 9 _ _ rfl rfl e) (by decide)
    · rcases rb with rfl | rfl | rfl | rfl | rfl | rfl | rfl | rfl | rfl | rfl
      · exact absurd (hD.1 5 0 _ _ rfl rfl e) (by decide)
      · exact absurd (hD.1 5 1 _ _ rfl rfl e) (by decide)
      · exact absurd (hD.1 5 2 _ _ rfl rfl e) (by decide)
      · exact absurd (hD.1 5 3 _ _ rfl rfl e) (by decide)
      · exact absurd (hD.1 5 4 _ _ rfl rfl e) (by decide)
      · rfl
      · exact absurd (hD.1 5 6 _ _ rfl rfl e) (by decide)
      · exact absurd (hD.1 5 7 _ _ rfl rfl e) (by decide)
      · exact absurd (hD.1 5 8 _ _ rfl rfl e) (by decide)
      · exact absurd (hD.1 5 9 _ _ rfl rfl e) (by decide)
    · rcases rb with rfl | rfl | rfl | rfl | rfl | rfl | rfl | rfl | rfl | rfl
      · exact absurd (hD.1 6 0 _ _ rfl rfl e) (by decide)
      · exact absurd (hD.1 6 1 _ _ rfl rfl e) (by decide)
      · exact absurd (hD.1 6 2 _ _ rfl rfl e) (by decide)
      · exact absurd (hD.1 6 3 _ _ rfl rfl e) (by decide)
      · exact absurd (hD.1 6 4 _ _ rfl rfl e) (by decide)
      · exact absurd (hD.1 6 5 _ _ rfl rfl e) (by decide)
      · rfl
      · exact absurd (hD.1 6 7 _ _ rfl rfl e) (by decide)
      · exact absurd (hD.1 6 8 _ _ rfl rfl e) (by decide)
      · exact absurd (hD.1 6 9 _ _ rfl rfl e) (by decide)
    · rcases rb with rfl | rfl | rfl | rfl | rfl | rfl | rfl | rfl | rfl | rfl
      · exact absurd (hD.1 7 0 _ _ rfl rfl e) (by decide)
      · exact absurd (hD.1 7 1 _ _ rfl rfl e) (by decide)
      · exact absurd (hD.1 7 2 _ _ rfl rfl e) (by decide)
      · exact absurd (hD.1 7 3 _ _ rfl rfl e) (by decide)
      · exact absurd (hD.1 7 4 _ _ rfl rfl e) (by decide)
      · exact absurd (hD.1 7 5 _ _ rfl rfl e) (by decide)
      · exact absurd (hD.1 7 6 _ _ rfl rfl e) (by decide)
      · rfl
      · exact absurd (hD.1 7 8 _ _ rfl rfl e) (by decide)
      · exact absurd (hD.1 7 9 _ _ rfl rfl e) (by decide)
    · rcases rb with rfl | rfl | rfl | rfl | rfl | rfl | rfl | rfl | rfl | rfl
      · exact absurd (hD.1 8 0 _ _ rfl rfl e) (by decide)
      · exact absurd (hD.1 8 1 _ _ rfl rfl e) (by decide)
      · exact absurd (hD.1 8 2 _ _ rfl rfl e) (by decide)
      · exact absurd (hD.1 8 3 _ _ rfl rfl e) (by decide)
      · exact absurd (hD.1 8 4 _ _ rfl rfl e) (by decide)
      · exact absurd (hD.1 8 5 _ _ rfl rfl e) (by decide)
      · exact absurd (hD.1 8 6 _ _ rfl rfl e) (by decide)
      · exact absurd (hD.1 8 7 _ _ rfl rfl e) (by decide)
      · rfl
      · exact absurd (hD.1 8 9 _ _ rfl rfl e) (by decide)
    · rcases rb with rfl | rfl | rfl | rfl | rfl | rfl | rfl | rfl | rfl | rfl
      · exact absurd (hD.1 9 0 _ _ rfl rfl e) (by decide)
      · exact absurd (hD.1 9 1 _ _ rfl rfl e) (by decide)
      · exact absurd (hD.1 9 2 _ _ rfl rfl e) (by decide)
      · exact absurd (hD.1 9 3 _ _ rfl rfl e) (by decide)
      · exact absurd (hD.1 9 4 _ _ rfl rfl e) (by decide)
      · exact absurd (hD.1 9 5 _ _ rfl rfl e) (by decide)
      · exact absurd (hD.1 9 6 _ _ rfl rfl e) (by decide)
      · exact absurd (hD.1 9 7 _ _ rfl rfl e) (by decide)
      · exact absurd (hD.1 9 8 _ _ rfl rfl e) (by decide)
      · rfl
  · obtain ⟨k, i⟩ := k
    obtain ⟨rfl, ra⟩ := x_init_live a
    dsimp only at ra
    rcases ra with rfl | rfl | rfl | rfl | rfl | rfl | rfl | rfl | rfl | rfl
    · exact ⟨hP 0 _ rfl, hD.2 0 _ rfl⟩
    · exact ⟨hP 1 _ rfl, hD.2 1 _ rfl⟩
    · exact ⟨hP 2 _ rfl, hD.2 2 _ rfl⟩
    · exact ⟨hP 3 _ rfl, hD.2 3 _ rfl⟩
    · exact ⟨hP 4 _ rfl, hD.2 4 _ rfl⟩
    · exact ⟨hP 5 _ rfl, hD.2 5 _ rfl⟩
    · exact ⟨hP 6 _ rfl, hD.2 6 _ rfl⟩
    · exact ⟨hP 7 _ rfl, hD.2 7 _ rfl⟩
    · exact ⟨hP 8 _ rfl, hD.2 8 _ rfl⟩
    · exact ⟨hP 9 _ rfl, hD.2 9 _ rfl⟩
set_option maxHeartbeats 4000000 in
theorem xt_init (l : Launch) (D : va_G) (d : Nat → ClassId) (q z : Nat) : Met l yX0_init (ws_ yX0_init cX0_init 1 none) (rmc_ 1 9 246) (iP D d q z [.ref q]) (va_Qv (fun ad : XK → Nat => ad (0, 0) = q) (fun ad t => XR D d (fun x => x = q ∨ z ≤ x) ad x_init t.heap) (fun x => x = q ∨ z ≤ x)) 9 246 (fun x => x = q ∨ z ≤ x) := by
  refine Met.ofW (cc := cX0_init) (maxL := 1) (ret := none) (by decide) rfl ?_
  intro p e s m args below meth c s₁ B hml hv
  obtain ⟨rfl, hq, hz, hK, hE, hO1, hO2, hO3⟩ := hv
  have hts0 := atoms_spec (ws := ws_ yX0_init cX0_init 1 none) B.pre
  have hts : ∀ w ∈ lw_all, w.before _ s = true := fun w h => hts0 w (List.mem_cons_of_mem _ h)
  have hl := lv_entry [.ref q] (n := 1) (Nat.le_of_ble_eq_true rfl)
  have hown : s.vm.findClass RX0 = some m.cls := findClass_of_methodNamed B.named
  have hin : meth.name = "<init>" := (name_of_methodNamed B.named B.method).1
  have hx := B.exec
  have hb := B.bytes
  rw [lg_entry_eq]
  generalize ((lg_sl [Value.ref q] ++ List.replicate (1 - (lg_sl [Value.ref q]).length) Slot.unset).toArray) = ls at hl ⊢
  have hl : lv_has ls 1 [(0, .ref q)] := hl
  have hS : va_S (fun x => x = q ∨ z ≤ x) s.heap s.heap [] := va_S.rf
  have hA : ∀ x, s.heap.size ≤ x → (fun x => x = q ∨ z ≤ x) x := fun x h => Or.inr (by omega)
  have hP := vp1 hq
  have hD : va_D (fun x => x = q ∨ z ≤ x) [(q, (Sum.inr (0, [.int 0, .null, .int 0, .null, .null, .int 0, .int 0, .null, .null, .int 0, .null, .int 0, .int 0, .int 0, .int 0, .int 0, .int 0, .int 0, .long 0, .long 0, .int 0, .null, .int 0, .null, .null, .long 0, .long 0, .long 0, .long 0]) : va_E))] := vd1 (Or.inl rfl)
  refine lv_aload_n hx hb dX0_init_0 rfl (lv_at hl 0 rfl) ?_
  refine W.objInit hx hb hown (hts _ q87) (hts _ q88) (hts _ q89) rfl (hl.1.trans hml.symm) rfl dX0_init_1 (Nat.le_of_ble_eq_true rfl) (Nat.le_of_ble_eq_true rfl) ?_
  refine lv_aload_n hx hb dX0_init_4 rfl (lv_at hl 0 rfl) ?_
  refine lv_bipush (v := 6) hx hb dX0_init_5 (by decide) ?_
  refine va_newa (atype := .int) (ty := .int) (N' := 6) (a0 := (6, .inl (fun _ => 0))) hx hb (hts _ q185) rfl hK hP hD hS hA (fun _ => rfl) (by decide) rfl (by decide) (by decide) (by decide) dX0_init_7 fun q1 cA H hK1 hP hD hS => ?_
  have hcA : cA = d 0 := Option.some.inj ((hK1.2 6 _ rfl).2.symm.trans (hK.2 0 _ rfl).2)
  subst hcA
  clear hK1
  have hP : va_P D vwCl [(q, .inr (0, [.int 0, .null, .int 0, .null, .null, .int 0, .int 0, .null, .null, .int 0, .null, .int 0, .int 0, .int 0, .int 0, .int 0, .int 0, .int 0, .long 0, .long 0, .int 0, .null, .int 0, .null, .null, .long 0, .long 0, .long 0, .long 0])), (q1, .inl (d 0, 6, .inl (fun _ => 0)))] H := hP
  have hD : va_D (fun x => x = q ∨ z ≤ x) [(q, .inr (0, [.int 0, .null, .int 0, .null, .null, .int 0, .int 0, .null, .null, .int 0, .null, .int 0, .int 0, .int 0, .int 0, .int 0, .int 0, .int 0, .long 0, .long 0, .int 0, .null, .int 0, .null, .null, .long 0, .long 0, .long 0, .long 0])), (q1, .inl (d 0, 6, .inl (fun _ => 0)))] := hD
  refine va_putF (ci := 0) (C := RX0) (T := TX0) (N := 29) (v := .ref q1) hx hb hts in_X0 tyX0 tyX0_ok nmX0 hown hK hP hD hS 0 rfl rfl 1 (by decide) (hts _ q97) (fun _ h => h) rfl hin rfl (tyX0_ok 1 (by decide)) rfl rfl (Nat.le_of_ble_eq_true rfl) dX0_init_9 fun H locs hP hD hS => ?_
  have hP : va_P D vwCl [(q, .inr (0, [.int 0, .ref q1, .int 0, .null, .null, .int 0, .int 0, .null, .null, .int 0, .null, .int 0, .int 0, .int 0, .int 0, .int 0, .int 0, .int 0, .long 0, .long 0, .int 0, .null, .int 0, .null, .null, .long 0, .long 0, .long 0, .long 0])), (q1, .inl (d 0, 6, .inl (fun _ => 0)))] H := hP
  have hD : va_D (fun x => x = q ∨ z ≤ x) [(q, .inr (0, [.int 0, .ref q1, .int 0, .null, .null, .int 0, .int 0, .null, .null, .int 0, .null, .int 0, .int 0, .int 0, .int 0, .int 0, .int 0, .int 0, .long 0, .long 0, .int 0, .null, .int 0, .null, .null, .long 0, .long 0, .long 0, .long 0])), (q1, .inl (d 0, 6, .inl (fun _ => 0)))] := hD
  refine lv_aload_n hx hb dX0_init_12 rfl (lv_at hl 0 rfl) ?_
  refine lv_bipush (v := 8) hx hb dX0_init_13 (by decide) ?_
  refine va_newA (N' := 8) hx hb hown (hts _ q90) hO3 hK hP hD hS hA (by decide) rfl (by decide) (by decide) (by decide) dX0_init_15 fun q3 H hP hD hS => ?_
  have hP : va_P D vwCl [(q, .inr (0, [.int 0, .ref q1, .int 0, .null, .null, .int 0, .int 0, .null, .null, .int 0, .null, .int 0, .int 0, .int 0, .int 0, .int 0, .int 0, .int 0, .long 0, .long 0, .int 0, .null, .int 0, .null, .null, .long 0, .long 0, .long 0, .long 0])), (q1, .inl (d 0, 6, .inl (fun _ => 0))), (q3, .inl (d 3, 8, .inr (.inr (.inr (.inr (fun _ => none))))))] H := hP
  have hD : va_D (fun x => x = q ∨ z ≤ x) [(q, .inr (0, [.int 0, .ref q1, .int 0, .null, .null, .int 0, .int 0, .null, .null, .int 0, .null, .int 0, .int 0, .int 0, .int 0, .int 0, .int 0, .int 0, .long 0, .long 0, .int 0, .null, .int 0, .null, .null, .long 0, .long 0, .long 0, .long 0])), (q1, .inl (d 0, 6, .inl (fun _ => 0))), (q3, .inl (d 3, 8, .inr (.inr (.inr (.inr (fun _ => none))))))] := hD
  refine va_putF (ci := 0) (C := RX0) (T := TX0) (N := 29) (v := .ref q3) hx hb hts in_X0 tyX0 tyX0_ok nmX0 hown hK hP hD hS 0 rfl rfl 3 (by decide) (hts _ q99) (fun _ h => h) rfl hin rfl (tyX0_ok 3 (by decide)) rfl rfl (Nat.le_of_ble_eq_true rfl) dX0_init_18 fun H locs hP hD hS => ?_
  have hP : va_P D vwCl [(q, .inr (0, [.int 0, .ref q1, .int 0, .ref q3, .null, .int 0, .int 0, .null, .null, .int 0, .null, .int 0, .int 0, .int 0, .int 0, .int 0, .int 0, .int 0, .long 0, .long 0, .int 0, .null, .int 0, .null, .null, .long 0, .long 0, .long 0, .long 0])), (q1, .inl (d 0, 6, .inl (fun _ => 0))), (q3, .inl (d 3, 8, .inr (.inr (.inr (.inr (fun _ => none))))))] H := hP
  have hD : va_D (fun x => x = q ∨ z ≤ x) [(q, .inr (0, [.int 0, .ref q1, .int 0, .ref q3, .null, .int 0, .int 0, .null, .null, .int 0, .null, .int 0, .int 0, .int 0, .int 0, .int 0, .int 0, .int 0, .long 0, .long 0, .int 0, .null, .int 0, .null, .null, .long 0, .long 0, .long 0, .long 0])), (q1, .inl (d 0, 6, .inl (fun _ => 0))), (q3, .inl (d 3, 8, .inr (.inr (.inr (.inr (fun _ => none))))))] := hD
  refine lv_aload_n hx hb dX0_init_21 rfl (lv_at hl 0 rfl) ?_
  refine lv_bipush (v := 16) hx hb dX0_init_22 (by decide) ?_
  refine va_newq (C := "HammerTowers$Train") (N' := 16) hx hb hown (hts _ q92) hO1 hK hP hD hS hA (by decide) rfl (by decide) (by decide) (by decide) dX0_init_24 fun q4 cA H hK1 hP hD hS => ?_
  have hcA : cA = d 4 := by
    obtain ⟨_, _, -, -, -, f1⟩ := (hK1.2 6 _ rfl).2
    obtain ⟨_, _, -, -, -, f2⟩ := (hK.2 4 _ rfl).2
    exact Option.some.inj (f1.symm.trans f2)
  subst hcA
  clear hK1
  have hP : va_P D vwCl [(q, .inr (0, [.int 0, .ref q1, .int 0, .ref q3, .null, .int 0, .int 0, .null, .null, .int 0, .null, .int 0, .int 0, .int 0, .int 0, .int 0, .int 0, .int 0, .long 0, .long 0, .int 0, .null, .int 0, .null, .null, .long 0, .long 0, .long 0, .long 0])), (q1, .inl (d 0, 6, .inl (fun _ => 0))), (q3, .inl (d 3, 8, .inr (.inr (.inr (.inr (fun _ => none)))))), (q4, .inl (d 4, 16, .inr (.inr (.inr (.inr (fun _ => none))))))] H := hP
  have hD : va_D (fun x => x = q ∨ z ≤ x) [(q, .inr (0, [.int 0, .ref q1, .int 0, .ref q3, .null, .int 0, .int 0, .null, .null, .int 0, .null, .int 0, .int 0, .int 0, .int 0, .int 0, .int 0, .int 0, .long 0, .long 0, .int 0, .null, .int 0, .null, .null, .long 0, .long 0, .long 0, .long 0])), (q1, .inl (d 0, 6, .inl (fun _ => 0))), (q3, .inl (d 3, 8, .inr (.inr (.inr (.inr (fun _ => none)))))), (q4, .inl (d 4, 16, .inr (.inr (.inr (.inr (fun _ => none))))))] := hD
  refine va_putF (ci := 0) (C := RX0) (T := TX0) (N := 29) (v := .ref q4) hx hb hts in_X0 tyX0 tyX0_ok nmX0 hown hK hP hD hS 0 rfl rfl 4 (by decide) (hts _ q100) (fun _ h => h) rfl hin rfl (tyX0_ok 4 (by decide)) rfl rfl (Nat.le_of_ble_eq_true rfl) dX0_init_27 fun H locs hP hD hS => ?_
  have hP : va_P D vwCl [(q, .inr (0, [.int 0, .ref q1, .int 0, .ref q3, .ref q4, .int 0, .int 0, .null, .null, .int 0, .null, .int 0, .int 0, .int 0, .int 0, .int 0, .int 0, .int 0, .long 0, .long 0, .int 0, .null, .int 0, .null, .null, .long 0, .long 0, .long 0, .long 0])), (q1, .inl (d 0, 6, .inl (fun _ => 0))), (q3, .inl (d 3, 8, .inr (.inr (.inr (.inr (fun _ => none)))))), (q4, .inl (d 4, 16, .inr (.inr (.inr (.inr (fun _ => none))))))] H := hP
  have hD : va_D (fun x => x = q ∨ z ≤ x) [(q, .inr (0, [.int 0, .ref q1, .int 0, .ref q3, .ref q4, .int 0, .int 0, .null, .null, .int 0, .null, .int 0, .int 0, .int 0, .int 0, .int 0, .int 0, .int 0, .long 0, .long 0, .int 0, .null, .int 0, .null, .null, .long 0, .long 0, .long 0, .long 0])), (q1, .inl (d 0, 6, .inl (fun _ => 0))), (q3, .inl (d 3, 8, .inr (.inr (.inr (.inr (fun _ => none)))))), (q4, .inl (d 4, 16, .inr (.inr (.inr (.inr (fun _ => none))))))] := hD
  refine lv_aload_n hx hb dX0_init_30 rfl (lv_at hl 0 rfl) ?_
  refine lv_iconst (v := 4) hx hb dX0_init_31 (by decide) ?_
  refine va_newq (C := "HammerTowers$Tower") (N' := 4) hx hb hown (hts _ q94) hO2 hK hP hD hS hA (by decide) rfl (by decide) (by decide) (by decide) dX0_init_32 fun q7 cA H hK1 hP hD hS => ?_
  have hcA : cA = d 5 := by
    obtain ⟨_, _, -, -, -, f1⟩ := (hK1.2 6 _ rfl).2
    obtain ⟨_, _, -, -, -, f2⟩ := (hK.2 5 _ rfl).2
    exact Option.some.inj (f1.symm.trans f2)
  subst hcA
  clear hK1
  have hP : va_P D vwCl [(q, .inr (0, [.int 0, .ref q1, .int 0, .ref q3, .ref q4, .int 0, .int 0, .null, .null, .int 0, .null, .int 0, .int 0, .int 0, .int 0, .int 0, .int 0, .int 0, .long 0, .long 0, .int 0, .null, .int 0, .null, .null, .long 0, .long 0, .long 0, .long 0])), (q1, .inl (d 0, 6, .inl (fun _ => 0))), (q3, .inl (d 3, 8, .inr (.inr (.inr (.inr (fun _ => none)))))), (q4, .inl (d 4, 16, .inr (.inr (.inr (.inr (fun _ => none)))))), (q7, .inl (d 5, 4, .inr (.inr (.inr (.inr (fun _ => none))))))] H := hP
  have hD : va_D (fun x => x = q ∨ z ≤ x) [(q, .inr (0, [.int 0, .ref q1, .int 0, .ref q3, .ref q4, .int 0, .int 0, .null, .null, .int 0, .null, .int 0, .int 0, .int 0, .int 0, .int 0, .int 0, .int 0, .long 0, .long 0, .int 0, .null, .int 0, .null, .null, .long 0, .long 0, .long 0, .long 0])), (q1, .inl (d 0, 6, .inl (fun _ => 0))), (q3, .inl (d 3, 8, .inr (.inr (.inr (.inr (fun _ => none)))))), (q4, .inl (d 4, 16, .inr (.inr (.inr (.inr (fun _ => none)))))), (q7, .inl (d 5, 4, .inr (.inr (.inr (.inr (fun _ => none))))))] := hD
  refine va_putF (ci := 0) (C := RX0) (T := TX0) (N := 29) (v := .ref q7) hx hb hts in_X0 tyX0 tyX0_ok nmX0 hown hK hP hD hS 0 rfl rfl 7 (by decide) (hts _ q104) (fun _ h => h) rfl hin rfl (tyX0_ok 7 (by decide)) rfl rfl (Nat.le_of_ble_eq_true rfl) dX0_init_35 fun H locs hP hD hS => ?_
  have hP : va_P D vwCl [(q, .inr (0, [.int 0, .ref q1, .int 0, .ref q3, .ref q4, .int 0, .int 0, .ref q7, .null, .int 0, .null, .int 0, .int 0, .int 0, .int 0, .int 0, .int 0, .int 0, .long 0, .long 0, .int 0, .null, .int 0, .null, .null, .long 0, .long 0, .long 0, .long 0])), (q1, .inl (d 0, 6, .inl (fun _ => 0))), (q3, .inl (d 3, 8, .inr (.inr (.inr (.inr (fun _ => none)))))), (q4, .inl (d 4, 16, .inr (.inr (.inr (.inr (fun _ => none)))))), (q7, .inl (d 5, 4, .inr (.inr (.inr (.inr (fun _ => none))))))] H := hP
  have hD : va_D (fun x => x = q ∨ z ≤ x) [(q, .inr (0, [.int 0, .ref q1, .int 0, .ref q3, .ref q4, .int 0, .int 0, .ref q7, .null, .int 0, .null, .int 0, .int 0, .int 0, .int 0, .int 0, .int 0, .int 0, .long 0, .long 0, .int 0, .null, .int 0, .null, .null, .long 0, .long 0, .long 0, .long 0])), (q1, .inl (d 0, 6, .inl (fun _ => 0))), (q3, .inl (d 3, 8, .inr (.inr (.inr (.inr (fun _ => none)))))), (q4, .inl (d 4, 16, .inr (.inr (.inr (.inr (fun _ => none)))))), (q7, .inl (d 5, 4, .inr (.inr (.inr (.inr (fun _ => none))))))] := hD
  refine lv_aload_n hx hb dX0_init_38 rfl (lv_at hl 0 rfl) ?_
  refine lv_sipush (v := 144) hx hb dX0_init_39 (by decide) ?_
  refine va_newa (atype := .int) (ty := .int) (N' := 144) (a0 := (144, .inl (fun _ => 0))) hx hb (hts _ q185) rfl hK hP hD hS hA (fun _ => rfl) (by decide) rfl (by decide) (by decide) (by decide) dX0_init_42 fun q8 cA H hK1 hP hD hS => ?_
  have hcA : cA = d 0 := Option.some.inj ((hK1.2 6 _ rfl).2.symm.trans (hK.2 0 _ rfl).2)
  subst hcA
  clear hK1
  have hP : va_P D vwCl [(q, .inr (0, [.int 0, .ref q1, .int 0, .ref q3, .ref q4, .int 0, .int 0, .ref q7, .null, .int 0, .null, .int 0, .int 0, .int 0, .int 0, .int 0, .int 0, .int 0, .long 0, .long 0, .int 0, .null, .int 0, .null, .null, .long 0, .long 0, .long 0, .long 0])), (q1, .inl (d 0, 6, .inl (fun _ => 0))), (q3, .inl (d 3, 8, .inr (.inr (.inr (.inr (fun _ => none)))))), (q4, .inl (d 4, 16, .inr (.inr (.inr (.inr (fun _ => none)))))), (q7, .inl (d 5, 4, .inr (.inr (.inr (.inr (fun _ => none)))))), (q8, .inl (d 0, 144, .inl (fun _ => 0)))] H := hP
  have hD : va_D (fun x => x = q ∨ z ≤ x) [(q, .inr (0, [.int 0, .ref q1, .int 0, .ref q3, .ref q4, .int 0, .int 0, .ref q7, .null, .int 0, .null, .int 0, .int 0, .int 0, .int 0, .int 0, .int 0, .int 0, .long 0, .long 0, .int 0, .null, .int 0, .null, .null, .long 0, .long 0, .long 0, .long 0])), (q1, .inl (d 0, 6, .inl (fun _ => 0))), (q3, .inl (d 3, 8, .inr (.inr (.inr (.inr (fun _ => none)))))), (q4, .inl (d 4, 16, .inr (.inr (.inr (.inr (fun _ => none)))))), (q7, .inl (d 5, 4, .inr (.inr (.inr (.inr (fun _ => none)))))), (q8, .inl (d 0, 144, .inl (fun _ => 0)))] := hD
  refine va_putF (ci := 0) (C := RX0) (T := TX0) (N := 29) (v := .ref q8) hx hb hts in_X0 tyX0 tyX0_ok nmX0 hown hK hP hD hS 0 rfl rfl 8 (by decide) (hts _ q105) (fun _ h => h) rfl hin rfl (tyX0_ok 8 (by decide)) rfl rfl (Nat.le_of_ble_eq_true rfl) dX0_init_44 fun H locs hP hD hS => ?_
  have hP : va_P D vwCl [(q, .inr (0, [.int 0, .ref q1, .int 0, .ref q3, .ref q4, .int 0, .int 0, .ref q7, .ref q8, .int 0, .null, .int 0, .int 0, .int 0, .int 0, .int 0, .int 0, .int 0, .long 0, .long 0, .int 0, .null, .int 0, .null, .null, .long 0, .long 0, .long 0, .long 0])), (q1, .inl (d 0, 6, .inl (fun _ => 0))), (q3, .inl (d 3, 8, .inr (.inr (.inr (.inr (fun _ => none)))))), (q4, .inl (d 4, 16, .inr (.inr (.inr (.inr (fun _ => none)))))), (q7, .inl (d 5, 4, .inr (.inr (.inr (.inr (fun _ => none)))))), (q8, .inl (d 0, 144, .inl (fun _ => 0)))] H := hP
  have hD : va_D (fun x => x = q ∨ z ≤ x) [(q, .inr (0, [.int 0, .ref q1, .int 0, .ref q3, .ref q4, .int 0, .int 0, .ref q7, .ref q8, .int 0, .null, .int 0, .int 0, .int 0, .int 0, .int 0, .int 0, .int 0, .long 0, .long 0, .int 0, .null, .int 0, .null, .null, .long 0, .long 0, .long 0, .long 0])), (q1, .inl (d 0, 6, .inl (fun _ => 0))), (q3, .inl (d 3, 8, .inr (.inr (.inr (.inr (fun _ => none)))))), (q4, .inl (d 4, 16, .inr (.inr (.inr (.inr (fun _ => none)))))), (q7, .inl (d 5, 4, .inr (.inr (.inr (.inr (fun _ => none)))))), (q8, .inl (d 0, 144, .inl (fun _ => 0)))] := hD
  refine lv_aload_n hx hb dX0_init_47 rfl (lv_at hl 0 rfl) ?_
  refine lv_bipush (v := 48) hx hb dX0_init_48 (by decide) ?_
  refine va_newa (atype := .int) (ty := .int) (N' := 48) (a0 := (48, .inl (fun _ => 0))) hx hb (hts _ q185) rfl hK hP hD hS hA (fun _ => rfl) (by decide) rfl (by decide) (by decide) (by decide) dX0_init_50 fun q10 cA H hK1 hP hD hS => ?_
  have hcA : cA = d 0 := Option.some.inj ((hK1.2 6 _ rfl).2.symm.trans (hK.2 0 _ rfl).2)
  subst hcA
  clear hK1
  have hP : va_P D vwCl [(q, .inr (0, [.int 0, .ref q1, .int 0, .ref q3, .ref q4, .int 0, .int 0, .ref q7, .ref q8, .int 0, .null, .int 0, .int 0, .int 0, .int 0, .int 0, .int 0, .int 0, .long 0, .long 0, .int 0, .null, .int 0, .null, .null, .long 0, .long 0, .long 0, .long 0])), (q1, .inl (d 0, 6, .inl (fun _ => 0))), (q3, .inl (d 3, 8, .inr (.inr (.inr (.inr (fun _ => none)))))), (q4, .inl (d 4, 16, .inr (.inr (.inr (.inr (fun _ => none)))))), (q7, .inl (d 5, 4, .inr (.inr (.inr (.inr (fun _ => none)))))), (q8, .inl (d 0, 144, .inl (fun _ => 0))), (q10, .inl (d 0, 48, .inl (fun _ => 0)))] H := hP
  have hD : va_D (fun x => x = q ∨ z ≤ x) [(q, .inr (0, [.int 0, .ref q1, .int 0, .ref q3, .ref q4, .int 0, .int 0, .ref q7, .ref q8, .int 0, .null, .int 0, .int 0, .int 0, .int 0, .int 0, .int 0, .int 0, .long 0, .long 0, .int 0, .null, .int 0, .null, .null, .long 0, .long 0, .long 0, .long 0])), (q1, .inl (d 0, 6, .inl (fun _ => 0))), (q3, .inl (d 3, 8, .inr (.inr (.inr (.inr (fun _ => none)))))), (q4, .inl (d 4, 16, .inr (.inr (.inr (.inr (fun _ => none)))))), (q7, .inl (d 5, 4, .inr (.inr (.inr (.inr (fun _ => none)))))), (q8, .inl (d 0, 144, .inl (fun _ => 0))), (q10, .inl (d 0, 48, .inl (fun _ => 0)))] := hD
  refine va_putF (ci := 0) (C := RX0) (T := TX0) (N := 29) (v := .ref q10) hx hb hts in_X0 tyX0 tyX0_ok nmX0 hown hK hP hD hS 0 rfl rfl 10 (by decide) (hts _ q107) (fun _ h => h) rfl hin rfl (tyX0_ok 10 (by decide)) rfl rfl (Nat.le_of_ble_eq_true rfl) dX0_init_52 fun H locs hP hD hS => ?_
  have hP : va_P D vwCl [(q, .inr (0, [.int 0, .ref q1, .int 0, .ref q3, .ref q4, .int 0, .int 0, .ref q7, .ref q8, .int 0, .ref q10, .int 0, .int 0, .int 0, .int 0, .int 0, .int 0, .int 0, .long 0, .long 0, .int 0, .null, .int 0, .null, .null, .long 0, .long 0, .long 0, .long 0])), (q1, .inl (d 0, 6, .inl (fun _ => 0))), (q3, .inl (d 3, 8, .inr (.inr (.inr (.inr (fun _ => none)))))), (q4, .inl (d 4, 16, .inr (.inr (.inr (.inr (fun _ => none)))))), (q7, .inl (d 5, 4, .inr (.inr (.inr (.inr (fun _ => none)))))), (q8, .inl (d 0, 144, .inl (fun _ => 0))), (q10, .inl (d 0, 48, .inl (fun _ => 0)))] H := hP
  have hD : va_D (fun x => x = q ∨ z ≤ x) [(q, .inr (0, [.int 0, .ref q1, .int 0, .ref q3, .ref q4, .int 0, .int 0, .ref q7, .ref q8, .int 0, .ref q10, .int 0, .int 0, .int 0, .int 0, .int 0, .int 0, .int 0, .long 0, .long 0, .int 0, .null, .int 0, .null, .null, .long 0, .long 0, .long 0, .long 0])), (q1, .inl (d 0, 6, .inl (fun _ => 0))), (q3, .inl (d 3, 8, .inr (.inr (.inr (.inr (fun _ => none)))))), (q4, .inl (d 4, 16, .inr (.inr (.inr (.inr (fun _ => none)))))), (q7, .inl (d 5, 4, .inr (.inr (.inr (.inr (fun _ => none)))))), (q8, .inl (d 0, 144, .inl (fun _ => 0))), (q10, .inl (d 0, 48, .inl (fun _ => 0)))] := hD
  refine lv_aload_n hx hb dX0_init_55 rfl (lv_at hl 0 rfl) ?_
  refine lv_bipush (v := (-9)) hx hb dX0_init_56 (by decide) ?_
  refine va_put (ci := 0) (C := RX0) (T := TX0) (N := 29) hx hb hts in_X0 tyX0 tyX0_ok nmX0 hown hK hP hD hS 0 rfl rfl 12 (by decide) (hts _ q109) (fun _ h => h) rfl (tyX0_ok 12 (by decide)) rfl rfl (Nat.le_of_ble_eq_true rfl) dX0_init_58 fun H locs hP hD hS => ?_
  have hP : va_P D vwCl [(q, .inr (0, [.int 0, .ref q1, .int 0, .ref q3, .ref q4, .int 0, .int 0, .ref q7, .ref q8, .int 0, .ref q10, .int 0, .int (-9), .int 0, .int 0, .int 0, .int 0, .int 0, .long 0, .long 0, .int 0, .null, .int 0, .null, .null, .long 0, .long 0, .long 0, .long 0])), (q1, .inl (d 0, 6, .inl (fun _ => 0))), (q3, .inl (d 3, 8, .inr (.inr (.inr (.inr (fun _ => none)))))), (q4, .inl (d 4, 16, .inr (.inr (.inr (.inr (fun _ => none)))))), (q7, .inl (d 5, 4, .inr (.inr (.inr (.inr (fun _ => none)))))), (q8, .inl (d 0, 144, .inl (fun _ => 0))), (q10, .inl (d 0, 48, .inl (fun _ => 0)))] H := hP
  have hD : va_D (fun x => x = q ∨ z ≤ x) [(q, .inr (0, [.int 0, .ref q1, .int 0, .ref q3, .ref q4, .int 0, .int 0, .ref q7, .ref q8, .int 0, .ref q10, .int 0, .int (-9), .int 0, .int 0, .int 0, .int 0, .int 0, .long 0, .long 0, .int 0, .null, .int 0, .null, .null, .long 0, .long 0, .long 0, .long 0])), (q1, .inl (d 0, 6, .inl (fun _ => 0))), (q3, .inl (d 3, 8, .inr (.inr (.inr (.inr (fun _ => none)))))), (q4, .inl (d 4, 16, .inr (.inr (.inr (.inr (fun _ => none)))))), (q7, .inl (d 5, 4, .inr (.inr (.inr (.inr (fun _ => none)))))), (q8, .inl (d 0, 144, .inl (fun _ => 0))), (q10, .inl (d 0, 48, .inl (fun _ => 0)))] := hD
  refine lv_aload_n hx hb dX0_init_61 rfl (lv_at hl 0 rfl) ?_
  refine lv_bipush (v := (-9)) hx hb dX0_init_62 (by decide) ?_
  refine va_put (ci := 0) (C := RX0) (T := TX0) (N := 29) hx hb hts in_X0 tyX0 tyX0_ok nmX0 hown hK hP hD hS 0 rfl rfl 13 (by decide) (hts _ q110) (fun _ h => h) rfl (tyX0_ok 13 (by decide)) rfl rfl (Nat.le_of_ble_eq_true rfl) dX0_init_64 fun H locs hP hD hS => ?_
  have hP : va_P D vwCl [(q, .inr (0, [.int 0, .ref q1, .int 0, .ref q3, .ref q4, .int 0, .int 0, .ref q7, .ref q8, .int 0, .ref q10, .int 0, .int (-9), .int (-9), .int 0, .int 0, .int 0, .int 0, .long 0, .long 0, .int 0, .null, .int 0, .null, .null, .long 0, .long 0, .long 0, .long 0])), (q1, .inl (d 0, 6, .inl (fun _ => 0))), (q3, .inl (d 3, 8, .inr (.inr (.inr (.inr (fun _ => none)))))), (q4, .inl (d 4, 16, .inr (.inr (.inr (.inr (fun _ => none)))))), (q7, .inl (d 5, 4, .inr (.inr (.inr (.inr (fun _ => none)))))), (q8, .inl (d 0, 144, .inl (fun _ => 0))), (q10, .inl (d 0, 48, .inl (fun _ => 0)))] H := hP
  have hD : va_D (fun x => x = q ∨ z ≤ x) [(q, .inr (0, [.int 0, .ref q1, .int 0, .ref q3, .ref q4, .int 0, .int 0, .ref q7, .ref q8, .int 0, .ref q10, .int 0, .int (-9), .int (-9), .int 0, .int 0, .int 0, .int 0, .long 0, .long 0, .int 0, .null, .int 0, .null, .null, .long 0, .long 0, .long 0, .long 0])), (q1, .inl (d 0, 6, .inl (fun _ => 0))), (q3, .inl (d 3, 8, .inr (.inr (.inr (.inr (fun _ => none)))))), (q4, .inl (d 4, 16, .inr (.inr (.inr (.inr (fun _ => none)))))), (q7, .inl (d 5, 4, .inr (.inr (.inr (.inr (fun _ => none)))))), (q8, .inl (d 0, 144, .inl (fun _ => 0))), (q10, .inl (d 0, 48, .inl (fun _ => 0)))] := hD
  refine lv_aload_n hx hb dX0_init_67 rfl (lv_at hl 0 rfl) ?_
  refine lv_bipush (v := (-9)) hx hb dX0_init_68 (by decide) ?_
  refine va_put (ci := 0) (C := RX0) (T := TX0) (N := 29) hx hb hts in_X0 tyX0 tyX0_ok nmX0 hown hK hP hD hS 0 rfl rfl 16 (by decide) (hts _ q113) (fun _ h => h) rfl (tyX0_ok 16 (by decide)) rfl rfl (Nat.le_of_ble_eq_true rfl) dX0_init_70 fun H locs hP hD hS => ?_
  have hP : va_P D vwCl [(q, .inr (0, [.int 0, .ref q1, .int 0, .ref q3, .ref q4, .int 0, .int 0, .ref q7, .ref q8, .int 0, .ref q10, .int 0, .int (-9), .int (-9), .int 0, .int 0, .int (-9), .int 0, .long 0, .long 0, .int 0, .null, .int 0, .null, .null, .long 0, .long 0, .long 0, .long 0])), (q1, .inl (d 0, 6, .inl (fun _ => 0))), (q3, .inl (d 3, 8, .inr (.inr (.inr (.inr (fun _ => none)))))), (q4, .inl (d 4, 16, .inr (.inr (.inr (.inr (fun _ => none)))))), (q7, .inl (d 5, 4, .inr (.inr (.inr (.inr (fun _ => none)))))), (q8, .inl (d 0, 144, .inl (fun _ => 0))), (q10, .inl (d 0, 48, .inl (fun _ => 0)))] H := hP
  have hD : va_D (fun x => x = q ∨ z ≤ x) [(q, .inr (0, [.int 0, .ref q1, .int 0, .ref q3, .ref q4, .int 0, .int 0, .ref q7, .ref q8, .int 0, .ref q10, .int 0, .int (-9), .int (-9), .int 0, .int 0, .int (-9), .int 0, .long 0, .long 0, .int 0, .null, .int 0, .null, .null, .long 0, .long 0, .long 0, .long 0])), (q1, .inl (d 0, 6, .inl (fun _ => 0))), (q3, .inl (d 3, 8, .inr (.inr (.inr (.inr (fun _ => none)))))), (q4, .inl (d 4, 16, .inr (.inr (.inr (.inr (fun _ => none)))))), (q7, .inl (d 5, 4, .inr (.inr (.inr (.inr (fun _ => none)))))), (q8, .inl (d 0, 144, .inl (fun _ => 0))), (q10, .inl (d 0, 48, .inl (fun _ => 0)))] := hD
  refine lv_aload_n hx hb dX0_init_73 rfl (lv_at hl 0 rfl) ?_
  refine lv_bipush (v := (-9)) hx hb dX0_init_74 (by decide) ?_
  refine va_put (ci := 0) (C := RX0) (T := TX0) (N := 29) hx hb hts in_X0 tyX0 tyX0_ok nmX0 hown hK hP hD hS 0 rfl rfl 17 (by decide) (hts _ q114) (fun _ h => h) rfl (tyX0_ok 17 (by decide)) rfl rfl (Nat.le_of_ble_eq_true rfl) dX0_init_76 fun H locs hP hD hS => ?_
  have hP : va_P D vwCl [(q, .inr (0, [.int 0, .ref q1, .int 0, .ref q3, .ref q4, .int 0, .int 0, .ref q7, .ref q8, .int 0, .ref q10, .int 0, .int (-9), .int (-9), .int 0, .int 0, .int (-9), .int (-9), .long 0, .long 0, .int 0, .null, .int 0, .null, .null, .long 0, .long 0, .long 0, .long 0])), (q1, .inl (d 0, 6, .inl (fun _ => 0))), (q3, .inl (d 3, 8, .inr (.inr (.inr (.inr (fun _ => none)))))), (q4, .inl (d 4, 16, .inr (.inr (.inr (.inr (fun _ => none)))))), (q7, .inl (d 5, 4, .inr (.inr (.inr (.inr (fun _ => none)))))), (q8, .inl (d 0, 144, .inl (fun _ => 0))), (q10, .inl (d 0, 48, .inl (fun _ => 0)))] H := hP
  have hD : va_D (fun x => x = q ∨ z ≤ x) [(q, .inr (0, [.int 0, .ref q1, .int 0, .ref q3, .ref q4, .int 0, .int 0, .ref q7, .ref q8, .int 0, .ref q10, .int 0, .int (-9), .int (-9), .int 0, .int 0, .int (-9), .int (-9), .long 0, .long 0, .int 0, .null, .int 0, .null, .null, .long 0, .long 0, .long 0, .long 0])), (q1, .inl (d 0, 6, .inl (fun _ => 0))), (q3, .inl (d 3, 8, .inr (.inr (.inr (.inr (fun _ => none)))))), (q4, .inl (d 4, 16, .inr (.inr (.inr (.inr (fun _ => none)))))), (q7, .inl (d 5, 4, .inr (.inr (.inr (.inr (fun _ => none)))))), (q8, .inl (d 0, 144, .inl (fun _ => 0))), (q10, .inl (d 0, 48, .inl (fun _ => 0)))] := hD
  refine lv_aload_n hx hb dX0_init_79 rfl (lv_at hl 0 rfl) ?_
  refine lv_lconst (v := 1) hx hb dX0_init_80 (by decide) ?_
  refine va_put (ci := 0) (C := RX0) (T := TX0) (N := 29) hx hb hts in_X0 tyX0 tyX0_ok nmX0 hown hK hP hD hS 0 rfl rfl 19 (by decide) (hts _ q116) (fun _ h => h) rfl (tyX0_ok 19 (by decide)) rfl rfl (Nat.le_of_ble_eq_true rfl) dX0_init_81 fun H locs hP hD hS => ?_
  have hP : va_P D vwCl [(q, .inr (0, [.int 0, .ref q1, .int 0, .ref q3, .ref q4, .int 0, .int 0, .ref q7, .ref q8, .int 0, .ref q10, .int 0, .int (-9), .int (-9), .int 0, .int 0, .int (-9), .int (-9), .long 0, .long 1, .int 0, .null, .int 0, .null, .null, .long 0, .long 0, .long 0, .long 0])), (q1, .inl (d 0, 6, .inl (fun _ => 0))), (q3, .inl (d 3, 8, .inr (.inr (.inr (.inr (fun _ => none)))))), (q4, .inl (d 4, 16, .inr (.inr (.inr (.inr (fun _ => none)))))), (q7, .inl (d 5, 4, .inr (.inr (.inr (.inr (fun _ => none)))))), (q8, .inl (d 0, 144, .inl (fun _ => 0))), (q10, .inl (d 0, 48, .inl (fun _ => 0)))] H := hP
  have hD : va_D (fun x => x = q ∨ z ≤ x) [(q, .inr (0, [.int 0, .ref q1, .int 0, .ref q3, .ref q4, .int 0, .int 0, .ref q7, .ref q8, .int 0, .ref q10, .int 0, .int (-9), .int (-9), .int 0, .int 0, .int (-9), .int (-9), .long 0, .long 1, .int 0, .null, .int 0, .null, .null, .long 0, .long 0, .long 0, .long 0])), (q1, .inl (d 0, 6, .inl (fun _ => 0))), (q3, .inl (d 3, 8, .inr (.inr (.inr (.inr (fun _ => none)))))), (q4, .inl (d 4, 16, .inr (.inr (.inr (.inr (fun _ => none)))))), (q7, .inl (d 5, 4, .inr (.inr (.inr (.inr (fun _ => none)))))), (q8, .inl (d 0, 144, .inl (fun _ => 0))), (q10, .inl (d 0, 48, .inl (fun _ => 0)))] := hD
  refine lv_aload_n hx hb dX0_init_84 rfl (lv_at hl 0 rfl) ?_
  refine lv_bipush (v := 12) hx hb dX0_init_85 (by decide) ?_
  refine va_newa (atype := .int) (ty := .int) (N' := 12) (a0 := (12, .inl (fun _ => 0))) hx hb (hts _ q185) rfl hK hP hD hS hA (fun _ => rfl) (by decide) rfl (by decide) (by decide) (by decide) dX0_init_87 fun q21 cA H hK1 hP hD hS => ?_
  have hcA : cA = d 0 := Option.some.inj ((hK1.2 6 _ rfl).2.symm.trans (hK.2 0 _ rfl).2)
  subst hcA
  clear hK1
  have hP : va_P D vwCl [(q, .inr (0, [.int 0, .ref q1, .int 0, .ref q3, .ref q4, .int 0, .int 0, .ref q7, .ref q8, .int 0, .ref q10, .int 0, .int (-9), .int (-9), .int 0, .int 0, .int (-9), .int (-9), .long 0, .long 1, .int 0, .null, .int 0, .null, .null, .long 0, .long 0, .long 0, .long 0])), (q1, .inl (d 0, 6, .inl (fun _ => 0))), (q3, .inl (d 3, 8, .inr (.inr (.inr (.inr (fun _ => none)))))), (q4, .inl (d 4, 16, .inr (.inr (.inr (.inr (fun _ => none)))))), (q7, .inl (d 5, 4, .inr (.inr (.inr (.inr (fun _ => none)))))), (q8, .inl (d 0, 144, .inl (fun _ => 0))), (q10, .inl (d 0, 48, .inl (fun _ => 0))), (q21, .inl (d 0, 12, .inl (fun _ => 0)))] H := hP
  have hD : va_D (fun x => x = q ∨ z ≤ x) [(q, .inr (0, [.int 0, .ref q1, .int 0, .ref q3, .ref q4, .int 0, .int 0, .ref q7, .ref q8, .int 0, .ref q10, .int 0, .int (-9), .int (-9), .int 0, .int 0, .int (-9), .int (-9), .long 0, .long 1, .int 0, .null, .int 0, .null, .null, .long 0, .long 0, .long 0, .long 0])), (q1, .inl (d 0, 6, .inl (fun _ => 0))), (q3, .inl (d 3, 8, .inr (.inr (.inr (.inr (fun _ => none)))))), (q4, .inl (d 4, 16, .inr (.inr (.inr (.inr (fun _ => none)))))), (q7, .inl (d 5, 4, .inr (.inr (.inr (.inr (fun _ => none)))))), (q8, .inl (d 0, 144, .inl (fun _ => 0))), (q10, .inl (d 0, 48, .inl (fun _ => 0))), (q21, .inl (d 0, 12, .inl (fun _ => 0)))] := hD
  refine va_putF (ci := 0) (C := RX0) (T := TX0) (N := 29) (v := .ref q21) hx hb hts in_X0 tyX0 tyX0_ok nmX0 hown hK hP hD hS 0 rfl rfl 21 (by decide) (hts _ q118) (fun _ h => h) rfl hin rfl (tyX0_ok 21 (by decide)) rfl rfl (Nat.le_of_ble_eq_true rfl) dX0_init_89 fun H locs hP hD hS => ?_
  have hP : va_P D vwCl [(q, .inr (0, [.int 0, .ref q1, .int 0, .ref q3, .ref q4, .int 0, .int 0, .ref q7, .ref q8, .int 0, .ref q10, .int 0, .int (-9), .int (-9), .int 0, .int 0, .int (-9), .int (-9), .long 0, .long 1, .int 0, .ref q21, .int 0, .null, .null, .long 0, .long 0, .long 0, .long 0])), (q1, .inl (d 0, 6, .inl (fun _ => 0))), (q3, .inl (d 3, 8, .inr (.inr (.inr (.inr (fun _ => none)))))), (q4, .inl (d 4, 16, .inr (.inr (.inr (.inr (fun _ => none)))))), (q7, .inl (d 5, 4, .inr (.inr (.inr (.inr (fun _ => none)))))), (q8, .inl (d 0, 144, .inl (fun _ => 0))), (q10, .inl (d 0, 48, .inl (fun _ => 0))), (q21, .inl (d 0, 12, .inl (fun _ => 0)))] H := hP
  have hD : va_D (fun x => x = q ∨ z ≤ x) [(q, .inr (0, [.int 0, .ref q1, .int 0, .ref q3, .ref q4, .int 0, .int 0, .ref q7, .ref q8, .int 0, .ref q10, .int 0, .int (-9), .int (-9), .int 0, .int 0, .int (-9), .int (-9), .long 0, .long 1, .int 0, .ref q21, .int 0, .null, .null, .long 0, .long 0, .long 0, .long 0])), (q1, .inl (d 0, 6, .inl (fun _ => 0))), (q3, .inl (d 3, 8, .inr (.inr (.inr (.inr (fun _ => none)))))), (q4, .inl (d 4, 16, .inr (.inr (.inr (.inr (fun _ => none)))))), (q7, .inl (d 5, 4, .inr (.inr (.inr (.inr (fun _ => none)))))), (q8, .inl (d 0, 144, .inl (fun _ => 0))), (q10, .inl (d 0, 48, .inl (fun _ => 0))), (q21, .inl (d 0, 12, .inl (fun _ => 0)))] := hD
  refine lv_aload_n hx hb dX0_init_92 rfl (lv_at hl 0 rfl) ?_
  refine lv_iconst (v := 4) hx hb dX0_init_93 (by decide) ?_
  refine va_newa (atype := .int) (ty := .int) (N' := 4) (a0 := (4, .inl (fun _ => 0))) hx hb (hts _ q185) rfl hK hP hD hS hA (fun _ => rfl) (by decide) rfl (by decide) (by decide) (by decide) dX0_init_94 fun q23 cA H hK1 hP hD hS => ?_
  have hcA : cA = d 0 := Option.some.inj ((hK1.2 6 _ rfl).2.symm.trans (hK.2 0 _ rfl).2)
  subst hcA
  clear hK1
  have hP : va_P D vwCl [(q, .inr (0, [.int 0, .ref q1, .int 0, .ref q3, .ref q4, .int 0, .int 0, .ref q7, .ref q8, .int 0, .ref q10, .int 0, .int (-9), .int (-9), .int 0, .int 0, .int (-9), .int (-9), .long 0, .long 1, .int 0, .ref q21, .int 0, .null, .null, .long 0, .long 0, .long 0, .long 0])), (q1, .inl (d 0, 6, .inl (fun _ => 0))), (q3, .inl (d 3, 8, .inr (.inr (.inr (.inr (fun _ => none)))))), (q4, .inl (d 4, 16, .inr (.inr (.inr (.inr (fun _ => none)))))), (q7, .inl (d 5, 4, .inr (.inr (.inr (.inr (fun _ => none)))))), (q8, .inl (d 0, 144, .inl (fun _ => 0))), (q10, .inl (d 0, 48, .inl (fun _ => 0))), (q21, .inl (d 0, 12, .inl (fun _ => 0))), (q23, .inl (d 0, 4, .inl (fun _ => 0)))] H := hP
  have hD : va_D (fun x => x = q ∨ z ≤ x) [(q, .inr (0, [.int 0, .ref q1, .int 0, .ref q3, .ref q4, .int 0, .int 0, .ref q7, .ref q8, .int 0, .ref q10, .int 0, .int (-9), .int (-9), .int 0, .int 0, .int (-9), .int (-9), .long 0, .long 1, .int 0, .ref q21, .int 0, .null, .null, .long 0, .long 0, .long 0, .long 0])), (q1, .inl (d 0, 6, .inl (fun _ => 0))), (q3, .inl (d 3, 8, .inr (.inr (.inr (.inr (fun _ => none)))))), (q4, .inl (d 4, 16, .inr (.inr (.inr (.inr (fun _ => none)))))), (q7, .inl (d 5, 4, .inr (.inr (.inr (.inr (fun _ => none)))))), (q8, .inl (d 0, 144, .inl (fun _ => 0))), (q10, .inl (d 0, 48, .inl (fun _ => 0))), (q21, .inl (d 0, 12, .inl (fun _ => 0))), (q23, .inl (d 0, 4, .inl (fun _ => 0)))] := hD
  refine va_putF (ci := 0) (C := RX0) (T := TX0) (N := 29) (v := .ref q23) hx hb hts in_X0 tyX0 tyX0_ok nmX0 hown hK hP hD hS 0 rfl rfl 23 (by decide) (hts _ q120) (fun _ h => h) rfl hin rfl (tyX0_ok 23 (by decide)) rfl rfl (Nat.le_of_ble_eq_true rfl) dX0_init_96 fun H locs hP hD hS => ?_
  have hP : va_P D vwCl [(q, .inr (0, [.int 0, .ref q1, .int 0, .ref q3, .ref q4, .int 0, .int 0, .ref q7, .ref q8, .int 0, .ref q10, .int 0, .int (-9), .int (-9), .int 0, .int 0, .int (-9), .int (-9), .long 0, .long 1, .int 0, .ref q21, .int 0, .ref q23, .null, .long 0, .long 0, .long 0, .long 0])), (q1, .inl (d 0, 6, .inl (fun _ => 0))), (q3, .inl (d 3, 8, .inr (.inr (.inr (.inr (fun _ => none)))))), (q4, .inl (d 4, 16, .inr (.inr (.inr (.inr (fun _ => none)))))), (q7, .inl (d 5, 4, .inr (.inr (.inr (.inr (fun _ => none)))))), (q8, .inl (d 0, 144, .inl (fun _ => 0))), (q10, .inl (d 0, 48, .inl (fun _ => 0))), (q21, .inl (d 0, 12, .inl (fun _ => 0))), (q23, .inl (d 0, 4, .inl (fun _ => 0)))] H := hP
  have hD : va_D (fun x => x = q ∨ z ≤ x) [(q, .inr (0, [.int 0, .ref q1, .int 0, .ref q3, .ref q4, .int 0, .int 0, .ref q7, .ref q8, .int 0, .ref q10, .int 0, .int (-9), .int (-9), .int 0, .int 0, .int (-9), .int (-9), .long 0, .long 1, .int 0, .ref q21, .int 0, .ref q23, .null, .long 0, .long 0, .long 0, .long 0])), (q1, .inl (d 0, 6, .inl (fun _ => 0))), (q3, .inl (d 3, 8, .inr (.inr (.inr (.inr (fun _ => none)))))), (q4, .inl (d 4, 16, .inr (.inr (.inr (.inr (fun _ => none)))))), (q7, .inl (d 5, 4, .inr (.inr (.inr (.inr (fun _ => none)))))), (q8, .inl (d 0, 144, .inl (fun _ => 0))), (q10, .inl (d 0, 48, .inl (fun _ => 0))), (q21, .inl (d 0, 12, .inl (fun _ => 0))), (q23, .inl (d 0, 4, .inl (fun _ => 0)))] := hD
  refine lv_aload_n hx hb dX0_init_99 rfl (lv_at hl 0 rfl) ?_
  refine lv_iconst (v := 4) hx hb dX0_init_100 (by decide) ?_
  refine va_newa (atype := .int) (ty := .int) (N' := 4) (a0 := (4, .inl (fun _ => 0))) hx hb (hts _ q185) rfl hK hP hD hS hA (fun _ => rfl) (by decide) rfl (by decide) (by decide) (by decide) dX0_init_101 fun q24 cA H hK1 hP hD hS => ?_
  have hcA : cA = d 0 := Option.some.inj ((hK1.2 6 _ rfl).2.symm.trans (hK.2 0 _ rfl).2)
  subst hcA
  clear hK1
  have hP : va_P D vwCl [(q, .inr (0, [.int 0, .ref q1, .int 0, .ref q3, .ref q4, .int 0, .int 0, .ref q7, .ref q8, .int 0, .ref q10, .int 0, .int (-9), .int (-9), .int 0, .int 0, .int (-9), .int (-9), .long 0, .long 1, .int 0, .ref q21, .int 0, .ref q23, .null, .long 0, .long 0, .long 0, .long 0])), (q1, .inl (d 0, 6, .inl (fun _ => 0))), (q3, .inl (d 3, 8, .inr (.inr (.inr (.inr (fun _ => none)))))), (q4, .inl (d 4, 16, .inr (.inr (.inr (.inr (fun _ => none)))))), (q7, .inl (d 5, 4, .inr (.inr (.inr (.inr (fun _ => none)))))), (q8, .inl (d 0, 144, .inl (fun _ => 0))), (q10, .inl (d 0, 48, .inl (fun _ => 0))), (q21, .inl (d 0, 12, .inl (fun _ => 0))), (q23, .inl (d 0, 4, .inl (fun _ => 0))), (q24, .inl (d 0, 4, .inl (fun _ => 0)))] H := hP
  have hD : va_D (fun x => x = q ∨ z ≤ x) [(q, .inr (0, [.int 0, .ref q1, .int 0, .ref q3, .ref q4, .int 0, .int 0, .ref q7, .ref q8, .int 0, .ref q10, .int 0, .int (-9), .int (-9), .int 0, .int 0, .int (-9), .int (-9), .long 0, .long 1, .int 0, .ref q21, .int 0, .ref q23, .null, .long 0, .long 0, .long 0, .long 0])), (q1, .inl (d 0, 6, .inl (fun _ => 0))), (q3, .inl (d 3, 8, .inr (.inr (.inr (.inr (fun _ => none)))))), (q4, .inl (d 4, 16, .inr (.inr (.inr (.inr (fun _ => none)))))), (q7, .inl (d 5, 4, .inr (.inr (.inr (.inr (fun _ => none)))))), (q8, .inl (d 0, 144, .inl (fun _ => 0))), (q10, .inl (d 0, 48, .inl (fun _ => 0))), (q21, .inl (d 0, 12, .inl (fun _ => 0))), (q23, .inl (d 0, 4, .inl (fun _ => 0))), (q24, .inl (d 0, 4, .inl (fun _ => 0)))] := hD
  refine va_putF (ci := 0) (C := RX0) (T := TX0) (N := 29) (v := .ref q24) hx hb hts in_X0 tyX0 tyX0_ok nmX0 hown hK hP hD hS 0 rfl rfl 24 (by decide) (hts _ q121) (fun _ h => h) rfl hin rfl (tyX0_ok 24 (by decide)) rfl rfl (Nat.le_of_ble_eq_true rfl) dX0_init_103 fun H locs hP hD hS => ?_
  have hP : va_P D vwCl [(q, .inr (0, [.int 0, .ref q1, .int 0, .ref q3, .ref q4, .int 0, .int 0, .ref q7, .ref q8, .int 0, .ref q10, .int 0, .int (-9), .int (-9), .int 0, .int 0, .int (-9), .int (-9), .long 0, .long 1, .int 0, .ref q21, .int 0, .ref q23, .ref q24, .long 0, .long 0, .long 0, .long 0])), (q1, .inl (d 0, 6, .inl (fun _ => 0))), (q3, .inl (d 3, 8, .inr (.inr (.inr (.inr (fun _ => none)))))), (q4, .inl (d 4, 16, .inr (.inr (.inr (.inr (fun _ => none)))))), (q7, .inl (d 5, 4, .inr (.inr (.inr (.inr (fun _ => none)))))), (q8, .inl (d 0, 144, .inl (fun _ => 0))), (q10, .inl (d 0, 48, .inl (fun _ => 0))), (q21, .inl (d 0, 12, .inl (fun _ => 0))), (q23, .inl (d 0, 4, .inl (fun _ => 0))), (q24, .inl (d 0, 4, .inl (fun _ => 0)))] H := hP
  have hD : va_D (fun x => x = q ∨ z ≤ x) [(q, .inr (0, [.int 0, .ref q1, .int 0, .ref q3, .ref q4, .int 0, .int 0, .ref q7, .ref q8, .int 0, .ref q10, .int 0, .int (-9), .int (-9), .int 0, .int 0, .int (-9), .int (-9), .long 0, .long 1, .int 0, .ref q21, .int 0, .ref q23, .ref q24, .long 0, .long 0, .long 0, .long 0])), (q1, .inl (d 0, 6, .inl (fun _ => 0))), (q3, .inl (d 3, 8, .inr (.inr (.inr (.inr (fun _ => none)))))), (q4, .inl (d 4, 16, .inr (.inr (.inr (.inr (fun _ => none)))))), (q7, .inl (d 5, 4, .inr (.inr (.inr (.inr (fun _ => none)))))), (q8, .inl (d 0, 144, .inl (fun _ => 0))), (q10, .inl (d 0, 48, .inl (fun _ => 0))), (q21, .inl (d 0, 12, .inl (fun _ => 0))), (q23, .inl (d 0, 4, .inl (fun _ => 0))), (q24, .inl (d 0, 4, .inl (fun _ => 0)))] := hD
  have hR := x_init_R hP hD
  exact W.vret hx hb B.returns (fun t' ht hW => ⟨⟨(adI q q1 q3 q4 q7 q8 q10 q21 q23 q24), rfl, rfl, by show XR D d (fun x => x = q ∨ z ≤ x) (adI q q1 q3 q4 q7 q8 q10 q21 q23 q24) x_init t'.heap; rw [ht]; exact hR⟩, hS.F ht⟩) hS.2.2 dX0_init_106 B.notSynchronized
