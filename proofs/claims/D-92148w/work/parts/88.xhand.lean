/-! METHODS WITH HANDLERS: contracts, and rows that throw and catch. -/
set_option maxRecDepth 100000
abbrev is_1 : Cond := .isRef (.static "java/lang/Throwable" "UNASSIGNED_STACK" "[Ljava/lang/StackTraceElement;")
abbrev is_2 : Cond := .isRef (.static "java/lang/Throwable" "SUPPRESSED_SENTINEL" "Ljava/util/List;")
/-- what Throwable's statics hold: references; they lie out of A -/
def xTS (A : Nat → Prop) (U : State) : Prop := modulesRight_1 U = true ∧ ∃ (aS : Nat) (cell : Cell) (ct : ClassId) (k : Class), ¬ A aS ∧ U.heap[aS]? = some cell ∧ U.vm.findClass "java/lang/Throwable" = some ct ∧ U.vm.classes[ct]? = some k ∧ k.statics = some aS ∧ ∀ (V : State) (a : Array Value), U.vm.Alike V.vm → V.heap[aS]? = some cell → is_1.before a V = true ∧ is_2.before a V = true
theorem xTS.moved {A : Nat → Prop} {u U : State} (hal : u.vm.Alike U.vm) (hh : ∀ x, x < u.heap.size → ¬ A x → U.heap[x]? = u.heap[x]?) (h : xTS A u) : xTS A U := by
  obtain ⟨h0, a, cell, ct, k, h1, h2, h3, h4, h5, h6⟩ := h
  obtain ⟨k', hk', he⟩ := hal.2.2 _ _ h4
  have hm : U.vm.modules = u.vm.modules := by rw [hal.1]
  refine ⟨by unfold modulesRight_1 at h0 ⊢; rw [hm]; exact h0, a, cell, ct, k', h1, (hh a (Array.getElem?_eq_some_iff.mp h2).1 h1).trans h2, by rw [hal.findClass]; exact h3, hk', by rw [he]; exact h5, fun V b hV hc => h6 V b (hal.trans hV) hc⟩
theorem xTS.words {A : Nat → Prop} {u : State} (h : xTS A u) (a : Array Value) : is_1.before a u = true ∧ is_2.before a u = true := by
  obtain ⟨_, _, _, _, _, h1, h2, h3, h4, h5, h6⟩ := h
  exact h6 u a (Vm.Alike.refl _) h2
theorem xTS.off {A : Nat → Prop} {u : State} (h : xTS A u) {locs : List Loc} (hl : ∀ y ∈ locs, A y.base) : ∀ (aS : Nat) (ct : ClassId) (k : Class), u.vm.findClass Bundle.tN = some ct → u.vm.classes[ct]? = some k → k.statics = some aS → ∀ y ∈ locs, y.base ≠ aS := by
  obtain ⟨-, a, cell, ct, k, h1, h2, h3, h4, h5, h6⟩ := h
  intro aS ct2 k2 q1 q2 q3 y hy e
  cases h3.symm.trans q1
  cases h4.symm.trans q2
  cases h5.symm.trans q3
  exact h1 (by rw [← e]; exact hl y hy)
/-- the words of an exception: in the tables, or the two of the statics -/
def ex_in (ws : List Cond) : Prop := ∀ w ∈ ws, w ∈ lw_all ∨ (w ∈ lw_tbl ∧ nwOk w = true) ∨ w = is_1 ∨ w = is_2
def ex_is : Cond → Bool
  | .isRef _ => true
  | _ => false
theorem ex_of (ws : List Cond) (ps : List Nat) (hp : ws.filter (fun w => !ex_is w) = ps.filterMap (fun i => lw_tbl[i]?)) (hg : (ws.filter (fun w => !ex_is w)).all (fun w => goodWord w || nwOk w) = true) (hr : ws.filter ex_is = [is_1, is_2]) : ex_in ws := by
  intro w hw
  by_cases h : ex_is w = true
  · have h1 : w ∈ ws.filter ex_is := List.mem_filter.mpr ⟨hw, h⟩
    rw [hr] at h1
    simp only [List.mem_cons, List.not_mem_nil, or_false] at h1
    exact Or.inr (Or.inr h1)
  · have h1 : w ∈ ws.filter (fun w => !ex_is w) := List.mem_filter.mpr ⟨hw, by simpa using h⟩
    have h2 := List.all_eq_true.mp hg w h1
    rw [hp] at h1
    obtain ⟨i, -, hi⟩ := List.mem_filterMap.mp h1
    rcases Bool.or_eq_true_iff.mp h2 with q | q
    · exact Or.inl (lw_w i hi q)
    · exact Or.inr (Or.inl ⟨List.mem_of_getElem? hi, q⟩)
section XHAND
variable {p : Program} {l : Launch} {e : Env} {R : Room} {s : State} {m : MethodId} {args : Array Value} {below : List Frame} {meth : Method} {c : Code} {H : Heap} {locs : List Loc} {cells slots : Nat} {Q : State → Prop}
variable {cc : ByteArray} {pc nL : Nat} {ls : Array Slot} {rest st0 : List Value} {D : va_G} {A : Nat → Prop} {d : Nat → ClassId} {own : String} {ad : XK → Nat} {X : XS}
def xPt (D : va_G) (d : Nat → ClassId) (A : Nat → Prop) (ad : XK → Nat) (X : XS) (av : List Value) : Array Value → State → Prop := va_Pc av (fun U => XR D d A ad X U.heap ∧ va_K D vwCl (dd_T d) U ∧ XE d U ∧ (∀ q, U.heap.size ≤ q → A q) ∧ xTS A U)
abbrev wsw_ (y : MethodName) (b : ByteArray) (L : Nat) (r : Option FieldType) (hh : List (Nat × Nat × Nat × Nat)) : List Cond := Cond.codeWith y b L r hh :: lw_all
/-- a method with handlers -/
def XIt (l : Launch) (y : MethodName) (cy : ByteArray) (ny : Nat) (hh : List (Nat × Nat × Nat × Nat)) (rm : Room) (D : va_G) (d : Nat → ClassId) (A : Nat → Prop) (ad : XK → Nat) (X : XS) (As : List Value) (F : Int32 × XS) (mc ms : Nat) : Prop := Met l y (wsw_ y cy ny (some .int) hh) rm (xPt D d A ad X As) (xQa D d A ad F) mc ms A
/-- room in which an exception may be thrown -/
abbrev rmt_ (n k j : Nat) : Room := { frames := n, cells := k, slots := j, locals := 10400 + 60 * n }
/-- what a walk stands on, where it may throw -/
abbrev xXt (p : Program) (l : Launch) (m : MethodId) (c : Code) (cc : ByteArray) (nL : Nat) (s : State) (args : Array Value) (own : String) (D : va_G) (d : Nat → ClassId) (A : Nat → Prop) (hh : List (Nat × Nat × Nat × Nat)) : Prop := xX p m c cc nL s args own D d ∧ l.stackTraces = false ∧ xTS A s ∧ (∀ q, s.heap.size ≤ q → A q) ∧ c.exceptionTable.toList = hh.map (fun q => ⟨q.1, q.2.1, q.2.2.1, q.2.2.2⟩)
theorem xt_blind {As : List Value} : FrameBlind (xPt D d A ad X As) := fun a' U g mk q => ⟨q.1, q.2.1, va_K.moved (u := U) (U := U.calling g mk a') (Vm.Alike.refl U.vm) q.2.2.1, XE.same (u := U) (U := U.calling g mk a') rfl q.2.2.2.1, q.2.2.2.2.1, xTS.moved (u := U) (U := U.calling g mk a') (Vm.Alike.refl U.vm) (fun _ _ _ => rfl) q.2.2.2.2.2⟩
theorem x_startIt {y : MethodName} {cy : ByteArray} {ny : Nat} {hh : List (Nat × Nat × Nat × Nat)} {rm : Room} {As : List Value} {F : Int32 × XS} {mc ms : Nat} (hl0 : l.stackTraces = false) (own : String) (hyo : y.cls = own) (hy : plainName own = true) (hn : (lg_sl As).length ≤ ny)
    (body : ∀ (p : Program) (e : Env) (s : State) (m : MethodId) (av : Array Value) (below : List Frame) (meth : Method) (c : Code) (ls : Array Slot) (Q : State → Prop), xXt p l m c cy ny s av own D d A hh → meth.sig.returnType = some .int → meth.locks = false → lv_has ls ny (lv_args 0 As) → XR D d A ad X s.heap → Q = MQ below (xQa D d A ad F) av s mc ms A → W p l e rm s m av below meth c s.heap [] 0 0 Q (F0 m 0 ls [])) : XIt l y cy ny hh rm D d A ad X As F mc ms := by
  refine va_MetW (cc := cy) (maxL := ny) (ret := some .int) (hh := hh) (by rw [hyo]; exact hy) rfl ?_
  intro p e s m args below meth c s₁ B hml hv
  obtain ⟨rfl, hR, hK, hE, hA, hT⟩ := hv
  have hts := atoms_spec (ws := wsw_ y cy ny (some .int) hh) B.pre
  obtain ⟨m9, meth9, c9, q1, q2, q3, -, -, q4, -⟩ := Cond.codeWith_spec (hts _ List.mem_cons_self)
  cases B.named.symm.trans q1
  have XB : Stand p l e _ s m _ below meth c s₁ [] 0 0 := Stand.of_body B
  cases XB.method.symm.trans q2
  cases XB.code.symm.trans q3
  have htab : c.exceptionTable.toList = hh.map (fun q => (⟨q.1, q.2.1, q.2.2.1, q.2.2.2⟩ : ExceptionTableEntry)) := by
    rw [← q4, List.map_map]
    exact (List.map_id' _).symm
  have hl := lv_entry As (n := ny) hn
  have ho : s.vm.findClass y.cls = some m.cls := findClass_of_methodNamed B.named
  rw [hyo] at ho
  rw [lg_entry_eq]
  exact body p e s m _ below meth c _ _ ⟨⟨⟨⟨B.exec, B.bytes, hml, ho, fun w h => hts w (List.mem_cons_of_mem _ h)⟩, hK⟩, hE⟩, hl0, hT, hA, htab⟩ B.returns B.notSynchronized hl hR rfl
theorem ex_words (X0 : xX p m c cc nL s args own D d) (hT : xTS A s) {ws : List Cond} (h : ex_in ws) : ∀ w ∈ ws, w.before args s = true := by
  intro w hw
  rcases h w hw with q | ⟨q1, q2⟩ | rfl | rfl
  · exact X0.1.1.2.2.2.2 w q
  · exact va_tabs (nw_on q2) rfl (X0.2.1 w q1 q2)
  · exact (hT.words args).1
  · exact (hT.words args).2
/-- a handler is found for an exception of the class cls that was thrown at the frame g -/
def xw_C (p : Program) (l : Launch) (e : Env) (R : Room) (s : State) (m : MethodId) (args : Array Value) (below : List Frame) (meth : Method) (c : Code) (cls : String) (g : JFrame) (hpc : Nat) : Prop :=
  ∀ (U : State) (locs1 : List Loc) (k n : Nat) (q : Nat) (ce : Cell), Stand p l e R s m args below meth c U locs1 k n → U.heap[q]? = some ce → ce.vm = .none → s.vm.findClass cls = some ce.cls → (∃ kX, s.vm.classes[ce.cls]? = some kX) →
    ∃ vm1, Stand p l e R s m args below meth c (U.setVm vm1) locs1 k n ∧ ∀ tg, Steps p.tables e below ((U.setVm vm1).setTop { g with pc := hpc, stack := [.ref q] }) tg → Steps p.tables e below ((U.setTop g).pushFrame (.throwing q)) tg
theorem cast_of (X0 : xX p m c cc nL s args own D d) {a b : String} (h : Cond.castable a b ∈ lw_tbl) {ca cb : ClassId} (ha : s.vm.findClass a = some ca) (hb : s.vm.findClass b = some cb) : s.vm.assignable ca cb = true := by
  obtain ⟨c1, c2, w1, w2, w3⟩ := Cond.castable_spec (X0.2.1 _ h rfl)
  cases ha.symm.trans w1
  cases hb.symm.trans w2
  exact w3
theorem link_cls (hown : s.vm.findClass own = some m.cls) {i : Nat} {name : String} (h : (Cond.classLink own i name).before args s = true) : ∃ cT, s.vm.findClass name = some cT := by
  obtain ⟨c1, hc1, -⟩ := Cond.classLink_spec hown h {} rfl
  exact ⟨c1, hc1⟩
/-- the first entry that covers the pc catches -/
theorem xw_c1 {hh : List (Nat × Nat × Nat × Nat)} (X0 : xXt p l m c cc nL s args own D d A hh) {cls name : String} {g : JFrame} (hg : g.method = m) (pre : List (Nat × Nat × Nat × Nat)) {x : Nat × Nat × Nat × Nat} {r : List (Nat × Nat × Nat × Nat)} (hs : hh = pre ++ x :: r) (hpre : ∀ y ∈ pre, covers ⟨y.1, y.2.1, y.2.2.1, y.2.2.2⟩ g.pc = false) (hx : covers ⟨x.1, x.2.1, x.2.2.1, x.2.2.2⟩ g.pc = true) (h0 : x.2.2.2 ≠ 0) (hlink : Cond.classLink own x.2.2.2 name ∈ lw_all) (hcast : Cond.castable cls name ∈ lw_tbl) : xw_C p l e R s m args below meth c cls g x.2.2.1 := by
  obtain ⟨X1, -, -, -, htab⟩ := X0
  intro U locs1 k n q ce XU hq hv hc hk
  have hown := X1.1.1.2.2.2.1
  have hlk := X1.1.1.2.2.2.2 _ hlink
  obtain ⟨cT, hcT⟩ := link_cls hown hlk
  obtain ⟨vm1, XV, hf⟩ := xw_entry XU q hg hown (x := ⟨x.1, x.2.1, x.2.2.1, x.2.2.2⟩) hx h0 hlk hcT hq hv hk
  refine ⟨vm1, XV, fun tg hr => xw_go XU q hg (fun Q E d acts => ?_) hr⟩
  rw [htab, hs, List.map_append, List.map_cons]
  have key : ∀ ps : List (Nat × Nat × Nat × Nat), (∀ y ∈ ps, covers ⟨y.1, y.2.1, y.2.2.1, y.2.2.2⟩ g.pc = false) → ∀ t, wp (findHandler.go g q (ps.map (fun q => (⟨q.1, q.2.1, q.2.2.1, q.2.2.2⟩ : ExceptionTableEntry)) ++ t)) Q E e d acts ((U.setTop g).pushFrame (.throwing q)) ↔ wp (findHandler.go g q t) Q E e d acts ((U.setTop g).pushFrame (.throwing q)) := by
    intro ps
    induction ps with
    | nil => intro _ t; exact Iff.rfl
    | cons y ys ih =>
      intro h t
      rw [List.map_cons, List.cons_append, W.findHandler_go_skip (h y List.mem_cons_self)]
      exact ih (fun z hz => h z (List.mem_cons_of_mem _ hz)) t
  rw [key pre hpre, hf, if_pos (cast_of X1 hcast hc hcT)]
/-- the first entry is passed, the second catches -/
theorem xw_c2 {hh : List (Nat × Nat × Nat × Nat)} (X0 : xXt p l m c cc nL s args own D d A hh) {cls name1 name : String} {g : JFrame} (hg : g.method = m) {x1 x : Nat × Nat × Nat × Nat} {r : List (Nat × Nat × Nat × Nat)} (hs : hh = x1 :: x :: r) (hx1 : covers ⟨x1.1, x1.2.1, x1.2.2.1, x1.2.2.2⟩ g.pc = true) (hx : covers ⟨x.1, x.2.1, x.2.2.1, x.2.2.2⟩ g.pc = true) (h01 : x1.2.2.2 ≠ 0) (h0 : x.2.2.2 ≠ 0) (hlink1 : Cond.classLink own x1.2.2.2 name1 ∈ lw_all) (hlink : Cond.classLink own x.2.2.2 name ∈ lw_all) (hno : (cls, name1) ∈ nc_list) (hcast : Cond.castable cls name ∈ lw_tbl) : xw_C p l e R s m args below meth c cls g x.2.2.1 := by
  obtain ⟨X1, -, -, -, htab⟩ := X0
  intro U locs1 k n q ce XU hq hv hc hk
  have hown := X1.1.1.2.2.2.1
  have hlk1 := X1.1.1.2.2.2.2 _ hlink1
  have hlk := X1.1.1.2.2.2.2 _ hlink
  obtain ⟨cT1, hcT1⟩ := link_cls hown hlk1
  obtain ⟨cT, hcT⟩ := link_cls hown hlk
  obtain ⟨vm1, XV1, hf1⟩ := xw_entry XU q hg hown (x := ⟨x1.1, x1.2.1, x1.2.2.1, x1.2.2.2⟩) hx1 h01 hlk1 hcT1 hq hv hk
  obtain ⟨vm2, XV2, hf2⟩ := xw_entry XV1 q hg hown (x := ⟨x.1, x.2.1, x.2.2.1, x.2.2.2⟩) hx h0 hlk hcT hq hv hk
  have hn : ¬ s.vm.assignable ce.cls cT1 = true := by
    obtain ⟨a, b, h1, h2, h3⟩ := X1.2.2.1 _ hno
    cases hc.symm.trans h1
    cases hcT1.symm.trans h2
    rw [h3]
    decide
  refine ⟨vm2, XV2, fun tg hr => xw_go XU q hg (fun Q E d acts => ?_) hr⟩
  rw [htab, hs, List.map_cons, List.map_cons, hf1, if_neg hn, hf2, if_pos (cast_of X1 hcast hc hcT)]
  rfl
/-- an exception with a message is thrown and caught -/
theorem x_thM {hh : List (Nat × Nat × Nat × Nat)} (X0 : xXt p l m c cc nL s args own D d A hh) (hS : va_S A s.heap H locs) {cls : String} {names : List String} (N : Nat) {hpc : Nat} (hex : ex_in (Bundle.messageArmAtoms cls names)) (hc : Bundle.fit cls = true ∧ (∀ n ∈ names, Bundle.fit n = true) ∧ (cls == "java/lang/StackOverflowError") = false ∧ (cls == "java/lang/OutOfMemoryError") = false) (hN : N ≤ 100000) (hls : ls.size = nL) (hrest : (rest.map fun v => v.category).sum ≤ 8) (hRf : names.length + 4 < R.frames ∧ names.length ≤ 100) (hRl : 10400 ≤ R.locals) (hRc : cells + 3 ≤ R.cells ∧ slots + (N + 10) ≤ R.slots)
    (hop : ∀ T : State, T.heap = H → Stand p l e R s m args below meth c T locs cells slots → ∃ (T1 : State) (text : String), T1.heap = H ∧ Stand p l e R s m args below meth c T1 locs cells slots ∧ tx_ text N ∧ ∀ tg, Steps p.tables e below ((T1.setTop (F0 m pc ls rest)).pushFrame (.throwNew cls (some text) none)) tg → Steps p.tables e below (T.setTop (F0 m pc ls st0)) tg)
    (hcat : xw_C p l e R s m args below meth c cls (F0 m pc ls rest) hpc)
    (kk : ∀ (q : Nat) (H1 : Heap) (locs1 : List Loc), (∀ x, x < H.size → H1[x]? = H[x]?) → va_S A s.heap H1 locs1 → W p l e R s m args below meth c H1 locs1 (cells + 3) (slots + (N + 10)) Q (F0 m hpc ls [.ref q])) : W p l e R s m args below meth c H locs cells slots Q (F0 m pc ls st0) := by
  obtain ⟨X1, hl0, hT, hA, -⟩ := X0
  intro T0 hTh0 XS0
  obtain ⟨T, text, hTh, XS, htx, hop⟩ := hop T0 hTh0 XS0
  have hroom : 2 * (F0 m pc ls rest).monitorRoom + ((F0 m pc ls rest).stack.map fun v => v.category).sum ≤ 8 := lv_room hrest
  obtain ⟨U, locs1, q, ce, N1, N2, N3, N4, N5, N6, N7, N8, N9⟩ := xw_msg XS X1.1.1.1 (by rw [XS.admits.platform]; exact hl0) (hT.off hS.2.2) hc.1 hc.2.1 hc.2.2.1 hc.2.2.2 (ex_words X1 hT hex) htx hN (g := F0 m pc ls rest) rfl (hls.trans X1.1.1.2.2.1.symm) hRf.1 (by omega) (by omega) hRc.1 hRc.2
  obtain ⟨vm1, XV, hrun⟩ := hcat U locs1 _ _ q ce N1 N5 N6 N7 N8
  have hkept : ∀ x, x < H.size → (U.setVm vm1).heap[x]? = H[x]? := fun x hx => by rw [← hTh] at hx ⊢; exact N3 x hx
  have hz : s.heap.size ≤ H.size := hS.1
  have hS1 : va_S A s.heap (U.setVm vm1).heap locs1 := by
    refine ⟨Nat.le_trans hz (by have := N4; rw [hTh] at this; exact this), fun x a b => (hkept x (Nat.lt_of_lt_of_le a hz)).trans (hS.2.1 x a b), fun y hy => ?_⟩
    rcases N2 y hy with a | a
    · exact hS.2.2 y a
    · exact hA _ (Nat.le_trans hz (by rw [hTh] at a; exact a))
  obtain ⟨t, h1, h2⟩ := kk q (U.setVm vm1).heap locs1 hkept hS1 (U.setVm vm1) rfl XV
  exact ⟨t, hop t (N9 t (hrun t h1)), h2⟩
/-- a NullPointerException is thrown and caught -/
theorem x_thN {hh : List (Nat × Nat × Nat × Nat)} (X0 : xXt p l m c cc nL s args own D d A hh) (hS : va_S A s.heap H locs) {hpc : Nat} (hex : ex_in (Bundle.npeArmAtoms 8)) (hls : ls.size = nL) (hrest : (rest.map fun v => v.category).sum ≤ 8) (hRf : 7 < R.frames) (hRl : 10400 ≤ R.locals) (hRc : cells + 1 ≤ R.cells ∧ slots + 8 ≤ R.slots)
    (hop : ∀ T : State, T.heap = H → Stand p l e R s m args below meth c T locs cells slots → ∀ tg, Steps p.tables e below ((T.setTop (F0 m pc ls rest)).pushFrame (.throwNew "java/lang/NullPointerException" none none)) tg → Steps p.tables e below (T.setTop (F0 m pc ls st0)) tg)
    (hcat : xw_C p l e R s m args below meth c "java/lang/NullPointerException" (F0 m pc ls rest) hpc)
    (kk : ∀ (q : Nat) (H1 : Heap) (locs1 : List Loc), (∀ x, x < H.size → H1[x]? = H[x]?) → va_S A s.heap H1 locs1 → W p l e R s m args below meth c H1 locs1 (cells + 1) (slots + 8) Q (F0 m hpc ls [.ref q])) : W p l e R s m args below meth c H locs cells slots Q (F0 m pc ls st0) := by
  obtain ⟨X1, hl0, hT, hA, -⟩ := X0
  intro T hTh XS
  have hroom : 2 * (F0 m pc ls rest).monitorRoom + ((F0 m pc ls rest).stack.map fun v => v.category).sum ≤ 8 := lv_room hrest
  obtain ⟨U, locs1, q, ce, N1, N2, N3, N4, N5, N6, N7, N8, N9⟩ := xw_npe XS X1.1.1.1 (by rw [XS.admits.platform]; exact hl0) (hT.off hS.2.2) (ex_words X1 hT hex) (g := F0 m pc ls rest) rfl (hls.trans X1.1.1.2.2.1.symm) hRf (by omega) hRc.1 hRc.2
  obtain ⟨vm1, XV, hrun⟩ := hcat U locs1 _ _ q ce N1 N5 N6 N7 N8
  have hkept : ∀ x, x < H.size → (U.setVm vm1).heap[x]? = H[x]? := fun x hx => by rw [← hTh] at hx ⊢; exact N3 x hx
  have hz : s.heap.size ≤ H.size := hS.1
  have hS1 : va_S A s.heap (U.setVm vm1).heap locs1 := by
    refine ⟨Nat.le_trans hz (by have := N4; rw [hTh] at this; exact this), fun x a b => (hkept x (Nat.lt_of_lt_of_le a hz)).trans (hS.2.1 x a b), fun y hy => ?_⟩
    rcases N2 y hy with a | a
    · exact hS.2.2 y a
    · exact hA _ (Nat.le_trans hz (by rw [hTh] at a; exact a))
  obtain ⟨t, h1, h2⟩ := kk q (U.setVm vm1).heap locs1 hkept hS1 (U.setVm vm1) rfl XV
  exact ⟨t, hop T hTh XS t (N9 t (hrun t h1)), h2⟩
end XHAND
