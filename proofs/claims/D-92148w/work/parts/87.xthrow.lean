/-! EXCEPTIONS that the machine makes, caught in the same frame (a launch without stack traces). -/
set_option maxRecDepth 100000
/-- a text is told of as it is, and is short -/
def tx_ (t : String) (N : Nat) : Prop := (t == notModelled) = false ∧ (stringBytes (stringToUtf16 t)).size ≤ N
theorem tx_of {t : String} {N : Nat} {ch : Char} {r : List Char} (h : t.toList = ch :: r) (hc : ch ≠ '\u0000') (hn : 4 * (r.length + 1) ≤ N) : tx_ t N := by
  refine ⟨?_, ?_⟩
  · rw [beq_eq_false_iff_ne]
    intro q
    rw [q, show notModelled.toList = '\u0000' :: " a message that is not modelled".toList from by decide] at h
    exact hc (List.cons.inj h).1.symm
  · have b1 := stringBytes_size_le (stringToUtf16 t)
    have b2 := utf16_size_le t
    rw [h, List.length_cons] at b2
    omega
section XTHROW
variable {p : Program} {l : Launch} {e : Env} {R : Room} {s : State} {m : MethodId} {args : Array Value} {below : List Frame} {meth : Method} {c : Code} {T : State} {locs : List Loc} {cells slots : Nat}
theorem xw_push (X : Stand p l e R s m args below meth c T locs cells slots) (g : JFrame) (f : Frame) : (T.setTop g).pushFrame f = T.setFrames (f :: .java g :: below) := by
  obtain ⟨g1, h1⟩ := X.frames_eq
  rw [State.pushFrame, State.frames_setTop _ h1, State.setTop_of_frames _ h1, State.setFrames_setFrames]
/-- the exception stands over the frame: its class, its cell -/
def xw_N (p : Program) (l : Launch) (e : Env) (R : Room) (s : State) (m : MethodId) (args : Array Value) (below : List Frame) (meth : Method) (c : Code) (T : State) (locs : List Loc) (cls : String) (S0 : State) (g : JFrame) (k n : Nat) (U : State) (locs1 : List Loc) (q : Nat) (ce : Cell) : Prop :=
  Stand p l e R s m args below meth c U locs1 k n ∧ (∀ y ∈ locs1, y ∈ locs ∨ T.heap.size ≤ y.base) ∧ (∀ x, x < T.heap.size → U.heap[x]? = T.heap[x]?) ∧ T.heap.size ≤ U.heap.size ∧ U.heap[q]? = some ce ∧ ce.vm = .none ∧ s.vm.findClass cls = some ce.cls ∧ (∃ kX, s.vm.classes[ce.cls]? = some kX) ∧ ∀ tg, Steps p.tables e below ((U.setTop g).pushFrame (.throwing q)) tg → Steps p.tables e below S0 tg
set_option maxHeartbeats 1000000 in
/-- an exception with a message -/
theorem xw_msg (X : Stand p l e R s m args below meth c T locs cells slots) (hexec : p.tables.exec = Jvm.exec) (htr : e.platform.stackTraces = false) (hst : ∀ (aS : Nat) (ct : ClassId) (k : Class), s.vm.findClass Bundle.tN = some ct → s.vm.classes[ct]? = some k → k.statics = some aS → ∀ y ∈ locs, y.base ≠ aS) {cls : String} {names : List String} {text : String}
    (hcls : Bundle.fit cls = true) (hnames : ∀ n ∈ names, Bundle.fit n = true) (hsoe : (cls == "java/lang/StackOverflowError") = false) (hoom : (cls == "java/lang/OutOfMemoryError") = false)
    (h : ∀ a ∈ Bundle.messageArmAtoms cls names, a.before args s = true) {N : Nat} (htx : tx_ text N) (hN : N ≤ 100000)
    {g : JFrame} (hg : g.method = m) (hsize : g.locals.size = c.maxLocals)
    (hRf : names.length + 4 < R.frames) (hRl : 2 * g.monitorRoom + (g.stack.map fun v => v.category).sum + 10240 ≤ R.locals) (hsh : 13 * names.length + 55 ≤ 10240)
    (hRc : cells + 3 ≤ R.cells) (hRs : slots + (N + 10) ≤ R.slots) :
    ∃ U locs1 q ce, xw_N p l e R s m args below meth c T locs cls ((T.setTop g).pushFrame (.throwNew cls (some text) none)) g (cells + 3) (slots + (N + 10)) U locs1 q ce := by
  have howns : e.platform.frameOwnsMonitors = true := by rw [X.admits.platform]
  have hfin : e.platform.finalization = false := by rw [X.admits.platform]
  have hpl : e.platform.magicAccessors = ({} : Platform).magicAccessors := by rw [X.admits.platform]
  have a : ∀ x, x ∈ Bundle.messageArmAtoms cls names → x.holds args s none s [] = true := fun x hx => h x hx
  obtain ⟨K, Z0, L, -, Y⟩ := ThrowableC.of_atoms (args := args) howns hfin hpl (fun x hx => h x (by simp [Bundle.messageArmAtoms, hx]))
  obtain ⟨Z, M, LZ, LM, hnZ⟩ := Init0T.ofS_atoms (args := args) hpl L Y (fun x hx => h x (by simp [Bundle.messageArmAtoms, hx]))
  obtain ⟨P1, Ps, hlen, L1, hL, hP1m, hlink1, hlink⟩ := Bundle.chainS (args := args) hpl hnZ names cls hcls hnames (fun x hx => h x (by simp [Bundle.messageArmAtoms, hx]))
  obtain ⟨Zs, LZs, hn4, hfitv, hfitc⟩ := StringT.of_atoms (args := args) (fun x hx => h x (by simp [Bundle.messageArmAtoms, hx]))
  have hfound : s.vm.findClass cls = some P1.m.cls := findClass_of_methodNamed hP1m
  obtain ⟨c1, kX, hc1, hk, hord, -, -, hn6⟩ := Cond.instantiable_spec (a (.instantiable cls 6) (by simp [Bundle.messageArmAtoms]))
  cases Option.some.inj (hc1.symm.trans hfound)
  have hinit := Cond.initialized_spec hfound hk (a (.initialized cls) (by simp [Bundle.messageArmAtoms]))
  have hctor : kX.findMethod "<init>" "(Ljava/lang/String;)V" = some P1.m.idx := findMethod_of_methodNamed hP1m hk
  have hsel0 : selectMethod e.platform s.vm P1.m.cls K.fill0 = .method K.fill0 := by
    obtain ⟨c2, r2, m2, q1, q2, q3, q4, -⟩ := Cond.selects_spec (a (.selects cls Bundle.tFill0 Bundle.tFill0) (by simp [Bundle.messageArmAtoms]))
    cases Option.some.inj (q1.symm.trans hfound)
    cases Option.some.inj (q2.symm.trans (State.methodFound?_of_named Y.fill0 (by decide)))
    cases Option.some.inj (q3.symm.trans Y.fill0)
    rw [Launch.admits_selectMethod X.admits]; exact q4
  have hselF : selectMethod e.platform s.vm P1.m.cls K.fill = .method K.fill := by
    obtain ⟨c2, r2, m2, q1, q2, q3, q4, -⟩ := Cond.selects_spec (a (.selects cls Bundle.tFill Bundle.tFill) (by simp [Bundle.messageArmAtoms]))
    cases Option.some.inj (q1.symm.trans hfound)
    cases Option.some.inj (q2.symm.trans (State.methodFound?_of_named Y.fill (by decide)))
    cases Option.some.inj (q3.symm.trans Y.fill)
    rw [Launch.admits_selectMethod X.admits]; exact q4
  obtain ⟨cellS0, hcS0, hiss⟩ := Y.statics
  obtain ⟨u0, hu0⟩ := Cond.staticRefV Y.unassigned L.unassignedStatic L.statics hcS0 hiss (a (.isRef (.static Bundle.tN "UNASSIGNED_STACK" Bundle.steD)) (by simp [Bundle.messageArmAtoms]))
  obtain ⟨sen, hsen⟩ := Cond.staticRefV Y.sentinel L.sentinelStatic L.statics hcS0 hiss (a (.isRef (.static Bundle.tN "SUPPRESSED_SENTINEL" Bundle.listD)) (by simp [Bundle.messageArmAtoms]))
  obtain ⟨ci198, i198, fB, hk198, hg198, ha198, hsB, -, hnB, htB, hffB⟩ := Cond.ownField (t := .object "java/lang/Object") Y.found L.cls (by decide +kernel) (a (.fieldLink Bundle.tN 198 Bundle.tN "backtrace" "Ljava/lang/Object;") (by simp [Bundle.messageArmAtoms])) (a (.lays Bundle.tN Bundle.tN "backtrace" "Ljava/lang/Object;") (by simp [Bundle.messageArmAtoms])) e.platform hpl
  obtain ⟨cellS, hcellS, heS, -, hkeep⟩ := X.same.2.2.2.2.2 K.aS cellS0 hcS0
  have hcellS : T.heap[K.aS]? = some cellS := hcellS
  have hknownS : cellS.vm ≠ .unknown := by
    rw [heS]; intro hu
    rw [show cellS0.vm = .unknown from hu] at hiss
    cases hiss
  obtain ⟨iM, hffM⟩ := Y.msg
  obtain ⟨tyC, dC, hdC, hdnC⟩ := Cond.laysAt hfound hk Y.cause (a (.lays cls Bundle.tN "cause" "Ljava/lang/Throwable;") (by simp [Bundle.messageArmAtoms]))
  obtain ⟨tyS, dS, hdS, hdnS⟩ := Cond.laysAt hfound hk Y.stack (a (.lays cls Bundle.tN "stackTrace" Bundle.steD) (by simp [Bundle.messageArmAtoms]))
  obtain ⟨tyP, dP, hdP, hdnP⟩ := Cond.laysAt hfound hk Y.supp (a (.lays cls Bundle.tN "suppressedExceptions" Bundle.listD) (by simp [Bundle.messageArmAtoms]))
  obtain ⟨tyM, dM, hdM, hdnM⟩ := Cond.laysAt hfound hk hffM (a (.lays cls Bundle.tN "detailMessage" "Ljava/lang/String;") (by simp [Bundle.messageArmAtoms]))
  obtain ⟨tyB, dB, hdB, hdnB⟩ := Cond.laysAt hfound hk hffB (a (.lays cls Bundle.tN "backtrace" "Ljava/lang/Object;") (by simp [Bundle.messageArmAtoms]))
  have bC := Cond.laysApart hdB hdC hdnB hdnC (by rw [hnB, Y.causeName]; decide)
  have bS := Cond.laysApart hdB hdS hdnB hdnS (by rw [hnB, Y.stackName]; decide)
  have bP := Cond.laysApart hdB hdP hdnB hdnP (by rw [hnB, Y.suppName]; decide)
  have hskip : SkipFacts K e.platform s (fun u => u) u0 ((preparedCellV K.toThrowableT (freshCell P1.m.cls kX) (T.heap.size + 2) u0 sen).withEntry T.cur) :=
    ⟨{ ci198 := ci198, i198 := i198, fBack := fB }, ⟨hk198, hg198, ha198, hsB⟩, by
      have := fresh_default (c := P1.m.cls) tyB
      rw [htB] at this
      simpa [preparedCellV, Cell.setSlot, Cell.withEntry, Array.getElem?_setIfInBounds, bC, bS, bP, bC.symm, bS.symm, bP.symm, defaultValue] using this, fun _ _ => rfl⟩
  have hat : At T g.method c below := by rw [hg]; exact X.here
  obtain ⟨hbeyond, hfreeW⟩ := X.vmMayThrow hsize (.throwNew cls (some text) none) (fun f hf => by cases hf) rfl hRl
  have hfr : T.frames.length + Ps.length + 4 < (e.platform.stackLimits T.me).1 := by have := X.framesAbove hRf; omega
  have hwd : (stackUse (.java g :: T.frames.tail)).2 + 13 * Ps.length + 55 ≤ (e.platform.stackLimits T.me).2 := by have := X.stackAbove hsize (K := 13 * Ps.length + 55) (by omega); omega
  have hsl : T.slotsUsed + (stringBytes (stringToUtf16 text)).size + Zs.kS.instanceTypes.size + kX.instanceTypes.size ≤ e.platform.maxSlots := by
    have := X.slotsAbove hRs
    have := htx.2
    rw [hn4, hn6]
    omega
  obtain ⟨vm1, hW1, st⟩ := Steps.vmThrowsMessageColdByV p (s₀ := s) (S := T) (g := g) hat hexec K L Z LZ M LM X.warmed (t := T.cur) rfl Zs LZs P1 L1 Ps hL hlink1 hlink hsoe hoom hfound hk hinit hord hctor
    (Launch.admits_hotImplicitExceptions X.admits) hbeyond hfreeW htx.1 (by rw [Launch.admits_arrayLengthLimit X.admits]; have := htx.2; omega) (by rw [Launch.admits_maxHeapBytes X.admits]; have := htx.2; simp only [componentBytes]; omega) (X.cellsAbove hRc) hsl (hfitv _) (hfitc _)
    (Nn := fun u => u) heapOnly_id (fun _ _ => rfl) (fun _ => rfl) (fun u x y => setCell_twice _ _ _ _) (fun _ => Nat.le_refl _) (cN := ((preparedCellV K.toThrowableT (freshCell P1.m.cls kX) (T.heap.size + 2) u0 sen).withEntry T.cur))
    hsel0 hcellS hknownS (by rw [hkeep _ (fun hm => hst _ _ _ Y.found L.cls L.statics _ hm rfl)]; exact hu0) (Takes.of_laid hk hord tyS (by rw [Y.stackType]; exact fits_refV_array _ u0)) (fun _ hu => hu) (fun _ hu => hu) rfl rfl rfl (by simp [preparedCellV, Cell.setSlot, Cell.withEntry]) hskip
    (fun _ _ hA hW _ hroom _ hrest => L.nativeOff p htr hA hW hroom hrest) hselF (by rw [hkeep _ (fun hm => hst _ _ _ Y.found L.cls L.statics _ hm rfl)]; exact hsen)
    (Takes.of_laid hk hord tyC (by rw [Y.causeType]; rfl)) (Takes.of_laid hk hord tyP (by rw [Y.suppType]; exact fits_refV_object _ sen)) (Takes.of_laid hk hord tyM (by rw [Y.msgType]; rfl)) Y.objLocals rfl hfr hwd
  rw [plainBareV_eq K.toThrowableT (T.heap.size + 2) u0 sen (.ref (T.heap.size + 1)) T.cur rfl rfl] at st
  obtain ⟨-, -, w3, w4, w5, -, -⟩ := withThrown_facts e.platform T Zs text P1.m.cls kX
  have X3 := ((X.pushed (bytesOf Zs.cB (stringToUtf16 text))).pushed (stringAt Zs.cS Zs.kS Zs.fv Zs.fc (stringToUtf16 text) T.heap.size)).pushed (freshCell P1.m.cls kX)
  rw [← withString_eq] at X3
  have X4 := X3.noted hW1
  have ha : (T.heap.size + 2) < ((withThrown T Zs text P1.m.cls kX).setVm vm1).heap.size := by show _ < (withThrown T Zs text P1.m.cls kX).heap.size; rw [w3]; omega
  have hcell : ((withThrown T Zs text P1.m.cls kX).setVm vm1).heap[(T.heap.size + 2)]? = some (freshCell P1.m.cls kX) := w4
  have X5 := ((((X4.stored hcell K.fCause.slot (.ref (T.heap.size + 2))).storedAgain ha K.fStack.slot u0.v).storedAgain ha K.fSupp.slot sen.v).storedAgain ha K.fStack.slot u0.v).storedAgain ha K.fMsg.slot (.ref (T.heap.size + 1))
  have b1 : (bytesOf Zs.cB (stringToUtf16 text)).slots.size = (stringBytes (stringToUtf16 text)).size := by
    rw [(Cell.writeAll_facts _ _).2.2]; simp [bytes0]
  have b2 : (stringAt Zs.cS Zs.kS Zs.fv Zs.fc (stringToUtf16 text) T.heap.size).slots.size = 4 := by simp [string0, Cell.setSlot, hn4]
  have b3 : (freshCell P1.m.cls kX).slots.size = 6 := by simp [hn6]
  have hU := heapAt_setCell_self (s := (withThrown T Zs text P1.m.cls kX).setVm vm1) (plainBareV K.toThrowableT (freshCell P1.m.cls kX) (T.heap.size + 2) u0 sen (.ref (T.heap.size + 1))) ha
  have hk0 : ∀ x, x < T.heap.size → (((withThrown T Zs text P1.m.cls kX).setVm vm1).setCell (T.heap.size + 2) (plainBareV K.toThrowableT (freshCell P1.m.cls kX) (T.heap.size + 2) u0 sen (.ref (T.heap.size + 1)))).heap[x]? = T.heap[x]? := fun x hx => by
    have hne : T.heap.size + 2 ≠ x := fun h => absurd hx (by rw [← h]; exact Nat.not_lt.mpr (Nat.le_add_right _ 2))
    rw [heapAt_setCell_ne _ hne]
    exact w5 x hx
  refine ⟨_, _, T.heap.size + 2, _, stand_widen X5 (by omega) (by rw [b1, b2, b3]; have := htx.2; omega), ?_, hk0, ?_, hU, rfl, hfound, ⟨kX, hk⟩, ?_⟩
  · intro y hy
    simp only [List.append_assoc, List.cons_append, List.nil_append, List.mem_append, List.mem_cons, List.not_mem_nil, or_false] at hy
    rcases hy with h1 | rfl | rfl | rfl | rfl | rfl
    · exact Or.inl h1
    all_goals exact Or.inr (Nat.le_add_right _ _)
  · refine Nat.le_of_lt (Nat.lt_of_lt_of_le (Nat.lt_add_of_pos_right (by decide : 0 < 2)) (Nat.le_of_lt (Array.getElem?_eq_some_iff.mp hU).1))
  · intro tg hr
    refine st tg ?_
    rw [X.tail, ← xw_push X5 g]
    exact hr
set_option maxHeartbeats 1000000 in
/-- a NullPointerException -/
theorem xw_npe (X : Stand p l e R s m args below meth c T locs cells slots) (hexec : p.tables.exec = Jvm.exec) (htr : e.platform.stackTraces = false) (hst : ∀ (aS : Nat) (ct : ClassId) (k : Class), s.vm.findClass Bundle.tN = some ct → s.vm.classes[ct]? = some k → k.statics = some aS → ∀ y ∈ locs, y.base ≠ aS)
    (h : ∀ a ∈ Bundle.npeArmAtoms 8, a.before args s = true) {g : JFrame} (hg : g.method = m) (hsize : g.locals.size = c.maxLocals)
    (hRf : 7 < R.frames) (hRl : 2 * g.monitorRoom + (g.stack.map fun v => v.category).sum + 10240 ≤ R.locals) (hRc : cells + 1 ≤ R.cells) (hRs : slots + 8 ≤ R.slots) :
    ∃ U locs1 q ce, xw_N p l e R s m args below meth c T locs Bundle.nN ((T.setTop g).pushFrame (.throwNew Bundle.nN none none)) g (cells + 1) (slots + 8) U locs1 q ce := by
  have howns : e.platform.frameOwnsMonitors = true := by rw [X.admits.platform]
  have hfin : e.platform.finalization = false := by rw [X.admits.platform]
  have hpl : e.platform.magicAccessors = ({} : Platform).magicAccessors := by rw [X.admits.platform]
  have hpl2 : e.platform.arrayCloneIsPublic = true := by rw [X.admits.platform]
  have a : ∀ x, x ∈ Bundle.npeArmAtoms 8 → x.holds args s none s [] = true := fun x hx => h x hx
  obtain ⟨K, Z, L, LZ, Y⟩ := ThrowableC.of_atoms (args := args) howns hfin hpl (fun x hx => h x (by simp [Bundle.npeArmAtoms, hx]))
  obtain ⟨N, LN, hcN, hnNF, hordN, hffS⟩ := NpeC.of_atoms (args := args) hpl hpl2 L Y (fun x hx => h x (by simp [Bundle.npeArmAtoms, hx]))
  obtain ⟨P1, L1, hP1m, hP1s⟩ := PassC.of_atoms (args := args) (s := s) hpl (X := Bundle.nN) (Y := Bundle.rN) (by decide) (by decide) LibCode.NullPointerException.Init0.at_0 LibCode.NullPointerException.Init0.at_1 LibCode.NullPointerException.Init0.at_4 (fun x hx => h x (by simp [Bundle.npeArmAtoms, hx]))
  obtain ⟨PR, LR, hPRm, hPRs⟩ := PassC.of_atoms (args := args) (s := s) hpl (X := Bundle.rN) (Y := Bundle.eN) (by decide) (by decide) LibCode.RuntimeException.Init0.at_0 LibCode.RuntimeException.Init0.at_1 LibCode.RuntimeException.Init0.at_4 (fun x hx => h x (by simp [Bundle.npeArmAtoms, hx]))
  obtain ⟨PE, LEx, hPEm, hPEs⟩ := PassC.of_atoms (args := args) (s := s) hpl (X := Bundle.eN) (Y := Bundle.tN) (by decide) (by decide) LibCode.Exception.Init0.at_0 LibCode.Exception.Init0.at_1 LibCode.Exception.Init0.at_4 (fun x hx => h x (by simp [Bundle.npeArmAtoms, hx]))
  have hfound : s.vm.findClass Bundle.nN = some P1.m.cls := findClass_of_methodNamed hP1m
  have ecls : N.cN = P1.m.cls := Option.some.inj (hcN.symm.trans hfound)
  have hk : s.vm.classes[P1.m.cls]? = some N.kN := by rw [← ecls]; exact LN.cls
  have hinit := Cond.initialized_spec hfound hk (a (.initialized Bundle.nN) (by simp [Bundle.npeArmAtoms]))
  have hctor : N.kN.findMethod "<init>" "()V" = some P1.m.idx := findMethod_of_methodNamed hP1m hk
  obtain ⟨c1, k1, hc1, hk1, -, -, -, hn⟩ := Cond.instantiable_spec (a (.instantiable Bundle.nN 8) (by simp [Bundle.npeArmAtoms]))
  cases Option.some.inj (hc1.symm.trans hfound)
  cases Option.some.inj (hk1.symm.trans hk)
  have hlink1 : P1.sup = PR.m := Option.some.inj (hP1s.symm.trans hPRm)
  have hlinkR : PR.sup = PE.m := Option.some.inj (hPRs.symm.trans hPEm)
  have hlinkE : PE.sup = Z.m K.toThrowableT := Option.some.inj (hPEs.symm.trans Y.init0)
  have hsel0 : selectMethod e.platform s.vm P1.m.cls K.fill0 = .method K.fill0 := by
    obtain ⟨c2, r2, m2, q1, q2, q3, q4, -⟩ := Cond.selects_spec (a (.selects Bundle.nN Bundle.tFill0 Bundle.tFill0) (by simp [Bundle.npeArmAtoms]))
    cases Option.some.inj (q1.symm.trans hfound)
    cases Option.some.inj (q2.symm.trans (State.methodFound?_of_named Y.fill0 (by decide)))
    cases Option.some.inj (q3.symm.trans Y.fill0)
    rw [Launch.admits_selectMethod X.admits]; exact q4
  have hselF : selectMethod e.platform s.vm P1.m.cls K.fill = .method N.fill := by
    obtain ⟨c2, r2, m2, q1, q2, q3, q4, -⟩ := Cond.selects_spec (a (.selects Bundle.nN Bundle.tFill Bundle.nFill) (by simp [Bundle.npeArmAtoms]))
    cases Option.some.inj (q1.symm.trans hfound)
    cases Option.some.inj (q2.symm.trans (State.methodFound?_of_named Y.fill (by decide)))
    cases Option.some.inj (q3.symm.trans hnNF)
    rw [Launch.admits_selectMethod X.admits]; exact q4
  obtain ⟨cellS0, hcS0, hiss⟩ := Y.statics
  obtain ⟨u0, hu0⟩ := Cond.staticRefV Y.unassigned L.unassignedStatic L.statics hcS0 hiss (a (.isRef (.static Bundle.tN "UNASSIGNED_STACK" Bundle.steD)) (by simp [Bundle.npeArmAtoms]))
  obtain ⟨sen, hsen⟩ := Cond.staticRefV Y.sentinel L.sentinelStatic L.statics hcS0 hiss (a (.isRef (.static Bundle.tN "SUPPRESSED_SENTINEL" Bundle.listD)) (by simp [Bundle.npeArmAtoms]))
  obtain ⟨ci198, i198, fB, hk198, hg198, ha198, hsB, -, hnB, htB, hffB⟩ := Cond.ownField (t := .object "java/lang/Object") Y.found L.cls (by decide +kernel) (a (.fieldLink Bundle.tN 198 Bundle.tN "backtrace" Bundle.objD) (by simp [Bundle.npeArmAtoms])) (a (.lays Bundle.tN Bundle.tN "backtrace" Bundle.objD) (by simp [Bundle.npeArmAtoms])) e.platform hpl
  obtain ⟨cellS, hcellS, heS, -, hkeep⟩ := X.same.2.2.2.2.2 K.aS cellS0 hcS0
  have hcellS : T.heap[K.aS]? = some cellS := hcellS
  have hknownS : cellS.vm ≠ .unknown := by
    rw [heS]; intro hu
    rw [show cellS0.vm = .unknown from hu] at hiss
    cases hiss
  obtain ⟨tyC, dC, hdC, hdnC⟩ := Cond.laysAt hfound hk Y.cause (a (.lays Bundle.nN Bundle.tN "cause" "Ljava/lang/Throwable;") (by simp [Bundle.npeArmAtoms]))
  obtain ⟨tyS, dS, hdS, hdnS⟩ := Cond.laysAt hfound hk Y.stack (a (.lays Bundle.nN Bundle.tN "stackTrace" Bundle.steD) (by simp [Bundle.npeArmAtoms]))
  obtain ⟨tyP, dP, hdP, hdnP⟩ := Cond.laysAt hfound hk Y.supp (a (.lays Bundle.nN Bundle.tN "suppressedExceptions" Bundle.listD) (by simp [Bundle.npeArmAtoms]))
  obtain ⟨tyX, dX, hdX, hdnX⟩ := Cond.laysAt hfound hk hffS (a (.lays Bundle.nN Bundle.nN "extendedMessageState" "I") (by simp [Bundle.npeArmAtoms, Bundle.npeAtoms]))
  have hnX : N.fState.name = "extendedMessageState" := (State.fieldFound?_type hffS (t := .int) (by decide +kernel)).1
  obtain ⟨tyB, dB, hdB, hdnB⟩ := Cond.laysAt hfound hk hffB (a (.lays Bundle.nN Bundle.tN "backtrace" Bundle.objD) (by simp [Bundle.npeArmAtoms]))
  have bC := Cond.laysApart hdB hdC hdnB hdnC (by rw [hnB, Y.causeName]; decide)
  have bS := Cond.laysApart hdB hdS hdnB hdnS (by rw [hnB, Y.stackName]; decide)
  have bP := Cond.laysApart hdB hdP hdnB hdnP (by rw [hnB, Y.suppName]; decide)
  have bX := Cond.laysApart hdB hdX hdnB hdnX (by rw [hnB, hnX]; decide)
  have hskip : SkipFacts K e.platform s (fun u => u) u0 ((npeCell N.toNpeT (preparedCellV K.toThrowableT (freshCell P1.m.cls N.kN) T.heap.size u0 sen) T.cur).withEntry T.cur) :=
    ⟨{ ci198 := ci198, i198 := i198, fBack := fB }, ⟨hk198, hg198, ha198, hsB⟩, by
      have := fresh_default (c := P1.m.cls) tyB
      rw [htB] at this
      simpa [npeCell, preparedCellV, Cell.setSlot, Cell.withEntry, Array.getElem?_setIfInBounds, bC, bS, bP, bX, bC.symm, bS.symm, bP.symm, bX.symm, defaultValue] using this, fun _ _ => rfl⟩
  have hat : At T g.method c below := by rw [hg]; exact X.here
  obtain ⟨hbeyond, hfreeW⟩ := X.vmMayThrow hsize (.throwNew Bundle.nN none none) (fun f hf => by cases hf) rfl hRl
  have hfr : T.frames.length + [PR, PE].length + 5 < (e.platform.stackLimits T.me).1 := by have := X.framesAbove hRf; show T.frames.length + 2 + 5 < _; omega
  have hwd : (stackUse (.java g :: T.frames.tail)).2 + 13 * [PR, PE].length + 68 ≤ (e.platform.stackLimits T.me).2 := by have := X.stackAbove hsize (K := 94) (by omega); show (stackUse (.java g :: T.frames.tail)).2 + 13 * 2 + 68 ≤ _; omega
  obtain ⟨vm1, hW1, st⟩ := Steps.vmThrowsNpeColdByV p (s₀ := s) (S := T) (g := g) hat hexec K L Z LZ N LN X.warmed (t := T.cur) rfl P1 L1 [PR, PE] (fun P hP => by
      simp only [List.mem_cons, List.not_mem_nil, or_false] at hP
      rcases hP with rfl | rfl
      · exact LR
      · exact LEx) hlink1 ⟨hlinkR, hlinkE, trivial⟩ hfound hk hinit hordN hctor
    (Launch.admits_hotImplicitExceptions X.admits) hbeyond hfreeW (X.cellsAbove hRc) (by rw [hn]; exact X.slotsAbove hRs)
    (Nn := fun u => u) heapOnly_id (fun _ _ => rfl) (fun _ => rfl) (fun u x y => setCell_twice _ _ _ _) (fun _ => Nat.le_refl _) (cN := ((npeCell N.toNpeT (preparedCellV K.toThrowableT (freshCell P1.m.cls N.kN) T.heap.size u0 sen) T.cur).withEntry T.cur))
    hsel0 hcellS hknownS (by rw [hkeep _ (fun hm => hst _ _ _ Y.found L.cls L.statics _ hm rfl)]; exact hu0) (by rw [fresh_default tyX, LN.stateInt]; rfl)
    (Cond.laysApart hdC hdX hdnC hdnX (by rw [Y.causeName, hnX]; decide)) (Cond.laysApart hdS hdX hdnS hdnX (by rw [Y.stackName, hnX]; decide)) (Cond.laysApart hdP hdX hdnP hdnX (by rw [Y.suppName, hnX]; decide))
    (Takes.of_laid hk hordN tyS (by rw [Y.stackType]; exact fits_refV_array _ u0)) (Takes.of_laid hk hordN tyX (by rw [LN.stateInt]; rfl)) (fun _ hu => hu) (fun _ hu => hu) rfl rfl rfl (by simp [npeCell, preparedCellV, Cell.setSlot, Cell.withEntry]) hskip
    (fun _ _ hA hW _ hroom _ hrest => L.nativeOff p htr hA hW hroom hrest) hselF (by rw [hkeep _ (fun hm => hst _ _ _ Y.found L.cls L.statics _ hm rfl)]; exact hsen)
    (Takes.of_laid hk hordN tyC (by rw [Y.causeType]; rfl)) (Takes.of_laid hk hordN tyP (by rw [Y.suppType]; exact fits_refV_object _ sen)) Y.objLocals rfl hfr hwd
  rw [npeBareV_eq K.toThrowableT N.toNpeT T.heap.size u0 sen T.cur rfl rfl] at st
  have X2 := (X.pushed (freshCell P1.m.cls N.kN)).noted hW1
  have hsz : ((T.pushCell (freshCell P1.m.cls N.kN)).setVm vm1).heap.size = T.heap.size + 1 := State.heap_size_pushCell _ _
  have ha : T.heap.size < ((T.pushCell (freshCell P1.m.cls N.kN)).setVm vm1).heap.size := by rw [hsz]; omega
  have hcell : ((T.pushCell (freshCell P1.m.cls N.kN)).setVm vm1).heap[T.heap.size]? = some (freshCell P1.m.cls N.kN) := State.heap_pushCell_size T (freshCell P1.m.cls N.kN)
  have X3 := ((((X2.stored hcell K.fCause.slot (.ref T.heap.size)).storedAgain ha K.fStack.slot u0.v).storedAgain ha K.fSupp.slot sen.v).storedAgain ha N.fState.slot (.int 1)).storedAgain ha K.fStack.slot u0.v
  have b3 : (freshCell P1.m.cls N.kN).slots.size = 8 := by simp [hn]
  have hU := heapAt_setCell_self (s := (T.pushCell (freshCell P1.m.cls N.kN)).setVm vm1) (npeBareV K.toThrowableT N.toNpeT (freshCell P1.m.cls N.kN) T.heap.size u0 sen) ha
  refine ⟨_, _, T.heap.size, _, stand_widen X3 (Nat.le_refl _) (by rw [b3]; omega), ?_, ?_, Nat.le_of_lt (Array.getElem?_eq_some_iff.mp hU).1, hU, rfl, hfound, ⟨_, hk⟩, ?_⟩
  · intro y hy
    simp only [List.append_assoc, List.cons_append, List.nil_append, List.mem_append, List.mem_cons, List.not_mem_nil, or_false] at hy
    rcases hy with h1 | rfl | rfl | rfl | rfl | rfl
    · exact Or.inl h1
    all_goals exact Or.inr (Nat.le_refl _)
  · intro x hx
    refine (heapAt_setCell_ne _ (Nat.ne_of_gt hx)).trans ?_
    show (T.pushCell _).heap[x]? = _
    simp [State.pushCell, Array.getElem?_push, Nat.ne_of_lt hx]
  · intro tg hr
    refine st tg ?_
    rw [X.tail, ← xw_push X3 g]
    exact hr
theorem xw_ent0 {u : State} {g : JFrame} {a : Addr} {x : ExceptionTableEntry} {r : List ExceptionTableEntry} {cT : ClassId} {cell : Cell} {Q : Handler → Pre} {E : CtlPost} {d : Bool} {acts : List Action} (hx : covers x g.pc = true) (h0 : x.catchType ≠ 0) (hl : u.vm.ClassLinks e.platform g.method.cls x.catchType cT) (hcell : u.heap[a]? = some cell) (hobj : ∀ k, cell.vm ≠ .statics k) (hk : ∃ k, u.vm.classes[cell.cls]? = some k) (hc : ∃ k, u.vm.classes[cT]? = some k) :
    wp (findHandler.go g a (x :: r)) Q E e d acts u ↔ if u.vm.assignable cell.cls cT = true then Q (.found x.handlerPc) d acts (u.setVm (u.vm.noted g.method.cls x.catchType (.cls cT))) else wp (findHandler.go g a r) Q E e d acts (u.setVm (u.vm.noted g.method.cls x.catchType (.cls cT))) := by
  simp only [covers] at hx
  obtain ⟨ha, ht⟩ := (resolveClass_links e.toSetting hl).op (op := VmOp.resolveClass g.method.cls x.catchType) rfl
  have hal : u.vm.Alike (u.vm.noted g.method.cls x.catchType (.cls cT)) := (Vm.Alike.refl u.vm).noted _ _ _
  obtain ⟨k1, hk1⟩ := hk
  obtain ⟨k2, hk2⟩ := hc
  obtain ⟨k1', hk1', -⟩ := hal.2.2 _ _ hk1
  obtain ⟨k2', hk2', -⟩ := hal.2.2 _ _ hk2
  by_cases hf : u.vm.assignable cell.cls cT = true
  · rw [if_pos hf]
    have hf' : (u.vm.noted g.method.cls x.catchType (.cls cT)).assignable cell.cls cT = true := by rw [hal.assignable]; exact hf
    simp [findHandler.go, hx, h0, ha, ht, hcell, hobj, hk1', hk2', hf', VmOp.dirties, VmOp.acts]
  · rw [if_neg hf]
    have hf' : (u.vm.noted g.method.cls x.catchType (.cls cT)).assignable cell.cls cT = false := by rw [hal.assignable]; simpa using hf
    simp [findHandler.go, hx, h0, ha, ht, hcell, hobj, hk1', hk2', hf', VmOp.dirties, VmOp.acts]
/-- one entry of the table of handlers, whose class may have to be resolved: it catches, or the search goes on -/
theorem xw_entry (X : Stand p l e R s m args below meth c T locs cells slots) (a : Addr) {g : JFrame} (hg : g.method = m) {own name : String} (hown : s.vm.findClass own = some m.cls) {x : ExceptionTableEntry} (hx : covers x g.pc = true) (h0 : x.catchType ≠ 0)
    (hlink : (Cond.classLink own x.catchType name).before args s = true) {cT : ClassId} {cell : Cell} (hcT : s.vm.findClass name = some cT) (hcell : T.heap[a]? = some cell) (hobj : cell.vm = .none) (hk : ∃ k, s.vm.classes[cell.cls]? = some k) :
    ∃ vm1, Stand p l e R s m args below meth c (T.setVm vm1) locs cells slots ∧ ∀ (r : List ExceptionTableEntry) (Q : Handler → Pre) (E : CtlPost) (d : Bool) (acts : List Action),
      wp (findHandler.go g a (x :: r)) Q E e d acts ((T.setTop g).pushFrame (.throwing a)) ↔ if s.vm.assignable cell.cls cT = true then Q (.found x.handlerPc) d acts (((T.setVm vm1).setTop g).pushFrame (.throwing a)) else wp (findHandler.go g a r) Q E e d acts (((T.setVm vm1).setTop g).pushFrame (.throwing a)) := by
  have hpl : e.platform.magicAccessors = ({} : Platform).magicAccessors := by rw [X.admits.platform]
  obtain ⟨c1, hc1, hcl⟩ := Cond.classLink_spec hown hlink e.platform hpl
  cases hcT.symm.trans hc1
  obtain ⟨dk, _, _, kt, hd, _, _, _, _, hkt, _, hopen⟩ := hcl.here
  have hcl0 := X.warmed.classLinks hcl
  have hW1 : s.WarmedH (T.vm.noted m.cls x.catchType (.cls cT)) := X.warmed.noted hd hopen (State.rightAt_cls hcl)
  have hal := X.warmed.alike
  obtain ⟨kt1, hkt1, -⟩ := hal.2.2 _ _ hkt
  obtain ⟨kc, hkc⟩ := hk
  obtain ⟨kc1, hkc1, -⟩ := hal.2.2 _ _ hkc
  refine ⟨_, X.noted hW1, fun r Q E d acts => ?_⟩
  subst hg
  have hv : ((T.setTop g).pushFrame (.throwing a)).vm = T.vm := Stand.throwing_vm T g a
  have hh : ((T.setTop g).pushFrame (.throwing a)).heap = T.heap := Stand.throwing_heap T g a
  have key := xw_ent0 (e := e) (u := (T.setTop g).pushFrame (.throwing a)) (a := a) (r := r) (cell := cell) (cT := cT) (Q := Q) (E := E) (d := d) (acts := acts) hx h0 (by rw [hv]; exact hcl0) (by rw [hh]; exact hcell) (fun k h => by rw [hobj] at h; cases h) (by rw [hv]; exact ⟨kc1, hkc1⟩) (by rw [hv]; exact ⟨kt1, hkt1⟩)
  rw [hv, hal.assignable] at key
  have e1 : ((T.setTop g).pushFrame (.throwing a)).setVm (T.vm.noted g.method.cls x.catchType (.cls cT)) = (((T.setVm (T.vm.noted g.method.cls x.catchType (.cls cT))).setTop g).pushFrame (.throwing a)) := by
    rw [xw_push X g (.throwing a), xw_push (X.noted hW1) g (.throwing a)]
    rfl
  rw [e1] at key
  exact key
/-- the search has found a handler: the walk goes on there -/
theorem xw_go (X : Stand p l e R s m args below meth c T locs cells slots) (a : Addr) {g : JFrame} (hg : g.method = m) {vm1 : Vm} {hpc : Nat}
    (hf : ∀ (Q : Handler → Pre) (E : CtlPost) (d : Bool) (acts : List Action), wp (findHandler.go g a c.exceptionTable.toList) Q E e d acts ((T.setTop g).pushFrame (.throwing a)) ↔ Q (.found hpc) d acts (((T.setVm vm1).setTop g).pushFrame (.throwing a))) {tg : State}
    (hr : Steps p.tables e below ((T.setVm vm1).setTop { g with pc := hpc, stack := [.ref a] }) tg) : Steps p.tables e below ((T.setTop g).pushFrame (.throwing a)) tg := by
  subst hg
  have hf1 : ∀ (Q : Handler → Pre) (E : CtlPost) (d : Bool) (acts : List Action), wp (findHandler g a) Q E e d acts ((T.setTop g).pushFrame (.throwing a)) ↔ Q (.found hpc) d acts (((T.setVm vm1).setTop g).pushFrame (.throwing a)) := by
    intro Q E d acts
    rw [W.findHandler_eq (meth := meth) (code := c) (by rw [Stand.throwing_vm]; exact X.method') X.code]
    exact hf Q E d acts
  obtain ⟨hgo, hw⟩ := At.throwing (g := g) X.here a
  refine Steps.head hgo hw ?_
  obtain ⟨g0, h0⟩ := X.frames_eq
  have hst : (stepThrowing e ((T.setTop g).pushFrame (.throwing a)) a (.java g :: below)).Is ((T.setVm vm1).setFrames (.java { g with pc := hpc, stack := [.ref a] } :: below)) [] := by
    simp only [stepThrowing, searchFrame, vmDo]
    generalize hq : Sem.go _ e false [] _ = res
    obtain ⟨as, rfl, h1⟩ := Sem.eq_ok_of hq (a := Handler.found hpc) (s' := ((T.setVm vm1).setTop g).pushFrame (.throwing a)) (acts' := []) (by simp [hf1 _ _ _ _])
    refine ⟨?_, h1⟩
    have h2 : (T.setVm vm1).frames = .java g0 :: below := h0
    show (((T.setVm vm1).setTop g).pushFrame (.throwing a)).setFrames _ = _
    rw [State.pushFrame, State.setTop_of_frames _ h2, State.setFrames_setFrames, State.setFrames_setFrames]
  rw [stepThread_throwing (frames_entered X.here.top _)]
  have h3 : T.frames.tail = below := by rw [h0]; rfl
  rw [h3, hst.1]
  have h2 : (T.setVm vm1).frames = .java g0 :: below := h0
  rw [State.setTop_of_frames _ h2] at hr
  exact hr
end XTHROW
