/-! A CALLEE THROWS and doesn't catch: its contract, the call, the catch in the caller. -/
set_option maxRecDepth 100000
/-- the method y throws an object of the class cls; what was there stays as it was -/
def XT_ (l : Launch) (y : MethodName) (ws : List Cond) (rm : Room) (Pc : Array Value → State → Prop) (cls : String) (k n : Nat) : Prop :=
  MetFree l y (headSpec ws rm) Pc (fun _ _ _ _ _ => True) (fun a st o t => ∃ (q : Nat) (ce : Cell) (L : List Loc), o = .threw q ∧ st.WarmedH t.vm ∧ st.sameButNew ({ t with vm := st.vm } : State) L k n ∧ (∀ y ∈ L, st.heap.size ≤ y.base) ∧ (∀ x, x < st.heap.size → t.heap[x]? = st.heap[x]?) ∧ st.heap.size ≤ t.heap.size ∧ t.heap[q]? = some ce ∧ ce.vm = .none ∧ st.vm.findClass cls = some ce.cls)
section XCALLT
variable {p : Program} {l : Launch} {e : Env} {R : Room} {s : State} {m : MethodId} {args : Array Value} {below : List Frame} {meth : Method} {c : Code} {locs : List Loc} {cells slots : Nat}
theorem tc_call {U : State} (X : Stand p l e R s m args below meth c U locs cells slots) {y : MethodName} {ws : List Cond} {rm : Room} {Pc : Array Value → State → Prop} {cls : String} {k n : Nat} {bytes : ByteArray} {maxL len : Nat} {ret : Option FieldType} (hM : XT_ l y ws rm Pc cls k n) (hblind : FrameBlind Pc) (hrc : rm.cells = k) (hrs : rm.slots = n) (hframes : rm.frames + 1 ≤ R.frames) (hlocals : 8 + (maxL + 11) + rm.locals ≤ R.locals)
    (hws : ∀ w ∈ ws, ∀ a' U, s.WarmedH U.vm → w.before a' U = true) (hcode : Cond.code y bytes maxL ret ∈ ws) (hinit : ∀ a' U, s.WarmedH U.vm → (Cond.initialized y.cls).before a' U = true) {g : JFrame} {ig : Instr} {mk : MethodId} {a : Array Value} (hg : g.method = m) (hsize : g.locals.size = c.maxLocals) (hdg : decode c.code g.pc = .ok (ig, len)) (hW : 2 * g.monitorRoom + (g.stack.map fun v => v.category).sum ≤ 8) (hn : U.methodNamed? y = some mk) (hc : cells + k ≤ R.cells) (hs : slots + n ≤ R.slots) (hP : Pc a U) (hX : ∃ c k, s.vm.findClass cls = some c ∧ s.vm.classes[c]? = some k) :
    ∃ V locs1 q ce, xw_N p l e R s m args below meth c U locs cls (doInvoke e (U.setTop g) [] mk a).1 g (cells + k) (slots + n) V locs1 q ce := by
  obtain ⟨methY, cY, hmY, hcY, -, hlY, -⟩ := Cond.code_spec hn (hws _ hcode a U X.warmed)
  obtain ⟨kY, hkY, -⟩ := className_of_methodNamed hn
  have hinitY : kY.init = .initialized := Cond.initialized_spec (findClass_of_methodNamed hn) hkY (hinit a U X.warmed)
  have h : At U g.method c below := by rw [hg]; exact X.here
  have happ : (headSpec ws rm).appliesLoose y e.platform (U.calling g mk a) = true :=
    Spec.appliesLoose_calling (g := g) h hdg hn hkY hinitY
      (X.room_calling (g := g) (R' := (headSpec ws rm).room) hsize hmY hcY hframes (by rw [hlY]; show _ + rm.locals ≤ _; omega) (by rw [show (headSpec ws rm).room.cells = k from hrc]; exact hc) (by rw [show (headSpec ws rm).room.slots = n from hrs]; exact hs)) (atoms_intro fun w hw => hws w hw _ _ X.warmed)
  obtain ⟨mid, hmid⟩ := h.above
  have hfr : (U.setTop g).frames = (.java g :: mid) ++ below := by rw [State.frames_setTop' g h.top, hmid]; rfl
  obtain ⟨o, s₂, hsteps, -, hend, hq⟩ := Steps.callFree hM p X.admits X.cas X.clock (acts := []) hfr happ (hblind _ _ _ _ hP) trivial
  obtain ⟨q, ce, L, rfl, hW₂, ⟨e2, q2, q3, q4, q5, q6⟩, hL, hk, hz, hat, hpl, hcl⟩ := hq
  rw [State.frames_setTop' g h.top] at hend
  have hf₂ : s₂.frames = .throwing q :: .java g :: U.frames.tail := hend
  have e2' : ({ s₂ with vm := (U.calling g mk a).vm } : State) = { (U.calling g mk a).setFrames s₂.frames with heap := s₂.heap, slotsUsed := s₂.slotsUsed } := e2
  have e3 : s₂ = ({ (U.calling g mk a).setFrames s₂.frames with heap := s₂.heap, slotsUsed := s₂.slotsUsed } : State).setVm s₂.vm := by
    have : s₂ = ({ s₂ with vm := (U.calling g mk a).vm } : State).setVm s₂.vm := rfl
    rw [e2'] at this
    exact this
  have hW' : U.WarmedH s₂.vm := hW₂
  obtain ⟨g₀, hg0⟩ := Option.isSome_iff_exists.mp h.top
  obtain ⟨r, hr⟩ := State.topJava?_eq_some.mp hg0
  have hs₂ : s₂ = ((({ U with heap := s₂.heap, slotsUsed := s₂.slotsUsed } : State).setVm s₂.vm).setTop g).pushFrame (.throwing q) := by
    have hr' : (({ U with heap := s₂.heap, slotsUsed := s₂.slotsUsed } : State).setVm s₂.vm).frames = .java g₀ :: r := hr
    refine e3.trans ?_
    rw [State.pushFrame, State.frames_setTop _ hr', hf₂, State.calling_eq h.top, State.setFrames_setFrames, State.setTop_of_frames _ hr', State.setFrames_setFrames, hr]
    rfl
  have hsame : U.sameButNew ({ U with heap := s₂.heap, slotsUsed := s₂.slotsUsed } : State) L k n := by
    refine ⟨?_, q2, q3, q4, q5, q6⟩
    obtain ⟨t, ht, -⟩ := State.frames_cons hr
    show ({ U with heap := s₂.heap, slotsUsed := s₂.slotsUsed } : State) = { U.setFrames U.frames with heap := s₂.heap, slotsUsed := s₂.slotsUsed }
    rw [State.setFrames_self ht]
  subst hg
  have hal := X.warmed.alike
  refine ⟨({ U with heap := s₂.heap, slotsUsed := s₂.slotsUsed } : State).setVm s₂.vm, locs ++ L, q, ce,
    ⟨X.admits, X.cas, X.clock, X.frames, X.room, X.hears, X.method, X.code, (X.here.setHeapUsed s₂.heap s₂.slotsUsed).setVm hW'.alike, X.tail, State.WarmedH.trans X.warmed hW', X.limits, X.bytes, X.same.trans (hsame.setVm s.vm)⟩, ?_, hk, hz, hat, hpl, ?_, ?_, ?_⟩
  · intro z hz1
    rcases List.mem_append.mp hz1 with h1 | h1
    · exact Or.inl h1
    · exact Or.inr (hL z h1)
  · have h1 : U.vm.findClass cls = some ce.cls := hcl
    rw [hal.findClass] at h1
    exact h1
  · obtain ⟨c9, k9, h1, h2⟩ := hX
    have h3 : U.vm.findClass cls = some ce.cls := hcl
    rw [hal.findClass] at h3
    cases h1.symm.trans h3
    exact ⟨k9, h2⟩
  · intro tg hr2
    rw [← hs₂] at hr2
    exact hsteps.trans hr2
end XCALLT
/-- the end of a method that throws -/
def TQ (below : List Frame) (cls : String) (s : State) (k n : Nat) : State → Prop := fun t => t.status = .running ∧ ∃ (q : Nat) (ce : Cell) (L : List Loc), Ended t below (.threw q) ∧ s.WarmedH t.vm ∧ s.sameButNew ({ t with vm := s.vm } : State) L k n ∧ (∀ y ∈ L, s.heap.size ≤ y.base) ∧ (∀ x, x < s.heap.size → t.heap[x]? = s.heap[x]?) ∧ s.heap.size ≤ t.heap.size ∧ t.heap[q]? = some ce ∧ ce.vm = .none ∧ s.vm.findClass cls = some ce.cls
section XCALLU
variable {p : Program} {l : Launch} {e : Env} {R : Room} {s : State} {m : MethodId} {args : Array Value} {below : List Frame} {meth : Method} {c : Code} {H : Heap} {locs : List Loc} {cells slots : Nat} {Q : State → Prop}
variable {cc : ByteArray} {pc nL : Nat} {ls : Array Slot} {rest st0 : List Value} {D : va_G} {A : Nat → Prop} {d : Nat → ClassId} {own : String} {ad : XK → Nat} {X : XS}
theorem x_startT {y : MethodName} {cy : ByteArray} {ny : Nat} {ret : Option FieldType} {rm : Room} {As : List Value} {cls : String} {k n : Nat} (hl0 : l.stackTraces = false) (own : String) (hyo : y.cls = own) (hy : plainName own = true) (hn : (lg_sl As).length ≤ ny)
    (body : ∀ (p : Program) (e : Env) (s : State) (m : MethodId) (av : Array Value) (below : List Frame) (meth : Method) (c : Code) (ls : Array Slot), xXt p l m c cy ny s av own D d A [] → meth.locks = false → lv_has ls ny (lv_args 0 As) → XR D d A ad X s.heap → W p l e rm s m av below meth c s.heap [] 0 0 (TQ below cls s k n) (F0 m 0 ls [])) : XT_ l y (ws_ y cy ny ret) rm (xPt D d A ad X As) cls k n := by
  refine MetFree.of_bodyS (code := cy) (maxLocals := ny) (ret := ret) (by rw [hyo]; exact hy) ?_ ?_
  · intro args s m h hn
    obtain ⟨meth, c, h1, h2, h3, h4, h5, h6, -, -⟩ := Cond.code_spec hn (atoms_spec (ws := ws_ y cy ny ret) h _ List.mem_cons_self)
    exact ⟨meth, c, h1, h2, h3, h4, h5, h6⟩
  intro p e s m args below meth c s₁ B hml hv _
  obtain ⟨rfl, hR, hK, hE, hA, hT⟩ := hv
  have hts := atoms_spec (ws := ws_ y cy ny ret) B.pre
  obtain ⟨meth9, c9, q2, q3, -, -, -, -, q4, -⟩ := Cond.code_spec B.named (hts _ List.mem_cons_self)
  have XB : Stand p l e _ s m _ below meth c s₁ [] 0 0 := Stand.of_body B
  cases XB.method.symm.trans q2
  cases XB.code.symm.trans q3
  have htab : c.exceptionTable.toList = [] := by
    rw [Array.isEmpty_iff] at q4
    rw [q4]
  have hl := lv_entry As (n := ny) hn
  have ho : s.vm.findClass y.cls = some m.cls := findClass_of_methodNamed B.named
  rw [hyo] at ho
  have hh0 : s₁.heap = s.heap := by rw [B.state]; rfl
  rw [lg_entry_eq]
  obtain ⟨t, a1, a2, q, ce, L, a3, a4⟩ := body p e s m _ below meth c _ ⟨⟨⟨⟨B.exec, B.bytes, hml, ho, fun w h => hts w (List.mem_cons_of_mem _ h)⟩, hK⟩, hE⟩, hl0, hT, hA, htab⟩ B.notSynchronized hl hR s₁ hh0 XB
  exact ⟨t, .threw q, a1, a2, a3, q, ce, L, rfl, a4⟩
/-- an exception with a message is thrown and not caught here -/
theorem x_thU (X0 : xXt p l m c cc nL s args own D d A []) (hlk : meth.locks = false) {cls : String} {names : List String} {text : String} {N : Nat} (hex : ex_in (Bundle.messageArmAtoms cls names)) (hc : Bundle.fit cls = true ∧ (∀ n ∈ names, Bundle.fit n = true) ∧ (cls == "java/lang/StackOverflowError") = false ∧ (cls == "java/lang/OutOfMemoryError") = false) (htx : tx_ text N) (hN : N ≤ 100000) (hls : ls.size = nL) (hrest : (rest.map fun v => v.category).sum ≤ 8) (hRf : names.length + 4 < R.frames ∧ names.length ≤ 100) (hRl : 10400 ≤ R.locals) (hRc : 3 ≤ R.cells ∧ N + 10 ≤ R.slots)
    (hop : ∀ T : State, T.heap = s.heap → Stand p l e R s m args below meth c T [] 0 0 → ∀ tg, Steps p.tables e below ((T.setTop (F0 m pc ls rest)).pushFrame (.throwNew cls (some text) none)) tg → Steps p.tables e below (T.setTop (F0 m pc ls st0)) tg) : W p l e R s m args below meth c s.heap [] 0 0 (TQ below cls s 3 (N + 10)) (F0 m pc ls st0) := by
  obtain ⟨X1, hl0, hT, hA, htab⟩ := X0
  intro T hTh XS
  have hroom : 2 * (F0 m pc ls rest).monitorRoom + ((F0 m pc ls rest).stack.map fun v => v.category).sum ≤ 8 := lv_room hrest
  obtain ⟨U, locs1, q, ce, N1, N2, N3, N4, N5, N6, N7, N8, N9⟩ := xw_msg XS X1.1.1.1 (by rw [XS.admits.platform]; exact hl0) (fun _ _ _ _ _ _ _ h => by cases h) hc.1 hc.2.1 hc.2.2.1 hc.2.2.2 (ex_words X1 hT hex) htx hN (g := F0 m pc ls rest) rfl (hls.trans X1.1.1.2.2.1.symm) hRf.1 (by omega) (by omega) (by omega) (by omega)
  obtain ⟨hwalk, hrun, hend, hwarm, hsame⟩ := N1.leaveThrown q (g := F0 m pc ls rest) rfl rfl rfl (fun x hx => by rw [htab] at hx; cases hx) hlk
  rw [hTh] at N2 N3 N4
  refine ⟨_, hop T hTh XS _ (N9 _ hwalk), hrun, q, ce, locs1, hend, hwarm, ?_, fun y hy => (N2 y hy).resolve_left (fun h => by cases h), N3, N4, N5, N6, N7⟩
  simpa using hsame
theorem x_preVt (X1 : xX p m c cc nL s args own D d) (hT : xTS A s) (hA : ∀ q, s.heap.size ≤ q → A q) (hS : va_S A s.heap H locs) (hR : XR D d A ad X H) {k : XK} (hlv : x_live X k) {ci : Nat} {fs : List Value} (hC : x_C d ad X k = .inr (ci, fs)) {q : vw_C} (hc : vwCl[ci]? = some q) {As : List Value} : PreV s H q.1 (ad k) (xPt D d A ad X (.ref (ad k) :: As)) As := by
  refine ⟨xt_blind, ?_, fun U hU hW => ⟨rfl, by rw [hU]; exact hR, va_K.moved hW.alike X1.1.2, X1.2.moved hW, fun q h => hA q (Nat.le_trans hS.1 (by rw [hU] at h; exact h)), hT.moved hW.alike (fun x h1 h2 => by rw [hU]; exact hS.2.1 x h1 h2)⟩⟩
  have hP := hR.one hlv
  rw [hC] at hP
  exact va_recv X1.1.2 hP hc (q0 := 0) rfl
/-- a virtual call throws; the exception is caught here -/
theorem x_tcO {hh : List (Nat × Nat × Nat × Nat)} (X0 : xXt p l m c cc nL s args own D d A hh) (hS : va_S A s.heap H locs) (hR : XR D d A ad X H) {k : XK} (hlv : x_live X k) {ci : Nat} {fs : List Value} (hC : x_C d ad X k = .inr (ci, fs)) {q : vw_C} (hc : vwCl[ci]? = some q) {x y : MethodName} {cy : ByteArray} {ny : Nat} {ret : Option FieldType} {rm : Room} {As : List Value} {cls : String} {mc ms hpc : Nat}
    (hM : XT_ l y (ws_ y cy ny ret) rm (xPt D d A ad X (.ref (ad k) :: As)) cls mc ms) (hX : Cond.initialized cls ∈ lw_all) (n : Nat) {idx : Nat} {b0 : ByteArray} {m0 : Nat} {r0 : Option FieldType} (h0 : Cond.code x b0 m0 r0 ∈ lw_all)
    (h1 : Cond.methodLink own idx x ∈ lw_all) (h2 : Cond.sameMethod x.cls x.cls x.name x.desc ∈ lw_all) (h3 : Cond.instanceMethod x ∈ lw_all) (h4 : Cond.selects q.1 x y ∈ lw_all) (h5 : Cond.instanceMethod y ∈ lw_all) (h6 : Cond.initialized y.cls ∈ lw_all) (h7 : Cond.code y cy ny ret ∈ lw_all) (hrc : rm.cells = mc ∧ rm.slots = ms) (hd : x.cls ≠ "java/lang/invoke/MethodHandle" ∧ x.cls ≠ "java/lang/invoke/VarHandle" ∧ (parseMethodDescriptor x.desc).map (fun d => d.parameters.length) = some n) (hRm : rm.frames + 1 ≤ R.frames ∧ 8 + (ny + 11) + rm.locals ≤ R.locals) (hcs : cells + mc ≤ R.cells ∧ slots + ms ≤ R.slots) (hn : As.length = n) (hl : ls.size = nL) (hst : st0 = As.reverse ++ .ref (ad k) :: rest) (hrm : (rest.map fun v => v.category).sum ≤ 8) (hdg : decode cc pc = .ok (.invokevirtual idx, 3))
    (hcat : xw_C p l e R s m args below meth c cls (F0 m pc ls rest) hpc)
    (kk : ∀ (q : Nat) (H1 : Heap) (locs1 : List Loc), (∀ x, x < H.size → H1[x]? = H[x]?) → va_S A s.heap H1 locs1 → W p l e R s m args below meth c H1 locs1 (cells + mc) (slots + ms) Q (F0 m hpc ls [.ref q])) : W p l e R s m args below meth c H locs cells slots Q (F0 m pc ls st0) := by
  obtain ⟨X1, hl0, hT, hA, -⟩ := X0
  have cw : va_CU R s args own q.1 x.cls idx x y cy ny ret (ws_ y cy ny ret) rm mc ms n := va_cwO (owner := x.cls) n X1.1.1.2.2.2.2 (lw_app (fun w hw => by
    simp only [List.mem_cons, List.not_mem_nil, or_false] at hw
    rcases hw with e | e | e | e | e | e <;> rw [e] <;> assumption) (lw_meth h7)) rfl hrc.1 hrc.2 h0 hd hRm
  obtain ⟨hbl, ⟨cellB, hcB, hoB, hclB⟩, hPc⟩ := x_preVt X1 hT hA hS hR hlv hC hc (As := As)
  obtain ⟨hx, hb, hml, hown, hts⟩ := X1.1.1
  intro T hTh XS
  obtain ⟨r1, r, hn1, hrm1, hstR, hsigR⟩ := cw.decl
  obtain ⟨cn, ck, r2, hcn, hck, hni, hf, hn2⟩ := Cond.sameMethod_found cw.same
  cases hn1.symm.trans hn2
  obtain ⟨mk, methM, hnamed, hmethM, -, habM⟩ := Cond.instanceMethod_spec cw.inst
  obtain ⟨c2, r3, m2, q1, q2, q3, q4, kP, hkP, hkPi⟩ := Cond.selects_spec cw.sel
  cases hclB.symm.trans q1
  cases hf.symm.trans q2
  cases hnamed.symm.trans q3
  have hselP : selectMethod e.platform s.vm cellB.cls r1 = .method mk := by rw [Launch.admits_selectMethod XS.admits]; exact q4
  obtain ⟨vm₁, X₁, hstep₁⟩ := XS.invokevirtualUp hx hown cw.link cw.same cw.notMH hn1 hrm1 hstR (a := ad k) (cell := cellB) (by rw [hTh]; exact hcB)
    (fun z h => by rw [h] at hoB; cases hoB) hselP hmethM habM hkP hkPi (g := F0 m pc ls st0) rfl (argsL := As) (rest := rest) (hn.trans (cw.len _ hsigR)) hst (by rw [hb]; exact hdg)
  have hini := cw.init
  obtain ⟨c9, k9, w1, w2⟩ : ∃ c k, s.vm.findClass cls = some c ∧ s.vm.classes[c]? = some k := by
    have h9 := hts _ hX
    cases hfc : s.vm.findClass cls with
    | none => simp [Cond.before, Cond.holds, Cond.value, hfc] at h9
    | some c9 =>
      cases hkc : s.vm.classes[c9]? with
      | none => simp [Cond.before, Cond.holds, Cond.value, hfc, hkc] at h9
      | some k9 => exact ⟨c9, k9, rfl, hkc⟩
  obtain ⟨V, locs1, qq, ce, N1, N2, N3, N4, N5, N6, N7, N8, N9⟩ := tc_call X₁ hM hbl hrc.1 hrc.2 hRm.1 hRm.2 (pay_in hts (lw_meth h7)) (List.mem_cons_self) (fun a' U hW => word_at hW (Or.inl (by first | rfl | simp [Cond.onTables, Cond.keeps, Cond.steady])) hini) (g := F0 m pc ls rest) (a := (Value.ref (ad k) :: As).toArray) rfl (hl.trans hml.symm) (by rw [hb]; exact hdg) (lv_room hrm) (X₁.named hnamed) hcs.1 hcs.2 (hPc (T.setVm vm₁) hTh X₁.warmed) ⟨c9, k9, w1, w2⟩
  obtain ⟨vm2, XV, hrun⟩ := hcat V locs1 _ _ qq ce N1 N5 N6 N7 N8
  have hTh1 : (T.setVm vm₁).heap = H := hTh
  rw [hTh1] at N2 N3 N4
  have hkept : ∀ x, x < H.size → (V.setVm vm2).heap[x]? = H[x]? := N3
  have hS1 : va_S A s.heap (V.setVm vm2).heap locs1 := by
    refine ⟨Nat.le_trans hS.1 N4, fun x a b => (hkept x (Nat.lt_of_lt_of_le a hS.1)).trans (hS.2.1 x a b), fun y hy => ?_⟩
    rcases N2 y hy with a | a
    · exact hS.2.2 y a
    · exact hA _ (Nat.le_trans hS.1 a)
  obtain ⟨t, t1, t2⟩ := kk qq (V.setVm vm2).heap locs1 hkept hS1 (V.setVm vm2) rfl XV
  exact ⟨t, hstep₁ _ fun acts => by rw [doInvoke_state]; exact N9 t (hrun t t1), t2⟩
end XCALLU
