/-! THE CLASS: contracts and calls. -/
set_option maxRecDepth 100000
section XCALL
variable {p : Program} {l : Launch} {e : Env} {R : Room} {s : State} {m : MethodId} {args : Array Value} {below : List Frame} {meth : Method} {c : Code} {H : Heap} {locs : List Loc} {cells slots : Nat} {Q : State → Prop}
variable {cc : ByteArray} {pc nL : Nat} {ls : Array Slot} {rest st0 : List Value} {D : va_G} {A : Nat → Prop} {d : Nat → ClassId} {own : String} {ad : XK → Nat} {X : XS}
def xP (D : va_G) (d : Nat → ClassId) (A : Nat → Prop) (ad : XK → Nat) (X : XS) (av : List Value) : Array Value → State → Prop := va_Pc av (fun U => XR D d A ad X U.heap ∧ va_K D vwCl (dd_T d) U ∧ XE d U)
def xB (D : va_G) (d : Nat → ClassId) (A : Nat → Prop) (ad : XK → Nat) (u : XS) (t : State) : Prop := XR D d A ad u t.heap
/-- the class's method y, at the state X, answers F.1 and leaves F.2 -/
def XI (l : Launch) (y : MethodName) (cy : ByteArray) (ny : Nat) (ty : FieldType) (rm : Room) (D : va_G) (d : Nat → ClassId) (A : Nat → Prop) (ad : XK → Nat) (X : XS) (As : List Value) (F : Int32 × XS) : Prop := Met l y (ws_ y cy ny (some ty)) rm (xP D d A ad X As) (va_Qi (fun r u => (r, u) = F) (xB D d A ad) A) 0 0 A
def XL (l : Launch) (y : MethodName) (cy : ByteArray) (ny : Nat) (rm : Room) (D : va_G) (d : Nat → ClassId) (A : Nat → Prop) (ad : XK → Nat) (X : XS) (As : List Value) (F : Int64 × XS) : Prop := Met l y (ws_ y cy ny (some .long)) rm (xP D d A ad X As) (va_Ql (fun r u => (r, u) = F) (xB D d A ad) A) 0 0 A
def XV (l : Launch) (y : MethodName) (cy : ByteArray) (ny : Nat) (rm : Room) (D : va_G) (d : Nat → ClassId) (A : Nat → Prop) (ad : XK → Nat) (X : XS) (As : List Value) (F : XS) : Prop := Met l y (ws_ y cy ny none) rm (xP D d A ad X As) (va_Qv (fun u => u = F) (xB D d A ad) A) 0 0 A
theorem x_blind {As : List Value} : FrameBlind (xP D d A ad X As) := fun a' U g mk q => ⟨q.1, q.2.1, va_K.moved (u := U) (U := U.calling g mk a') (Vm.Alike.refl U.vm) q.2.2.1, XE.same (u := U) (U := U.calling g mk a') rfl q.2.2.2⟩
theorem x_preS (hK : va_K D vwCl (dd_T d) s) (hE : XE d s) (hR : XR D d A ad X H) {As : List Value} : PreS s H (xP D d A ad X As) As := ⟨x_blind, fun U hU hW => ⟨rfl, by rw [hU]; exact hR, va_K.moved hW.alike hK, hE.moved hW⟩⟩
theorem x_preV (hK : va_K D vwCl (dd_T d) s) (hE : XE d s) (hR : XR D d A ad X H) {k : XK} (hlv : x_live X k) {ci : Nat} {fs : List Value} (hC : x_C d ad X k = .inr (ci, fs)) {q : vw_C} (hc : vwCl[ci]? = some q) {As : List Value} : PreV s H q.1 (ad k) (xP D d A ad X (.ref (ad k) :: As)) As := by
  refine ⟨x_blind, ?_, fun U hU hW => ⟨rfl, by rw [hU]; exact hR, va_K.moved hW.alike hK, hE.moved hW⟩⟩
  have hP := hR.one hlv
  rw [hC] at hP
  exact va_recv hK hP hc (q0 := 0) rfl
/-- behind a call -/
theorem x_bi {F : Int32 × XS} {a : Array Value} (hS : va_S A s.heap H locs) (hr : va_Run p l e R s m args below meth c H locs cells slots 0 0 (F0 m pc ls st0) rest (va_Qi (fun r u => (r, u) = F) (xB D d A ad) A a) A)
    (kk : ∀ (H : Heap) (locs : List Loc), XR D d A ad F.2 H → va_S A s.heap H locs → W p l e R s m args below meth c H locs cells slots Q (F0 m (pc + 3) ls (.int F.1 :: rest))) : W p l e R s m args below meth c H locs cells slots Q (F0 m pc ls st0) := by
  refine va_calli hr hS (fun q _ h => h) (fun q h => h) fun r u t H1 locs1 ht hvm hw hB hz hk1 hS1 => ?_
  subst hw
  exact kk H1 locs1 (by rw [← ht]; exact hB) hS1
theorem x_bl {F : Int64 × XS} {a : Array Value} (hS : va_S A s.heap H locs) (hr : va_Run p l e R s m args below meth c H locs cells slots 0 0 (F0 m pc ls st0) rest (va_Ql (fun r u => (r, u) = F) (xB D d A ad) A a) A)
    (kk : ∀ (H : Heap) (locs : List Loc), XR D d A ad F.2 H → va_S A s.heap H locs → W p l e R s m args below meth c H locs cells slots Q (F0 m (pc + 3) ls (.long F.1 :: rest))) : W p l e R s m args below meth c H locs cells slots Q (F0 m pc ls st0) := by
  refine va_calll hr hS (fun q _ h => h) (fun q h => h) fun r u t H1 locs1 ht hvm hw hB hz hk1 hS1 => ?_
  subst hw
  exact kk H1 locs1 (by rw [← ht]; exact hB) hS1
theorem x_bv {F : XS} {a : Array Value} (hS : va_S A s.heap H locs) (hr : va_Run p l e R s m args below meth c H locs cells slots 0 0 (F0 m pc ls st0) rest (va_Qv (fun u => u = F) (xB D d A ad) A a) A)
    (kk : ∀ (H : Heap) (locs : List Loc), XR D d A ad F H → va_S A s.heap H locs → W p l e R s m args below meth c H locs cells slots Q (F0 m (pc + 3) ls rest)) : W p l e R s m args below meth c H locs cells slots Q (F0 m pc ls st0) := by
  refine va_callv hr hS (fun q _ h => h) (fun q h => h) fun u t H1 locs1 ht hvm hw hB hz hk1 hS1 => ?_
  subst hw
  exact kk H1 locs1 (by rw [← ht]; exact hB) hS1
/-- an instance method of the receiver's own class -/
theorem xr_V (X0 : xX p m c cc nL s args own D d) (hR : XR D d A ad X H) {k : XK} (hlv : x_live X k) {ci : Nat} {fs : List Value} (hC : x_C d ad X k = .inr (ci, fs)) {q : vw_C} (hc : vwCl[ci]? = some q) {y : MethodName} {cy : ByteArray} {ny : Nat} {ret : Option FieldType} {rm : Room} {As : List Value} {Qc : Array Value → State → Outcome → State → Prop} {mc ms : Nat} {free : Addr → Prop}
    (hM : Met l y (ws_ y cy ny ret) rm (xP D d A ad X (.ref (ad k) :: As)) Qc mc ms free) (n : Nat) {idx : Nat} (hG : GoodIn lw_all (wsV own idx q.1 y (ws_ y cy ny ret))) (hrc : rm.cells = mc ∧ rm.slots = ms) (hd : y.cls = q.1 ∧ y.cls ≠ "java/lang/invoke/MethodHandle" ∧ y.cls ≠ "java/lang/invoke/VarHandle" ∧ (parseMethodDescriptor y.desc).map (fun d => d.parameters.length) = some n) (hRm : rm.frames + 1 ≤ R.frames ∧ 8 + (ny + 11) + rm.locals ≤ R.locals) (hcs : cells + mc ≤ R.cells ∧ slots + ms ≤ R.slots) (hn : As.length = n) (hl : ls.size = nL) (hst : st0 = As.reverse ++ .ref (ad k) :: rest) (hrm : (rest.map fun v => v.category).sum ≤ 8) (hdg : decode cc pc = .ok (.invokevirtual idx, 3)) :
    va_Run p l e R s m args below meth c H locs cells slots mc ms (F0 m pc ls st0) rest (Qc (Value.ref (ad k) :: As).toArray) free :=
  va_runV (As := As) (rest := rest) X0.1.1 hM (cwV n X0.1.1.2.2.2.2 hG rfl hrc.1 hrc.2 hd hRm) (x_preV X0.1.2 X0.2 hR hlv hC hc) rfl hn hl hst (lv_room hrm) hdg hcs
/-- a static method -/
theorem xr_S (X0 : xX p m c cc nL s args own D d) (hR : XR D d A ad X H) {y : MethodName} {cy : ByteArray} {ny : Nat} {ret : Option FieldType} {rm : Room} {As : List Value} {Qc : Array Value → State → Outcome → State → Prop} {mc ms : Nat} {free : Addr → Prop}
    (hM : Met l y (ws_ y cy ny ret) rm (xP D d A ad X As) Qc mc ms free) (n : Nat) {idx : Nat} (hG : GoodIn lw_all (va_wsS own idx y (ws_ y cy ny ret))) (hrc : rm.cells = mc ∧ rm.slots = ms) (hd : y.cls ≠ "java/lang/invoke/MethodHandle" ∧ y.cls ≠ "java/lang/invoke/VarHandle" ∧ (parseMethodDescriptor y.desc).map (fun d => d.parameters.length) = some n) (hRm : rm.frames + 1 ≤ R.frames ∧ 8 + (ny + 11) + rm.locals ≤ R.locals) (hcs : cells + mc ≤ R.cells ∧ slots + ms ≤ R.slots) (hn : As.length = n) (hl : ls.size = nL) (hst : st0 = As.reverse ++ rest) (hrm : (rest.map fun v => v.category).sum ≤ 8) (hdg : decode cc pc = .ok (.invokestatic idx, 3)) :
    va_Run p l e R s m args below meth c H locs cells slots mc ms (F0 m pc ls st0) rest (Qc As.toArray) free :=
  va_runS (As := As) (rest := rest) X0.1.1 hM (va_cwS n X0.1.1.2.2.2.2 hG rfl hrc.1 hrc.2 hd hRm) (x_preS X0.1.2 X0.2 hR) rfl hn hl hst (lv_room hrm) hdg hcs
/-- a virtual method x that the receiver's class may have anew (y) -/
theorem xr_O (X0 : xX p m c cc nL s args own D d) (hR : XR D d A ad X H) {k : XK} (hlv : x_live X k) {ci : Nat} {fs : List Value} (hC : x_C d ad X k = .inr (ci, fs)) {q : vw_C} (hc : vwCl[ci]? = some q) {x y : MethodName} {cy : ByteArray} {ny : Nat} {ret : Option FieldType} {rm : Room} {As : List Value} {Qc : Array Value → State → Outcome → State → Prop} {mc ms : Nat} {free : Addr → Prop}
    (hM : Met l y (ws_ y cy ny ret) rm (xP D d A ad X (.ref (ad k) :: As)) Qc mc ms free) (n : Nat) {idx : Nat} {b0 : ByteArray} {m0 : Nat} {r0 : Option FieldType} (h0 : Cond.code x b0 m0 r0 ∈ lw_all)
    (h1 : Cond.methodLink own idx x ∈ lw_all) (h2 : Cond.sameMethod x.cls x.cls x.name x.desc ∈ lw_all) (h3 : Cond.instanceMethod x ∈ lw_all) (h4 : Cond.selects q.1 x y ∈ lw_all) (h5 : Cond.instanceMethod y ∈ lw_all) (h6 : Cond.initialized y.cls ∈ lw_all) (h7 : Cond.code y cy ny ret ∈ lw_all) (hrc : rm.cells = mc ∧ rm.slots = ms) (hd : x.cls ≠ "java/lang/invoke/MethodHandle" ∧ x.cls ≠ "java/lang/invoke/VarHandle" ∧ (parseMethodDescriptor x.desc).map (fun d => d.parameters.length) = some n) (hRm : rm.frames + 1 ≤ R.frames ∧ 8 + (ny + 11) + rm.locals ≤ R.locals) (hcs : cells + mc ≤ R.cells ∧ slots + ms ≤ R.slots) (hn : As.length = n) (hl : ls.size = nL) (hst : st0 = As.reverse ++ .ref (ad k) :: rest) (hrm : (rest.map fun v => v.category).sum ≤ 8) (hdg : decode cc pc = .ok (.invokevirtual idx, 3)) :
    va_Run p l e R s m args below meth c H locs cells slots mc ms (F0 m pc ls st0) rest (Qc (Value.ref (ad k) :: As).toArray) free :=
  va_runU (As := As) (rest := rest) X0.1.1 hM (va_cwO (owner := x.cls) n X0.1.1.2.2.2.2 (lw_app (fun w hw => by
    simp only [List.mem_cons, List.not_mem_nil, or_false] at hw
    rcases hw with e | e | e | e | e | e <;> rw [e] <;> assumption) (lw_meth h7)) rfl hrc.1 hrc.2 h0 hd hRm) (x_preV X0.1.2 X0.2 hR hlv hC hc) rfl hn hl hst (lv_room hrm) hdg hcs
/-- super's method -/
theorem xr_U (X0 : xX p m c cc nL s args own D d) (hR : XR D d A ad X H) {k : XK} (hlv : x_live X k) {ci : Nat} {fs : List Value} (hC : x_C d ad X k = .inr (ci, fs)) {q : vw_C} (hc : vwCl[ci]? = some q) {y : MethodName} {cy : ByteArray} {ny : Nat} {ret : Option FieldType} {rm : Room} {As : List Value} {Qc : Array Value → State → Outcome → State → Prop} {mc ms : Nat} {free : Addr → Prop}
    (hM : Met l y (ws_ y cy ny ret) rm (xP D d A ad X (.ref (ad k) :: As)) Qc mc ms free) (n : Nat) {idx : Nat}
    (h1 : Cond.methodLink own idx y ∈ lw_all) (h2 : Cond.sameMethod y.cls y.cls y.name y.desc ∈ lw_all) (h3 : Cond.superclass own y.cls ∈ lw_all) (h5 : Cond.instanceMethod y ∈ lw_all) (h6 : Cond.initialized y.cls ∈ lw_all) (h7 : Cond.code y cy ny ret ∈ lw_all) (hrc : rm.cells = mc ∧ rm.slots = ms) (hd : y.name ≠ "<init>" ∧ (parseMethodDescriptor y.desc).map (fun d => d.parameters.length) = some n) (hRm : rm.frames + 1 ≤ R.frames ∧ 8 + (ny + 11) + rm.locals ≤ R.locals) (hcs : cells + mc ≤ R.cells ∧ slots + ms ≤ R.slots) (hn : As.length = n) (hl : ls.size = nL) (hst : st0 = As.reverse ++ .ref (ad k) :: rest) (hrm : (rest.map fun v => v.category).sum ≤ 8) (hdg : decode cc pc = .ok (.invokespecial idx, 3)) :
    va_Run p l e R s m args below meth c H locs cells slots mc ms (F0 m pc ls st0) rest (Qc (Value.ref (ad k) :: As).toArray) free :=
  va_runSU (As := As) (rest := rest) ((X0.1.2.1 ci q hc).2) X0.1.1 hM (va_cwSU n X0.1.1.2.2.2.2 (lw_app (fun w hw => by
    simp only [List.mem_cons, List.not_mem_nil, or_false] at hw
    rcases hw with e | e | e | e | e <;> rw [e] <;> assumption) (lw_meth h7)) rfl hrc.1 hrc.2 hd hRm) (x_preV X0.1.2 X0.2 hR hlv hC hc) rfl hn hl hst (lv_room hrm) hdg hcs
/-- a static method of a nest mate, of numbers alone -/
theorem x_siN (X0 : xX p m c cc nL s args own D d) (hS : va_S A s.heap H locs) {y : MethodName} {cy : ByteArray} {ny : Nat} {ty : FieldType} {rm : Room} {As : List Value} {r : Int32} (hM : SI l y cy ny ty rm As r) (n : Nat) {idx : Nat} {host : String} (hq : Cond.methodLinkNest own idx y host ∈ lw_tbl) (h2 : Cond.static y ∈ lw_all) (h3 : Cond.initialized y.cls ∈ lw_all) (h7 : Cond.code y cy ny (some ty) ∈ lw_all) (hrc : rm.cells = 0 ∧ rm.slots = 0) (hd : y.cls ≠ "java/lang/invoke/MethodHandle" ∧ y.cls ≠ "java/lang/invoke/VarHandle" ∧ (parseMethodDescriptor y.desc).map (fun d => d.parameters.length) = some n) (hRm : rm.frames + 1 ≤ R.frames ∧ 8 + (ny + 11) + rm.locals ≤ R.locals) (hcs : cells + 0 ≤ R.cells ∧ slots + 0 ≤ R.slots) (hn : As.length = n) (hl : ls.size = nL) (hst : st0 = As.reverse ++ rest) (hrm : (rest.map fun v => v.category).sum ≤ 8) (hdg : decode cc pc = .ok (.invokestatic idx, 3))
    (kk : W p l e R s m args below meth c H locs cells slots Q (F0 m (pc + 3) ls (.int r :: rest))) : W p l e R s m args below meth c H locs cells slots Q (F0 m pc ls st0) := by
  have hr := va_runSN (H := H) (locs := locs) (cells := cells) (slots := slots) (below := below) (meth := meth) (e := e) (As := As) (rest := rest) (g := F0 m pc ls st0) X0.1.1 hM ⟨va_cnB n X0.1.1.2.2.2.2 (lw_meth h7) rfl hrc.1 hrc.2 (X0.2.nw hq rfl) (X0.1.1.2.2.2.2 _ h3) hd hRm, X0.1.1.2.2.2.2 _ h2, trivial⟩ ⟨fun a U g mk q => ⟨q.1, trivial⟩, fun U hU hW => ⟨rfl, trivial⟩⟩ rfl hn hl hst (lv_room hrm) hdg hcs
  have hr2 : CallRun p l e R s m args below meth c H locs cells slots 0 0 (F0 m pc ls st0) rest (vp_Si (fun r' => r' = r) As.toArray) (fun _ => False) := by
    intro T hT Xs
    obtain ⟨v, st₀, t, T', L, a1, a2, a3, a4, a5, a6, a7⟩ := hr T hT Xs
    exact ⟨v, st₀, t, T', L, a1, a2, a3, a4, a6, a7⟩
  refine vp_callSi hr2 fun r' h => ?_
  subst h
  exact kk
theorem x_ri {F : Int32 × XS} {ty : FieldType} {v : Int32} (hx : p.tables.exec = Jvm.exec) (hb : c.code = cc) (hr : meth.sig.returnType = some ty) (hn : narrow ty (.int v) = .int v) (hlk : meth.locks = false) (hR : XR D d A ad X H) (hS : va_S A s.heap H locs) (hQ : Q = MQ below (va_Qi (fun r u => (r, u) = F) (xB D d A ad) A) args s 0 0 A) (hF : F = (v, X)) (hdg : decode cc pc = .ok (.ireturn, 1)) : W p l e R s m args below meth c H locs 0 0 Q (F0 m pc ls [.int v]) := by
  subst hQ
  exact W.zret hx hb hr hn (fun t ht hW => ⟨⟨v, X, rfl, hF.symm, by rw [xB, ht]; exact hR⟩, hS.F ht⟩) hS.2.2 hdg hlk
theorem x_rl {F : Int64 × XS} {v : Int64} (hx : p.tables.exec = Jvm.exec) (hb : c.code = cc) (hr : meth.sig.returnType = some .long) (hlk : meth.locks = false) (hR : XR D d A ad X H) (hS : va_S A s.heap H locs) (hQ : Q = MQ below (va_Ql (fun r u => (r, u) = F) (xB D d A ad) A) args s 0 0 A) (hF : F = (v, X)) (hdg : decode cc pc = .ok (.lreturn, 1)) : W p l e R s m args below meth c H locs 0 0 Q (F0 m pc ls [.long v]) := by
  subst hQ
  exact W.lret hx hb hr (fun t ht hW => ⟨⟨v, X, rfl, hF.symm, by rw [xB, ht]; exact hR⟩, hS.F ht⟩) hS.2.2 hdg hlk
theorem x_rv {F : XS} (hx : p.tables.exec = Jvm.exec) (hb : c.code = cc) (hr : meth.sig.returnType = none) (hlk : meth.locks = false) (hR : XR D d A ad X H) (hS : va_S A s.heap H locs) (hQ : Q = MQ below (va_Qv (fun u => u = F) (xB D d A ad) A) args s 0 0 A) (hF : F = X) (hdg : decode cc pc = .ok (.return_, 1)) : W p l e R s m args below meth c H locs 0 0 Q (F0 m pc ls []) := by
  subst hQ
  exact W.vret hx hb hr (fun t ht hW => ⟨⟨X, rfl, hF.symm, by rw [xB, ht]; exact hR⟩, hS.F ht⟩) hS.2.2 hdg hlk
theorem x_startI {y : MethodName} {cy : ByteArray} {ny : Nat} {ty : FieldType} {rm : Room} {As : List Value} {F : Int32 × XS} (own : String) (hyo : y.cls = own) (hy : plainName own = true) (hn : (lg_sl As).length ≤ ny)
    (body : ∀ (p : Program) (e : Env) (s : State) (m : MethodId) (av : Array Value) (below : List Frame) (meth : Method) (c : Code) (ls : Array Slot) (Q : State → Prop), xX p m c cy ny s av own D d → meth.sig.returnType = some ty → meth.locks = false → lv_has ls ny (lv_args 0 As) → XR D d A ad X s.heap → Q = MQ below (va_Qi (fun r u => (r, u) = F) (xB D d A ad) A) av s 0 0 A → W p l e rm s m av below meth c s.heap [] 0 0 Q (F0 m 0 ls [])) : XI l y cy ny ty rm D d A ad X As F := by
  refine Met.ofW (cc := cy) (maxL := ny) (ret := some ty) (by rw [hyo]; exact hy) rfl ?_
  intro p e s m args below meth c s₁ B hml hv
  obtain ⟨rfl, hR, hK, hE⟩ := hv
  have hts := atoms_spec (ws := ws_ y cy ny (some ty)) B.pre
  have hl := lv_entry As (n := ny) hn
  have ho : s.vm.findClass y.cls = some m.cls := findClass_of_methodNamed B.named
  rw [hyo] at ho
  rw [lg_entry_eq]
  exact body p e s m _ below meth c _ _ ⟨⟨⟨B.exec, B.bytes, hml, ho, fun w h => hts w (List.mem_cons_of_mem _ h)⟩, hK⟩, hE⟩ B.returns B.notSynchronized hl hR rfl
theorem x_startL {y : MethodName} {cy : ByteArray} {ny : Nat} {rm : Room} {As : List Value} {F : Int64 × XS} (own : String) (hyo : y.cls = own) (hy : plainName own = true) (hn : (lg_sl As).length ≤ ny)
    (body : ∀ (p : Program) (e : Env) (s : State) (m : MethodId) (av : Array Value) (below : List Frame) (meth : Method) (c : Code) (ls : Array Slot) (Q : State → Prop), xX p m c cy ny s av own D d → meth.sig.returnType = some .long → meth.locks = false → lv_has ls ny (lv_args 0 As) → XR D d A ad X s.heap → Q = MQ below (va_Ql (fun r u => (r, u) = F) (xB D d A ad) A) av s 0 0 A → W p l e rm s m av below meth c s.heap [] 0 0 Q (F0 m 0 ls [])) : XL l y cy ny rm D d A ad X As F := by
  refine Met.ofW (cc := cy) (maxL := ny) (ret := some .long) (by rw [hyo]; exact hy) rfl ?_
  intro p e s m args below meth c s₁ B hml hv
  obtain ⟨rfl, hR, hK, hE⟩ := hv
  have hts := atoms_spec (ws := ws_ y cy ny (some .long)) B.pre
  have hl := lv_entry As (n := ny) hn
  have ho : s.vm.findClass y.cls = some m.cls := findClass_of_methodNamed B.named
  rw [hyo] at ho
  rw [lg_entry_eq]
  exact body p e s m _ below meth c _ _ ⟨⟨⟨B.exec, B.bytes, hml, ho, fun w h => hts w (List.mem_cons_of_mem _ h)⟩, hK⟩, hE⟩ B.returns B.notSynchronized hl hR rfl
theorem x_startV {y : MethodName} {cy : ByteArray} {ny : Nat} {rm : Room} {As : List Value} {F : XS} (own : String) (hyo : y.cls = own) (hy : plainName own = true) (hn : (lg_sl As).length ≤ ny)
    (body : ∀ (p : Program) (e : Env) (s : State) (m : MethodId) (av : Array Value) (below : List Frame) (meth : Method) (c : Code) (ls : Array Slot) (Q : State → Prop), xX p m c cy ny s av own D d → meth.sig.returnType = none → meth.locks = false → lv_has ls ny (lv_args 0 As) → XR D d A ad X s.heap → Q = MQ below (va_Qv (fun u => u = F) (xB D d A ad) A) av s 0 0 A → W p l e rm s m av below meth c s.heap [] 0 0 Q (F0 m 0 ls [])) : XV l y cy ny rm D d A ad X As F := by
  refine Met.ofW (cc := cy) (maxL := ny) (ret := none) (by rw [hyo]; exact hy) rfl ?_
  intro p e s m args below meth c s₁ B hml hv
  obtain ⟨rfl, hR, hK, hE⟩ := hv
  have hts := atoms_spec (ws := ws_ y cy ny none) B.pre
  have hl := lv_entry As (n := ny) hn
  have ho : s.vm.findClass y.cls = some m.cls := findClass_of_methodNamed B.named
  rw [hyo] at ho
  rw [lg_entry_eq]
  exact body p e s m _ below meth c _ _ ⟨⟨⟨B.exec, B.bytes, hml, ho, fun w h => hts w (List.mem_cons_of_mem _ h)⟩, hK⟩, hE⟩ B.returns B.notSynchronized hl hR rfl
end XCALL
