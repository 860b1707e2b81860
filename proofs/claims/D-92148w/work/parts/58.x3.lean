/-! PRINTED by gen/run_x3.py -/
set_option maxRecDepth 100000
section VROWS
variable {p : Program} {l : Launch} {e : Env} {R : Room} {s : State} {m : MethodId} {args : Array Value} {below : List Frame} {meth : Method} {c : Code} {H : Heap} {locs : List Loc} {cells slots : Nat} {Q : State → Prop}
variable {cc : ByteArray} {pc nL : Nat} {ls : Array Slot} {rest st0 : List Value} {D : va_G} {A : Nat → Prop} {d : Nat → ClassId} {own : String} {ad : XK → Nat} {X : XS}
/-- a call through an interface -/
theorem xr_F (X0 : xX p m c cc nL s args own D d) (hR : XR D d A ad X H) {k : XK} (hlv : x_live X k) {ci : Nat} {fs : List Value} (hC : x_C d ad X k = .inr (ci, fs)) {q : vw_C} (hc : vwCl[ci]? = some q) {x y : MethodName} {cy : ByteArray} {ny : Nat} {ret : Option FieldType} {rm : Room} {As : List Value} {Qc : Array Value → State → Outcome → State → Prop} {mc ms : Nat} {free : Addr → Prop}
    (hM : Met l y (ws_ y cy ny ret) rm (xP D d A ad X (.ref (ad k) :: As)) Qc mc ms free) (n : Nat) {idx count : Nat}
    (h1 : Cond.methodLink own idx x ∈ lw_all) (hde : Cond.declares x ∈ lw_tbl) (hfa : Cond.interfaceMethod x.cls x.cls x.name x.desc ∈ lw_tbl) (hfk : nwOk (Cond.interfaceMethod x.cls x.cls x.name x.desc) = true) (hsel : xLd q.1 x y s) (h5 : Cond.instanceMethod y ∈ lw_all) (hpu : Cond.publicMethod y ∈ lw_tbl) (hun : Cond.unhidden q.1 x.name x.desc ∈ lw_tbl) (hca : Cond.castable q.1 x.cls ∈ lw_tbl) (h6 : Cond.initialized y.cls ∈ lw_all) (h7 : Cond.code y cy ny ret ∈ lw_all) (hrc : rm.cells = mc ∧ rm.slots = ms) (hd : x.cls ≠ "java/lang/invoke/MethodHandle" ∧ x.cls ≠ "java/lang/invoke/VarHandle" ∧ (parseMethodDescriptor x.desc).map (fun d => d.parameters.length) = some n) (hRm : rm.frames + 1 ≤ R.frames ∧ 8 + (ny + 11) + rm.locals ≤ R.locals) (hcs : cells + mc ≤ R.cells ∧ slots + ms ≤ R.slots) (hn : As.length = n) (hl : ls.size = nL) (hst : st0 = As.reverse ++ .ref (ad k) :: rest) (hrm : (rest.map fun v => v.category).sum ≤ 8) (hdg : decode cc pc = .ok (.invokeinterface idx count, 5)) :
    va_Run5 p l e R s m args below meth c H locs cells slots mc ms (F0 m pc ls st0) rest (Qc (Value.ref (ad k) :: As).toArray) free := by
  have hts := X0.1.1.2.2.2.2
  have hp := x_preV (A := A) X0.1.2 X0.2 hR hlv hC hc (As := As)
  have hK : Back l R p e below s args y 5 8 (PreOf R mc ms (xP D d A ad X (.ref (ad k) :: As))) (PostOf Qc mc ms free) := back_of (bytes := cy) (maxL := ny) (ret := ret) hM x_blind hrc.1 hrc.2 hRm.1 hRm.2 (pay_in hts (lw_meth h7)) List.mem_cons_self (fun a' U hW => word_at hW (Or.inl (by first | rfl | simp [Cond.onTables, Cond.keeps, Cond.steady])) (hts _ h6))
  obtain ⟨-, ⟨cellB, hcB, hoB, hclB⟩, hPc⟩ := hp
  obtain ⟨hfc, kB, hkB, -⟩ := (X0.1.2.1 ci q hc).2
  rw [Option.some.inj (hfc.symm.trans hclB)] at hkB
  obtain ⟨r0, r, hn0, hrm0, hstR, hsigR⟩ := Cond.declares_spec (X0.2.use hde rfl (args := args))
  obtain ⟨cL, kL, r1, hcL, hkL, hiL, hfoundL, hn1⟩ := Cond.interfaceMethod_spec (X0.2.use hfa hfk (args := args))
  cases hn0.symm.trans hn1
  have hr0 : r0.cls = cL := Option.some.inj ((findClass_of_methodNamed hn0).symm.trans hcL)
  obtain ⟨hnR, hdR⟩ := name_of_methodNamed hn0 hrm0
  obtain ⟨mk, methM, hnamed, hmethM, -, habM⟩ := Cond.instanceMethod_spec (hts _ h5)
  obtain ⟨c2, r2, m2, q1, q2, q3, q4⟩ := hsel
  cases hclB.symm.trans q1
  cases hfoundL.symm.trans q2
  cases hnamed.symm.trans q3
  have hpubM := Cond.publicMethod_spec hnamed hmethM (X0.2.use hpu rfl (args := args))
  obtain ⟨c3, t3, w1, w2, w3⟩ := Cond.castable_spec (X0.2.use hca rfl (args := args))
  cases hclB.symm.trans w1
  cases hcL.symm.trans w2
  have hway : ((cellB.cls :: s.vm.superclasses cellB.cls).any fun k => (declaredIn s.vm r.name r.desc k).any fun (_, z) => z.isPrivate || z.isStatic) = false := by
    rw [hnR, hdR]; exact Cond.unhidden_spec hclB (X0.2.use hun rfl (args := args))
  intro T hT Xs
  have hlen : As.length = r.sig.parameters.length := by
    have h2 := hd.2.2
    rw [hsigR] at h2
    exact hn.trans (Option.some.inj h2).symm
  obtain ⟨vm₁, X₁, hstep₁⟩ := Xs.invokeinterface X0.1.1.1 X0.1.1.2.2.2.1 (hts _ h1) hn0 hrm0 hstR (by rw [hr0]; exact hkL) hiL ⟨hd.1, hd.2.1⟩ (a := ad k) (cell := cellB) (kcell := kB) (by rw [hT]; exact hcB)
    (fun z h => by rw [h] at hoB; cases hoB) hkB (by rw [hr0]; exact w3) (by rw [Launch.admits_selectMethod Xs.admits]; exact q4) hmethM hway hpubM habM (g := F0 m pc ls st0) rfl (argsL := As) (rest := rest) hlen hst (by rw [X0.1.1.2.1]; exact hdg)
  obtain ⟨v, ⟨U', l2, c2, s2⟩, X', ⟨g', mk', t, L, e1, e2, hq, h1', hL, h2', h3'⟩, hsteps⟩ := hK m meth c ⟨T.setVm vm₁, locs, cells, slots⟩ { (F0 m pc ls st0) with stack := rest } (.invokeinterface idx count) mk (Value.ref (ad k) :: As).toArray X₁ rfl (hl.trans X0.1.1.2.2.1.symm) (by rw [X0.1.1.2.1]; exact hdg) (lv_room hrm) (X₁.named hnamed) ⟨hcs.1, hcs.2, hPc (T.setVm vm₁) hT X₁.warmed⟩
  dsimp only [Pt.U, Pt.locs, Pt.cells, Pt.slots] at X' e1 e2 h1' h2' h3' hsteps
  subst h1'; subst h2'; subst h3'
  exact ⟨v, (T.setVm vm₁).calling g' mk' (Value.ref (ad k) :: As).toArray, t, U', L, hT, X', hL, e1, e2, hq, fun target h => hstep₁ _ fun acts => by rw [doInvoke_state]; exact hsteps.trans h⟩
theorem x_Fi {F : Int32 × XS} {a : Array Value} (hS : va_S A s.heap H locs) (hr : va_Run5 p l e R s m args below meth c H locs cells slots 0 0 (F0 m pc ls st0) rest (va_Qi (fun r u => (r, u) = F) (xB D d A ad) A a) A)
    (kk : ∀ (H : Heap) (locs : List Loc), XR D d A ad F.2 H → va_S A s.heap H locs → W p l e R s m args below meth c H locs cells slots Q (F0 m (pc + 5) ls (.int F.1 :: rest))) : W p l e R s m args below meth c H locs cells slots Q (F0 m pc ls st0) := by
  refine va_callFi hr hS (fun q _ h => h) (fun q h => h) fun r u t H1 locs1 ht hvm hw hB hz hk1 hS1 => ?_
  subst hw
  exact kk H1 locs1 (by rw [← ht]; exact hB) hS1
theorem x_Fv {F : XS} {a : Array Value} (hS : va_S A s.heap H locs) (hr : va_Run5 p l e R s m args below meth c H locs cells slots 0 0 (F0 m pc ls st0) rest (va_Qv (fun u => u = F) (xB D d A ad) A a) A)
    (kk : ∀ (H : Heap) (locs : List Loc), XR D d A ad F H → va_S A s.heap H locs → W p l e R s m args below meth c H locs cells slots Q (F0 m (pc + 5) ls rest)) : W p l e R s m args below meth c H locs cells slots Q (F0 m pc ls st0) := by
  refine va_callFv hr hS (fun q _ h => h) (fun q h => h) fun u t H1 locs1 ht hvm hw hB hz hk1 hS1 => ?_
  subst hw
  exact kk H1 locs1 (by rw [← ht]; exact hB) hS1
/-- a default method is entered, walked and left: no contract of it could be used, the interface's initialisation is told nowhere -/
theorem st_inI {tb : Tables} [Ours tb] {e : Env} {s target : State} {g : JFrame} {c : Code} {below : List Frame} (h : At s g.method c below) (hexec : tb.exec = Jvm.exec) {m : MethodId} {meth : Method} {code : Code} {a : Addr} {ig : Instr} {len : Nat} (acts : List Action)
    (hm : s.vm.method? m = some meth) (hc : meth.code = some code) (hl : meth.locks = false) (hp : s.plainMethod m) (hret : meth.sig.returnType = some .int) (hlocals : code.maxLocals = 1)
    (h0 : decode code.code 0 = .ok (.iconst 1, 1)) (h1 : decode code.code 1 = .ok (.ireturn, 1))
    (hroom : e.platform.stackFull (((s.setTop g).threads[(s.setTop g).cur]?).getD { frames := [] }) (s.setTop g).frames code.maxLocals = false)
    (hdg : decode c.code g.pc = .ok (ig, len)) (hrest : Steps tb e below (s.setTop { g with pc := g.pc + len, stack := (.int 1) :: g.stack }) target) :
    Steps tb e below (doInvoke e (s.setTop g) acts m #[.ref a]).1 target := by
  rw [doInvoke_enter h.top acts hm hc hl hroom]
  have hA : At ((s.setTop g).pushFrame (.java (entryFrame m #[.ref a] code.maxLocals))) m code below := h.enter #[.ref a] hm hc hp
  have hfr := frames_entered (g := g) h.top (.java (entryFrame m #[.ref a] code.maxLocals))
  have hback := setFrames_entered (s := s) (g := g) h.top (.java (entryFrame m #[.ref a] code.maxLocals))
  have hvm : ((s.setTop g).pushFrame (.java (entryFrame m #[.ref a] code.maxLocals))).vm = s.vm := rfl
  have hcg : ((s.setTop g).pushFrame (.java (entryFrame m #[.ref a] code.maxLocals))).code? g.method = some c := by
    have := h.code
    rw [State.code?_eq] at this ⊢
    simpa [State.pushFrame, State.setFrames] using this
  generalize (s.setTop g).pushFrame (.java (entryFrame m #[.ref a] code.maxLocals)) = u at hA hfr hback hvm hcg ⊢
  have hm' : u.vm.method? m = some meth := by rw [hvm]; exact hm
  have hloc : argsToLocals #[.ref a] 1 = #[.val (.ref a)] := rfl
  unfold entryFrame
  rw [hlocals, hloc]
  jvm_step hA [hexec, h0]
  jvm_step hA [hA.top, hexec, h1, hm', hret, narrow]
  intro acts'
  rw [doReturn_leave (g := g) (meth := meth) (cg := c) (ig := ig) (len := len) acts' hfr hm' hl rfl rfl hcg hdg, hback, State.setTop_setTop]
  simpa using hrest
theorem st_inV {tb : Tables} [Ours tb] {e : Env} {s target : State} {g : JFrame} {c : Code} {below : List Frame} (h : At s g.method c below) (hexec : tb.exec = Jvm.exec) {m : MethodId} {meth : Method} {code : Code} {a : Addr} {ig : Instr} {len : Nat} (acts : List Action)
    (hm : s.vm.method? m = some meth) (hc : meth.code = some code) (hl : meth.locks = false) (hp : s.plainMethod m) (hret : meth.sig.returnType = none) (hlocals : code.maxLocals = 1)
    (h0 : decode code.code 0 = .ok (.return_, 1))
    (hroom : e.platform.stackFull (((s.setTop g).threads[(s.setTop g).cur]?).getD { frames := [] }) (s.setTop g).frames code.maxLocals = false)
    (hdg : decode c.code g.pc = .ok (ig, len)) (hrest : Steps tb e below (s.setTop { g with pc := g.pc + len }) target) :
    Steps tb e below (doInvoke e (s.setTop g) acts m #[.ref a]).1 target := by
  rw [doInvoke_enter h.top acts hm hc hl hroom]
  have hA : At ((s.setTop g).pushFrame (.java (entryFrame m #[.ref a] code.maxLocals))) m code below := h.enter #[.ref a] hm hc hp
  have hfr := frames_entered (g := g) h.top (.java (entryFrame m #[.ref a] code.maxLocals))
  have hback := setFrames_entered (s := s) (g := g) h.top (.java (entryFrame m #[.ref a] code.maxLocals))
  have hvm : ((s.setTop g).pushFrame (.java (entryFrame m #[.ref a] code.maxLocals))).vm = s.vm := rfl
  have hcg : ((s.setTop g).pushFrame (.java (entryFrame m #[.ref a] code.maxLocals))).code? g.method = some c := by
    have := h.code
    rw [State.code?_eq] at this ⊢
    simpa [State.pushFrame, State.setFrames] using this
  generalize (s.setTop g).pushFrame (.java (entryFrame m #[.ref a] code.maxLocals)) = u at hA hfr hback hvm hcg ⊢
  have hm' : u.vm.method? m = some meth := by rw [hvm]; exact hm
  have hloc : argsToLocals #[.ref a] 1 = #[.val (.ref a)] := rfl
  unfold entryFrame
  rw [hlocals, hloc]
  jvm_step hA [hA.top, hexec, h0, hm', hret]
  intro acts'
  rw [doReturn_leave (g := g) (meth := meth) (cg := c) (ig := ig) (len := len) acts' hfr hm' hl rfl rfl hcg hdg, hback, State.setTop_setTop]
  simpa using hrest
/-- a call through an interface that lands in a default method: the method is entered (its frame isn't named here) -/
theorem xr_D (X0 : xX p m c cc nL s args own D d) (hR : XR D d A ad X H) {k : XK} (hlv : x_live X k) {ci : Nat} {fs : List Value} (hC : x_C d ad X k = .inr (ci, fs)) {q : vw_C} (hc : vwCl[ci]? = some q) {x : MethodName} {cy : ByteArray} {ret : Option FieldType} {idx count : Nat}
    (h1 : Cond.methodLink own idx x ∈ lw_all) (hde : Cond.declares x ∈ lw_tbl) (hfa : Cond.interfaceMethod x.cls x.cls x.name x.desc ∈ lw_tbl) (hfk : nwOk (Cond.interfaceMethod x.cls x.cls x.name x.desc) = true) (hsel : xLd q.1 x x s) (h5 : Cond.instanceMethod x ∈ lw_all) (hpu : Cond.publicMethod x ∈ lw_tbl) (hun : Cond.unhidden q.1 x.name x.desc ∈ lw_tbl) (hca : Cond.castable q.1 x.cls ∈ lw_tbl) (h7 : Cond.code x cy 1 ret ∈ lw_all) (hd : x.cls ≠ "java/lang/invoke/MethodHandle" ∧ x.cls ≠ "java/lang/invoke/VarHandle" ∧ (parseMethodDescriptor x.desc).map (fun d => d.parameters.length) = some 0) (hpn : plainName x.cls = true) (hRm : 1 ≤ R.frames ∧ 20 ≤ R.locals) (hl : ls.size = nL) (hrm : (rest.map fun v => v.category).sum ≤ 8) (hdg : decode cc pc = .ok (.invokeinterface idx count, 5))
    (hin : ∀ (T : State) (mk : MethodId) (methM : Method) (cM : Code) (acts : List Action), Stand p l e R s m args below meth c T locs cells slots → T.heap = H → T.vm.method? mk = some methM → methM.code = some cM → cM.code = cy → cM.maxLocals = 1 → methM.sig.returnType = ret → methM.locks = false → T.plainMethod mk → e.platform.stackFull (((T.setTop (F0 m pc ls rest)).threads[(T.setTop (F0 m pc ls rest)).cur]?).getD { frames := [] }) (T.setTop (F0 m pc ls rest)).frames cM.maxLocals = false →
      ∃ u, Q u ∧ Steps p.tables e below (doInvoke e (T.setTop (F0 m pc ls rest)) acts mk #[.ref (ad k)]).1 u) :
    W p l e R s m args below meth c H locs cells slots Q (F0 m pc ls (.ref (ad k) :: rest)) := by
  have hts := X0.1.1.2.2.2.2
  have hp := x_preV (A := A) X0.1.2 X0.2 hR hlv hC hc (As := [])
  obtain ⟨-, ⟨cellB, hcB, hoB, hclB⟩, -⟩ := hp
  obtain ⟨hfc, kB, hkB, -⟩ := (X0.1.2.1 ci q hc).2
  rw [Option.some.inj (hfc.symm.trans hclB)] at hkB
  obtain ⟨r0, r, hn0, hrm0, hstR, hsigR⟩ := Cond.declares_spec (X0.2.use hde rfl (args := args))
  obtain ⟨cL, kL, r1, hcL, hkL, hiL, hfoundL, hn1⟩ := Cond.interfaceMethod_spec (X0.2.use hfa hfk (args := args))
  cases hn0.symm.trans hn1
  have hr0 : r0.cls = cL := Option.some.inj ((findClass_of_methodNamed hn0).symm.trans hcL)
  obtain ⟨hnR, hdR⟩ := name_of_methodNamed hn0 hrm0
  obtain ⟨mk, methM, hnamed, hmethM, -, habM⟩ := Cond.instanceMethod_spec (hts _ h5)
  obtain ⟨c2, r2, m2, q1, q2, q3, q4⟩ := hsel
  cases hclB.symm.trans q1
  cases hfoundL.symm.trans q2
  cases hnamed.symm.trans q3
  have hpubM := Cond.publicMethod_spec hnamed hmethM (X0.2.use hpu rfl (args := args))
  obtain ⟨c3, t3, w1, w2, w3⟩ := Cond.castable_spec (X0.2.use hca rfl (args := args))
  cases hclB.symm.trans w1
  cases hcL.symm.trans w2
  have hway : ((cellB.cls :: s.vm.superclasses cellB.cls).any fun k => (declaredIn s.vm r.name r.desc k).any fun (_, z) => z.isPrivate || z.isStatic) = false := by
    rw [hnR, hdR]; exact Cond.unhidden_spec hclB (X0.2.use hun rfl (args := args))
  obtain ⟨methY, cY, g1, g2, g3, g4, g5, g6, -, -⟩ := Cond.code_spec hnamed (hts _ h7)
  intro T hT Xs
  have hlen : ([] : List Value).length = r.sig.parameters.length := by
    have h2 := hd.2.2
    rw [hsigR] at h2
    exact (Option.some.inj h2).symm
  obtain ⟨vm₁, X₁, hstep₁⟩ := Xs.invokeinterface X0.1.1.1 X0.1.1.2.2.2.1 (hts _ h1) hn0 hrm0 hstR (by rw [hr0]; exact hkL) hiL ⟨hd.1, hd.2.1⟩ (a := ad k) (cell := cellB) (kcell := kB) (by rw [hT]; exact hcB)
    (fun z h => by rw [h] at hoB; cases hoB) hkB (by rw [hr0]; exact w3) (by rw [Launch.admits_selectMethod Xs.admits]; exact q4) hmethM hway hpubM habM (g := F0 m pc ls (.ref (ad k) :: rest)) rfl (argsL := []) (rest := rest) hlen rfl (by rw [X0.1.1.2.1]; exact hdg)
  have hal := X₁.warmed.alike
  have key : ∀ acts, ∃ u, Q u ∧ Steps p.tables e below (doInvoke e ((T.setVm vm₁).setTop (F0 m pc ls rest)) acts mk #[.ref (ad k)]).1 u := fun acts =>
    hin (T.setVm vm₁) mk methY cY acts X₁ hT ((hal.method? mk).trans g1) g2 g3 g4 g5 g6
      (State.plainMethod.of_name fun k' hk' => by
        obtain ⟨k0, hk0, hn0'⟩ := className_of_methodNamed hnamed
        obtain ⟨k1, hk1, he⟩ := hal.2.2 _ _ hk0
        cases hk'.symm.trans hk1
        rw [he]
        show plainName k0.name = true
        rw [hn0']; exact hpn)
      (X₁.notFull (hl.trans X0.1.1.2.2.1.symm) hRm.1 (by rw [g4]; have := lv_room (m := m) (pc := pc) (ls := ls) (rest := rest) hrm; show 2 * (F0 m pc ls rest).monitorRoom + (rest.map fun v => v.category).sum + (1 + 11) ≤ R.locals; omega))
  obtain ⟨u, hQ, hst⟩ := key []
  refine ⟨u, hstep₁ _ fun acts => ?_, hQ⟩
  rw [doInvoke_state]
  exact hst
end VROWS
def xv_kind (S : XS) (j : Nat) : Int32 := nI (S.2.2.2 0 j)
def xv_many (S : XS) (j : Nat) : Int32 := if S.2.2.2 0 j = 0 then 0 else nI (S.2.2.2 1 j)
def xv_at (S : XS) (j : Nat) : Int32 := if S.2.2.2 0 j = 1 ∨ S.2.2.2 0 j = 3 then S.1 50 j else (-9)
def xv_notch (S : XS) (j : Nat) (x1 : Int32) : Int32 := if S.2.2.2 0 j = 0 then 1 else S.2.2.1 0 j (Int32.toNatClampNeg x1)
def xv_cut (S : XS) (j : Nat) (x1 : Int32) (x2 : Int32) : XS := xb S 0 j (Int32.toNatClampNeg x1) x2
def xv_lets (S : XS) (j : Nat) (x1 : Int32) (x2 : Int32) : Int32 := if S.2.2.2 0 j = 0 then 1 else if S.2.2.2 0 j = 2 then x_t4_lets S j x1 x2 else x_t3_lets S j x1 x2
def xv_letOff (S : XS) (j : Nat) (x1 : Int32) (x2 : Int32) : XS := if S.2.2.2 0 j = 0 then x_t2_letOff S j x1 x2 else if S.2.2.2 0 j = 2 then x_t4_letOff S j x1 x2 else x_t3_letOff S j x1 x2
def xw_many (S : XS) (j : Nat) : Int32 := nI (S.2.2.2 1 j)
def xw_notch (S : XS) (j : Nat) (x1 : Int32) : Int32 := S.2.2.1 0 j (Int32.toNatClampNeg x1)
def xv_hammers (S : XS) (j : Nat) : Int32 := if S.2.2.2 0 j = 3 then x_t5_hammers S j else 1
def xv_struck (S : XS) (j : Nat) : XS := if S.2.2.2 0 j = 3 then x_t5_struck S j else S
theorem xv_cut_N (S : XS) (j : Nat) (x1 x2 : Int32) : (xv_cut S j x1 x2).2.2.2 = S.2.2.2 := rfl
theorem xv_cut_inv (S : XS) (j : Nat) (x1 x2 : Int32) (hI : XInv S) (hj : j < S.2.2.2 7 0) (hk : ¬ S.2.2.2 0 j = 0) (hi : 0 ≤ x1 ∧ x1 < nI (S.2.2.2 1 j)) (hv : 1 ≤ x2 ∧ x2 ≤ 24) : XInv (xv_cut S j x1 x2) := XInv_xb0 hI _ _ _ hv
theorem xv_letOff_N (S : XS) (j : Nat) (x1 x2 : Int32) : (xv_letOff S j x1 x2).2.2.2 = S.2.2.2 := by
  unfold xv_letOff
  refine ifI (P := fun (z : XS) => z.2.2.2 = S.2.2.2) (fun _ => x_t2_letOff_N _ _ _ _) (fun _ => ifI (P := fun (z : XS) => z.2.2.2 = S.2.2.2) (fun _ => x_t4_letOff_N _ _ _ _) (fun _ => x_t3_letOff_N _ _ _ _))
theorem xv_letOff_inv (S : XS) (j : Nat) (x1 x2 : Int32) (hI : XInv S) (hj : j < S.2.2.2 7 0) (hz : x2 = 0 ∨ x2 = 1) (hi : 0 ≤ x1 ∧ x1 ≤ 100000000) : XInv (xv_letOff S j x1 x2) := by
  unfold xv_letOff
  refine ifI (P := XInv) (fun h => x_t2_letOff_inv _ _ _ _ hz hI hj) (fun h => ifI (P := XInv) (fun h2 => x_t4_letOff_inv _ _ _ _ hz hI hj h2 hi) (fun h2 => x_t3_letOff_inv _ _ _ _ hI hj ?_))
  have := xi_kd hI hj
  omega
theorem xv_struck_N (S : XS) (j : Nat) : (xv_struck S j).2.2.2 = S.2.2.2 := by
  unfold xv_struck
  exact ifI (P := fun (z : XS) => z.2.2.2 = S.2.2.2) (fun _ => x_t5_struck_N _ _) (fun _ => rfl)
theorem xv_struck_inv (S : XS) (j : Nat) (hI : XInv S) (hj : j < S.2.2.2 7 0) : XInv (xv_struck S j) := by
  unfold xv_struck
  exact ifI (P := XInv) (fun h => x_t5_struck_inv _ _ hI hj h) (fun _ => hI)
section VROWS2
variable {p : Program} {l : Launch} {e : Env} {R : Room} {s : State} {m : MethodId} {args : Array Value} {below : List Frame} {meth : Method} {c : Code} {H : Heap} {locs : List Loc} {cells slots : Nat} {Q : State → Prop}
variable {cc : ByteArray} {pc nL : Nat} {ls : Array Slot} {rest st0 : List Value} {D : va_G} {A : Nat → Prop} {d : Nat → ClassId} {own : String} {ad : XK → Nat} {X : XS}
theorem vr_kind (X0 : xX p m c cc nL s args own D d) (hR : XR D d A ad X H) (hS : va_S A s.heap H locs) {j : Nat} (hI : XInv X) (hj : j < X.2.2.2 7 0) {idx : Nat} (hq : Cond.methodLink own idx yX2_kind ∈ lw_all) (hl : ls.size = nL) (hRm : 3 ≤ R.frames ∧ 180 ≤ R.locals) (hcs : cells + 0 ≤ R.cells ∧ slots + 0 ≤ R.slots) (hrm : (rest.map fun v => v.category).sum ≤ 8) (hdg : decode cc pc = .ok (.invokevirtual idx, 3))
    (kk : ∀ (H : Heap) (locs : List Loc), XR D d A ad X H → va_S A s.heap H locs → W p l e R s m args below meth c H locs cells slots Q (F0 m (pc + 3) ls (.int (xv_kind X j) :: rest))) : W p l e R s m args below meth c H locs cells slots Q (F0 m pc ls (.ref (ad (40, j)) :: rest)) := by
  rcases x_kinds (xi_kd hI hj) with h | h | h | h
  · have e : x_t2_kind X j = (xv_kind X j) := by simp [h, nI, x_t2_kind, x_t3_kind, xv_kind]
    refine x_bi hS (xr_O X0 hR (x_lvt hj) (ci := 2) (by rw [x_C40, h]) rfl (xt_t2_kind l D d A ad X j) 0 q553 hq q541 q539 q540 q539 q69 q553 ⟨rfl, rfl⟩ (by decide +kernel) ⟨by show 0 + 1 ≤ R.frames; omega, by show 8 + (1 + 11) + 60 * 0 ≤ R.locals; omega⟩ hcs rfl hl rfl hrm hdg) (fun H locs a1 a2 => ?_)
    have k2 := kk H locs a1 a2
    rw [← e] at k2
    exact k2
  · have e : x_t3_kind X j = (xv_kind X j) := by simp [h, nI, x_t2_kind, x_t3_kind, xv_kind]
    refine x_bi hS (xr_O X0 hR (x_lvt hj) (ci := 3) (by rw [x_C40, h]) rfl (xt_t3_kind l D d A ad X j hI hj (Or.inl h)) 0 q553 hq q541 q539 q549 q546 q70 q547 ⟨rfl, rfl⟩ (by decide +kernel) ⟨by show 1 + 1 ≤ R.frames; omega, by show 8 + (1 + 11) + 60 * 1 ≤ R.locals; omega⟩ hcs rfl hl rfl hrm hdg) (fun H locs a1 a2 => ?_)
    have k2 := kk H locs a1 a2
    rw [← e] at k2
    exact k2
  · have e : x_t4_kind X j = (xv_kind X j) := by simp [h, nI, x_t2_kind, x_t3_kind, x_t4_kind, xv_kind]
    refine x_bi hS (xr_O X0 hR (x_lvt hj) (ci := 4) (by rw [x_C40, h]) rfl (xt_t4_kind l D d A ad X j) 0 q553 hq q541 q539 q550 q551 q71 q552 ⟨rfl, rfl⟩ (by decide +kernel) ⟨by show 0 + 1 ≤ R.frames; omega, by show 8 + (1 + 11) + 60 * 0 ≤ R.locals; omega⟩ hcs rfl hl rfl hrm hdg) (fun H locs a1 a2 => ?_)
    have k2 := kk H locs a1 a2
    rw [← e] at k2
    exact k2
  · have e : x_t5_kind X j = (xv_kind X j) := by simp [h, nI, x_t2_kind, x_t3_kind, x_t5_kind, xv_kind]
    refine x_bi hS (xr_O X0 hR (x_lvt hj) (ci := 5) (by rw [x_C40, h]) rfl (xt_t5_kind l D d A ad X j hI hj (h)) 0 q553 hq q541 q539 q542 q543 q72 q544 ⟨rfl, rfl⟩ (by decide +kernel) ⟨by show 2 + 1 ≤ R.frames; omega, by show 8 + (1 + 11) + 60 * 2 ≤ R.locals; omega⟩ hcs rfl hl rfl hrm hdg) (fun H locs a1 a2 => ?_)
    have k2 := kk H locs a1 a2
    rw [← e] at k2
    exact k2
theorem vr_many (X0 : xX p m c cc nL s args own D d) (hR : XR D d A ad X H) (hS : va_S A s.heap H locs) {j : Nat} (hI : XInv X) (hj : j < X.2.2.2 7 0) {idx : Nat} (hq : Cond.methodLink own idx yX2_many ∈ lw_all) (hl : ls.size = nL) (hRm : 1 ≤ R.frames ∧ 60 ≤ R.locals) (hcs : cells + 0 ≤ R.cells ∧ slots + 0 ≤ R.slots) (hrm : (rest.map fun v => v.category).sum ≤ 8) (hdg : decode cc pc = .ok (.invokevirtual idx, 3))
    (kk : ∀ (H : Heap) (locs : List Loc), XR D d A ad X H → va_S A s.heap H locs → W p l e R s m args below meth c H locs cells slots Q (F0 m (pc + 3) ls (.int (xv_many X j) :: rest))) : W p l e R s m args below meth c H locs cells slots Q (F0 m pc ls (.ref (ad (40, j)) :: rest)) := by
  rcases x_kinds (xi_kd hI hj) with h | h | h | h
  · have e : x_t2_many X j = (xv_many X j) := by simp [h, x_t2_many, xv_many]
    refine x_bi hS (xr_O X0 hR (x_lvt hj) (ci := 2) (by rw [x_C40, h]) rfl (xt_t2_many l D d A ad X j) 0 q565 hq q557 q555 q556 q555 q69 q565 ⟨rfl, rfl⟩ (by decide +kernel) ⟨by show 0 + 1 ≤ R.frames; omega, by show 8 + (1 + 11) + 60 * 0 ≤ R.locals; omega⟩ hcs rfl hl rfl hrm hdg) (fun H locs a1 a2 => ?_)
    have k2 := kk H locs a1 a2
    rw [← e] at k2
    exact k2
  · have e : x_t3_many X j = (xv_many X j) := by simp [h, x_t3_many, xv_many]
    refine x_bi hS (xr_O X0 hR (x_lvt hj) (ci := 3) (by rw [x_C40, h]) rfl (xt_t3_many l D d A ad X j hI hj (Or.inl h)) 0 q565 hq q557 q555 q561 q559 q70 q560 ⟨rfl, rfl⟩ (by decide +kernel) ⟨by show 0 + 1 ≤ R.frames; omega, by show 8 + (1 + 11) + 60 * 0 ≤ R.locals; omega⟩ hcs rfl hl rfl hrm hdg) (fun H locs a1 a2 => ?_)
    have k2 := kk H locs a1 a2
    rw [← e] at k2
    exact k2
  · have e : x_t4_many X j = (xv_many X j) := by simp [h, x_t4_many, xv_many]
    refine x_bi hS (xr_O X0 hR (x_lvt hj) (ci := 4) (by rw [x_C40, h]) rfl (xt_t4_many l D d A ad X j hI hj (h)) 0 q565 hq q557 q555 q562 q563 q71 q564 ⟨rfl, rfl⟩ (by decide +kernel) ⟨by show 0 + 1 ≤ R.frames; omega, by show 8 + (1 + 11) + 60 * 0 ≤ R.locals; omega⟩ hcs rfl hl rfl hrm hdg) (fun H locs a1 a2 => ?_)
    have k2 := kk H locs a1 a2
    rw [← e] at k2
    exact k2
  · have e : x_t3_many X j = (xv_many X j) := by simp [h, x_t3_many, xv_many]
    refine x_bi hS (xr_O X0 hR (x_lvt hj) (ci := 5) (by rw [x_C40, h]) rfl (xt_t3_many l D d A ad X j hI hj (Or.inr h)) 0 q565 hq q557 q555 q558 q559 q70 q560 ⟨rfl, rfl⟩ (by decide +kernel) ⟨by show 0 + 1 ≤ R.frames; omega, by show 8 + (1 + 11) + 60 * 0 ≤ R.locals; omega⟩ hcs rfl hl rfl hrm hdg) (fun H locs a1 a2 => ?_)
    have k2 := kk H locs a1 a2
    rw [← e] at k2
    exact k2
theorem vr_at (X0 : xX p m c cc nL s args own D d) (hR : XR D d A ad X H) (hS : va_S A s.heap H locs) {j : Nat} (hI : XInv X) (hj : j < X.2.2.2 7 0) {idx : Nat} (hq : Cond.methodLink own idx yX2_at ∈ lw_all) (hl : ls.size = nL) (hRm : 1 ≤ R.frames ∧ 60 ≤ R.locals) (hcs : cells + 0 ≤ R.cells ∧ slots + 0 ≤ R.slots) (hrm : (rest.map fun v => v.category).sum ≤ 8) (hdg : decode cc pc = .ok (.invokevirtual idx, 3))
    (kk : ∀ (H : Heap) (locs : List Loc), XR D d A ad X H → va_S A s.heap H locs → W p l e R s m args below meth c H locs cells slots Q (F0 m (pc + 3) ls (.int (xv_at X j) :: rest))) : W p l e R s m args below meth c H locs cells slots Q (F0 m pc ls (.ref (ad (40, j)) :: rest)) := by
  rcases x_kinds (xi_kd hI hj) with h | h | h | h
  · have e : x_t2_at X j = (xv_at X j) := by simp [h, x_t2_at, xv_at]
    refine x_bi hS (xr_O X0 hR (x_lvt hj) (ci := 2) (by rw [x_C40, h]) rfl (xt_t2_at l D d A ad X j) 0 q575 hq q569 q567 q568 q567 q69 q575 ⟨rfl, rfl⟩ (by decide +kernel) ⟨by show 0 + 1 ≤ R.frames; omega, by show 8 + (1 + 11) + 60 * 0 ≤ R.locals; omega⟩ hcs rfl hl rfl hrm hdg) (fun H locs a1 a2 => ?_)
    have k2 := kk H locs a1 a2
    rw [← e] at k2
    exact k2
  · have e : x_t3_at X j = (xv_at X j) := by simp [h, x_t3_at, xv_at]
    refine x_bi hS (xr_O X0 hR (x_lvt hj) (ci := 3) (by rw [x_C40, h]) rfl (xt_t3_at l D d A ad X j hI hj (Or.inl h)) 0 q575 hq q569 q567 q573 q571 q70 q572 ⟨rfl, rfl⟩ (by decide +kernel) ⟨by show 0 + 1 ≤ R.frames; omega, by show 8 + (1 + 11) + 60 * 0 ≤ R.locals; omega⟩ hcs rfl hl rfl hrm hdg) (fun H locs a1 a2 => ?_)
    have k2 := kk H locs a1 a2
    rw [← e] at k2
    exact k2
  · have e : x_t2_at X j = (xv_at X j) := by simp [h, x_t2_at, xv_at]
    refine x_bi hS (xr_O X0 hR (x_lvt hj) (ci := 4) (by rw [x_C40, h]) rfl (xt_t2_at l D d A ad X j) 0 q575 hq q569 q567 q574 q567 q69 q575 ⟨rfl, rfl⟩ (by decide +kernel) ⟨by show 0 + 1 ≤ R.frames; omega, by show 8 + (1 + 11) + 60 * 0 ≤ R.locals; omega⟩ hcs rfl hl rfl hrm hdg) (fun H locs a1 a2 => ?_)
    have k2 := kk H locs a1 a2
    rw [← e] at k2
    exact k2
  · have e : x_t3_at X j = (xv_at X j) := by simp [h, x_t3_at, xv_at]
    refine x_bi hS (xr_O X0 hR (x_lvt hj) (ci := 5) (by rw [x_C40, h]) rfl (xt_t3_at l D d A ad X j hI hj (Or.inr h)) 0 q575 hq q569 q567 q570 q571 q70 q572 ⟨rfl, rfl⟩ (by decide +kernel) ⟨by show 0 + 1 ≤ R.frames; omega, by show 8 + (1 + 11) + 60 * 0 ≤ R.locals; omega⟩ hcs rfl hl rfl hrm hdg) (fun H locs a1 a2 => ?_)
    have k2 := kk H locs a1 a2
    rw [← e] at k2
    exact k2
theorem vr_notch (X0 : xX p m c cc nL s args own D d) (hR : XR D d A ad X H) (hS : va_S A s.heap H locs) {j : Nat} {x1 : Int32} (hI : XInv X) (hj : j < X.2.2.2 7 0) (hi : ¬ X.2.2.2 0 j = 0 → 0 ≤ x1 ∧ x1 < nI (X.2.2.2 1 j)) {idx : Nat} (hq : Cond.methodLink own idx yX2_notch ∈ lw_all) (hl : ls.size = nL) (hRm : 1 ≤ R.frames ∧ 60 ≤ R.locals) (hcs : cells + 0 ≤ R.cells ∧ slots + 0 ≤ R.slots) (hrm : (rest.map fun v => v.category).sum ≤ 8) (hdg : decode cc pc = .ok (.invokevirtual idx, 3))
    (kk : ∀ (H : Heap) (locs : List Loc), XR D d A ad X H → va_S A s.heap H locs → W p l e R s m args below meth c H locs cells slots Q (F0 m (pc + 3) ls (.int (xv_notch X j x1) :: rest))) : W p l e R s m args below meth c H locs cells slots Q (F0 m pc ls (.int x1 :: .ref (ad (40, j)) :: rest)) := by
  rcases x_kinds (xi_kd hI hj) with h | h | h | h
  · have e : x_t2_notch X j x1 = (xv_notch X j x1) := by simp [h, x_t2_notch, xv_notch]
    refine x_bi hS (xr_O X0 hR (x_lvt hj) (ci := 2) (by rw [x_C40, h]) rfl (xt_t2_notch l D d A ad X j x1) 1 q627 hq q619 q617 q618 q617 q69 q627 ⟨rfl, rfl⟩ (by decide +kernel) ⟨by show 0 + 1 ≤ R.frames; omega, by show 8 + (2 + 11) + 60 * 0 ≤ R.locals; omega⟩ hcs rfl hl rfl hrm hdg) (fun H locs a1 a2 => ?_)
    have k2 := kk H locs a1 a2
    rw [← e] at k2
    exact k2
  · have e : x_t3_notch X j x1 = (xv_notch X j x1) := by simp [h, x_t3_notch, xv_notch]
    refine x_bi hS (xr_O X0 hR (x_lvt hj) (ci := 3) (by rw [x_C40, h]) rfl (xt_t3_notch l D d A ad X j x1 hI hj (Or.inl h) (hi (k13 (Or.inl h)))) 1 q627 hq q619 q617 q623 q621 q70 q622 ⟨rfl, rfl⟩ (by decide +kernel) ⟨by show 0 + 1 ≤ R.frames; omega, by show 8 + (2 + 11) + 60 * 0 ≤ R.locals; omega⟩ hcs rfl hl rfl hrm hdg) (fun H locs a1 a2 => ?_)
    have k2 := kk H locs a1 a2
    rw [← e] at k2
    exact k2
  · have e : x_t4_notch X j x1 = (xv_notch X j x1) := by simp [h, x_t4_notch, xv_notch]
    refine x_bi hS (xr_O X0 hR (x_lvt hj) (ci := 4) (by rw [x_C40, h]) rfl (xt_t4_notch l D d A ad X j x1 hI hj (h) (hi ((by rw [h]; decide)))) 1 q627 hq q619 q617 q624 q625 q71 q626 ⟨rfl, rfl⟩ (by decide +kernel) ⟨by show 0 + 1 ≤ R.frames; omega, by show 8 + (2 + 11) + 60 * 0 ≤ R.locals; omega⟩ hcs rfl hl rfl hrm hdg) (fun H locs a1 a2 => ?_)
    have k2 := kk H locs a1 a2
    rw [← e] at k2
    exact k2
  · have e : x_t3_notch X j x1 = (xv_notch X j x1) := by simp [h, x_t3_notch, xv_notch]
    refine x_bi hS (xr_O X0 hR (x_lvt hj) (ci := 5) (by rw [x_C40, h]) rfl (xt_t3_notch l D d A ad X j x1 hI hj (Or.inr h) (hi (k13 (Or.inr h)))) 1 q627 hq q619 q617 q620 q621 q70 q622 ⟨rfl, rfl⟩ (by decide +kernel) ⟨by show 0 + 1 ≤ R.frames; omega, by show 8 + (2 + 11) + 60 * 0 ≤ R.locals; omega⟩ hcs rfl hl rfl hrm hdg) (fun H locs a1 a2 => ?_)
    have k2 := kk H locs a1 a2
    rw [← e] at k2
    exact k2
theorem vr_cut (X0 : xX p m c cc nL s args own D d) (hR : XR D d A ad X H) (hS : va_S A s.heap H locs) {j : Nat} {x1 : Int32} {x2 : Int32} (hI : XInv X) (hj : j < X.2.2.2 7 0) (hk : ¬ X.2.2.2 0 j = 0) (hi : 0 ≤ x1 ∧ x1 < nI (X.2.2.2 1 j)) (hv : 1 ≤ x2 ∧ x2 ≤ 24) {idx : Nat} (hq : Cond.methodLink own idx yX2_cut ∈ lw_all) (hl : ls.size = nL) (hRm : 1 ≤ R.frames ∧ 60 ≤ R.locals) (hcs : cells + 0 ≤ R.cells ∧ slots + 0 ≤ R.slots) (hrm : (rest.map fun v => v.category).sum ≤ 8) (hdg : decode cc pc = .ok (.invokevirtual idx, 3))
    (kk : ∀ (H : Heap) (locs : List Loc), XR D d A ad (xv_cut X j x1 x2) H → va_S A s.heap H locs → W p l e R s m args below meth c H locs cells slots Q (F0 m (pc + 3) ls (rest))) : W p l e R s m args below meth c H locs cells slots Q (F0 m pc ls (.int x2 :: .int x1 :: .ref (ad (40, j)) :: rest)) := by
  rcases x_kinds (xi_kd hI hj) with h | h | h | h
  · exact absurd h hk
  · have e : x_t3_cut X j x1 x2 = (xv_cut X j x1 x2) := by simp [h, x_t3_cut, xv_cut]
    refine x_bv hS (xr_O X0 hR (x_lvt hj) (ci := 3) (by rw [x_C40, h]) rfl (xt_t3_cut l D d A ad X j x1 x2 hI hj (Or.inl h) hi hv) 2 q643 hq q635 q633 q639 q637 q70 q638 ⟨rfl, rfl⟩ (by decide +kernel) ⟨by show 0 + 1 ≤ R.frames; omega, by show 8 + (3 + 11) + 60 * 0 ≤ R.locals; omega⟩ hcs rfl hl rfl hrm hdg) (fun H locs a1 a2 => ?_)
    rw [e] at a1
    exact kk H locs a1 a2
  · have e : x_t4_cut X j x1 x2 = (xv_cut X j x1 x2) := by simp [h, x_t4_cut, xv_cut]
    refine x_bv hS (xr_O X0 hR (x_lvt hj) (ci := 4) (by rw [x_C40, h]) rfl (xt_t4_cut l D d A ad X j x1 x2 hI hj (h) hi hv) 2 q643 hq q635 q633 q640 q641 q71 q642 ⟨rfl, rfl⟩ (by decide +kernel) ⟨by show 0 + 1 ≤ R.frames; omega, by show 8 + (3 + 11) + 60 * 0 ≤ R.locals; omega⟩ hcs rfl hl rfl hrm hdg) (fun H locs a1 a2 => ?_)
    rw [e] at a1
    exact kk H locs a1 a2
  · have e : x_t3_cut X j x1 x2 = (xv_cut X j x1 x2) := by simp [h, x_t3_cut, xv_cut]
    refine x_bv hS (xr_O X0 hR (x_lvt hj) (ci := 5) (by rw [x_C40, h]) rfl (xt_t3_cut l D d A ad X j x1 x2 hI hj (Or.inr h) hi hv) 2 q643 hq q635 q633 q636 q637 q70 q638 ⟨rfl, rfl⟩ (by decide +kernel) ⟨by show 0 + 1 ≤ R.frames; omega, by show 8 + (3 + 11) + 60 * 0 ≤ R.locals; omega⟩ hcs rfl hl rfl hrm hdg) (fun H locs a1 a2 => ?_)
    rw [e] at a1
    exact kk H locs a1 a2
theorem vr_lets (X0 : xX p m c cc nL s args own D d) (hR : XR D d A ad X H) (hS : va_S A s.heap H locs) {j : Nat} {x1 : Int32} {x2 : Int32} (hI : XInv X) (hj : j < X.2.2.2 7 0) (hi1 : 0 ≤ x1 ∧ x1 ≤ 100000000) (hi2 : 0 ≤ x2 ∧ x2 ≤ 100000000) {idx : Nat} (hq : Cond.methodLink own idx yX2_lets ∈ lw_all) (hl : ls.size = nL) (hRm : 1 ≤ R.frames ∧ 60 ≤ R.locals) (hcs : cells + 0 ≤ R.cells ∧ slots + 0 ≤ R.slots) (hrm : (rest.map fun v => v.category).sum ≤ 8) (hdg : decode cc pc = .ok (.invokevirtual idx, 3))
    (kk : ∀ (H : Heap) (locs : List Loc), XR D d A ad X H → va_S A s.heap H locs → W p l e R s m args below meth c H locs cells slots Q (F0 m (pc + 3) ls (.int (xv_lets X j x1 x2) :: rest))) : W p l e R s m args below meth c H locs cells slots Q (F0 m pc ls (.int x2 :: .int x1 :: .ref (ad (40, j)) :: rest)) := by
  rcases x_kinds (xi_kd hI hj) with h | h | h | h
  · have e : x_t2_lets X j x1 x2 = (xv_lets X j x1 x2) := by simp [h, x_t2_lets, xv_lets]
    refine x_bi hS (xr_O X0 hR (x_lvt hj) (ci := 2) (by rw [x_C40, h]) rfl (xt_t2_lets l D d A ad X j x1 x2) 2 q1094 hq q1086 q1084 q1085 q1084 q69 q1094 ⟨rfl, rfl⟩ (by decide +kernel) ⟨by show 0 + 1 ≤ R.frames; omega, by show 8 + (3 + 11) + 60 * 0 ≤ R.locals; omega⟩ hcs rfl hl rfl hrm hdg) (fun H locs a1 a2 => ?_)
    have k2 := kk H locs a1 a2
    rw [← e] at k2
    exact k2
  · have e : x_t3_lets X j x1 x2 = (xv_lets X j x1 x2) := by simp [h, x_t3_lets, xv_lets]
    refine x_bi hS (xr_O X0 hR (x_lvt hj) (ci := 3) (by rw [x_C40, h]) rfl (xt_t3_lets l D d A ad X j x1 x2 hI hj (Or.inl h) (hi2)) 2 q1094 hq q1086 q1084 q1090 q1088 q70 q1089 ⟨rfl, rfl⟩ (by decide +kernel) ⟨by show 0 + 1 ≤ R.frames; omega, by show 8 + (3 + 11) + 60 * 0 ≤ R.locals; omega⟩ hcs rfl hl rfl hrm hdg) (fun H locs a1 a2 => ?_)
    have k2 := kk H locs a1 a2
    rw [← e] at k2
    exact k2
  · have e : x_t4_lets X j x1 x2 = (xv_lets X j x1 x2) := by simp [h, x_t4_lets, xv_lets]
    refine x_bi hS (xr_O X0 hR (x_lvt hj) (ci := 4) (by rw [x_C40, h]) rfl (xt_t4_lets l D d A ad X j x1 x2 hI hj (h) (hi1)) 2 q1094 hq q1086 q1084 q1091 q1092 q71 q1093 ⟨rfl, rfl⟩ (by decide +kernel) ⟨by show 0 + 1 ≤ R.frames; omega, by show 8 + (3 + 11) + 60 * 0 ≤ R.locals; omega⟩ hcs rfl hl rfl hrm hdg) (fun H locs a1 a2 => ?_)
    have k2 := kk H locs a1 a2
    rw [← e] at k2
    exact k2
  · have e : x_t3_lets X j x1 x2 = (xv_lets X j x1 x2) := by simp [h, x_t3_lets, xv_lets]
    refine x_bi hS (xr_O X0 hR (x_lvt hj) (ci := 5) (by rw [x_C40, h]) rfl (xt_t3_lets l D d A ad X j x1 x2 hI hj (Or.inr h) (hi2)) 2 q1094 hq q1086 q1084 q1087 q1088 q70 q1089 ⟨rfl, rfl⟩ (by decide +kernel) ⟨by show 0 + 1 ≤ R.frames; omega, by show 8 + (3 + 11) + 60 * 0 ≤ R.locals; omega⟩ hcs rfl hl rfl hrm hdg) (fun H locs a1 a2 => ?_)
    have k2 := kk H locs a1 a2
    rw [← e] at k2
    exact k2
theorem vr_letOff (X0 : xX p m c cc nL s args own D d) (hR : XR D d A ad X H) (hS : va_S A s.heap H locs) {j : Nat} {x1 : Int32} {x2 : Int32} (hI : XInv X) (hj : j < X.2.2.2 7 0) (hz : x2 = 0 ∨ x2 = 1) (hi : 0 ≤ x1 ∧ x1 ≤ 100000000) {idx : Nat} (hq : Cond.methodLink own idx yX2_letOff ∈ lw_all) (hl : ls.size = nL) (hRm : 1 ≤ R.frames ∧ 60 ≤ R.locals) (hcs : cells + 0 ≤ R.cells ∧ slots + 0 ≤ R.slots) (hrm : (rest.map fun v => v.category).sum ≤ 8) (hdg : decode cc pc = .ok (.invokevirtual idx, 3))
    (kk : ∀ (H : Heap) (locs : List Loc), XR D d A ad (xv_letOff X j x1 x2) H → va_S A s.heap H locs → W p l e R s m args below meth c H locs cells slots Q (F0 m (pc + 3) ls (rest))) : W p l e R s m args below meth c H locs cells slots Q (F0 m pc ls (.int x2 :: .int x1 :: .ref (ad (40, j)) :: rest)) := by
  rcases x_kinds (xi_kd hI hj) with h | h | h | h
  · have e : x_t2_letOff X j x1 x2 = (xv_letOff X j x1 x2) := by simp [h, x_t2_letOff, xv_letOff]
    refine x_bv hS (xr_O X0 hR (x_lvt hj) (ci := 2) (by rw [x_C40, h]) rfl (xt_t2_letOff l D d A ad X j x1 x2 (hz) hI hj) 2 q812 hq q804 q802 q803 q802 q69 q812 ⟨rfl, rfl⟩ (by decide +kernel) ⟨by show 0 + 1 ≤ R.frames; omega, by show 8 + (3 + 11) + 60 * 0 ≤ R.locals; omega⟩ hcs rfl hl rfl hrm hdg) (fun H locs a1 a2 => ?_)
    rw [e] at a1
    exact kk H locs a1 a2
  · have e : x_t3_letOff X j x1 x2 = (xv_letOff X j x1 x2) := by simp [h, x_t3_letOff, xv_letOff]
    refine x_bv hS (xr_O X0 hR (x_lvt hj) (ci := 3) (by rw [x_C40, h]) rfl (xt_t3_letOff l D d A ad X j x1 x2 hI hj (Or.inl h)) 2 q812 hq q804 q802 q808 q806 q70 q807 ⟨rfl, rfl⟩ (by decide +kernel) ⟨by show 0 + 1 ≤ R.frames; omega, by show 8 + (3 + 11) + 60 * 0 ≤ R.locals; omega⟩ hcs rfl hl rfl hrm hdg) (fun H locs a1 a2 => ?_)
    rw [e] at a1
    exact kk H locs a1 a2
  · have e : x_t4_letOff X j x1 x2 = (xv_letOff X j x1 x2) := by simp [h, x_t4_letOff, xv_letOff]
    refine x_bv hS (xr_O X0 hR (x_lvt hj) (ci := 4) (by rw [x_C40, h]) rfl (xt_t4_letOff l D d A ad X j x1 x2 (hz) hI hj (h) hi) 2 q812 hq q804 q802 q809 q810 q71 q811 ⟨rfl, rfl⟩ (by decide +kernel) ⟨by show 0 + 1 ≤ R.frames; omega, by show 8 + (3 + 11) + 60 * 0 ≤ R.locals; omega⟩ hcs rfl hl rfl hrm hdg) (fun H locs a1 a2 => ?_)
    rw [e] at a1
    exact kk H locs a1 a2
  · have e : x_t3_letOff X j x1 x2 = (xv_letOff X j x1 x2) := by simp [h, x_t3_letOff, xv_letOff]
    refine x_bv hS (xr_O X0 hR (x_lvt hj) (ci := 5) (by rw [x_C40, h]) rfl (xt_t3_letOff l D d A ad X j x1 x2 hI hj (Or.inr h)) 2 q812 hq q804 q802 q805 q806 q70 q807 ⟨rfl, rfl⟩ (by decide +kernel) ⟨by show 0 + 1 ≤ R.frames; omega, by show 8 + (3 + 11) + 60 * 0 ≤ R.locals; omega⟩ hcs rfl hl rfl hrm hdg) (fun H locs a1 a2 => ?_)
    rw [e] at a1
    exact kk H locs a1 a2
theorem vp_many (X0 : xX p m c cc nL s args own D d) (hR : XR D d A ad X H) (hS : va_S A s.heap H locs) {j : Nat} (hI : XInv X) (hj : j < X.2.2.2 7 0) (hk : X.2.2.2 0 j = 1 ∨ X.2.2.2 0 j = 3) {idx : Nat} (hq : Cond.methodLink own idx yX3_many ∈ lw_all) (hl : ls.size = nL) (hRm : 1 ≤ R.frames ∧ 60 ≤ R.locals) (hcs : cells + 0 ≤ R.cells ∧ slots + 0 ≤ R.slots) (hrm : (rest.map fun v => v.category).sum ≤ 8) (hdg : decode cc pc = .ok (.invokevirtual idx, 3))
    (kk : ∀ (H : Heap) (locs : List Loc), XR D d A ad X H → va_S A s.heap H locs → W p l e R s m args below meth c H locs cells slots Q (F0 m (pc + 3) ls (.int (xw_many X j) :: rest))) : W p l e R s m args below meth c H locs cells slots Q (F0 m pc ls (.ref (ad (40, j)) :: rest)) := by
  rcases hk with h | h
  · have e : x_t3_many X j = (xw_many X j) := by simp [h, x_t3_many, xw_many]
    refine x_bi hS (xr_O X0 hR (x_lvt hj) (ci := 3) (by rw [x_C40, h]) rfl (xt_t3_many l D d A ad X j hI hj (Or.inl h)) 0 q560 hq q1723 q559 q1725 q559 q70 q560 ⟨rfl, rfl⟩ (by decide +kernel) ⟨by show 0 + 1 ≤ R.frames; omega, by show 8 + (1 + 11) + 60 * 0 ≤ R.locals; omega⟩ hcs rfl hl rfl hrm hdg) (fun H locs a1 a2 => ?_)
    have k2 := kk H locs a1 a2
    rw [← e] at k2
    exact k2
  · have e : x_t3_many X j = (xw_many X j) := by simp [h, x_t3_many, xw_many]
    refine x_bi hS (xr_O X0 hR (x_lvt hj) (ci := 5) (by rw [x_C40, h]) rfl (xt_t3_many l D d A ad X j hI hj (Or.inr h)) 0 q560 hq q1723 q559 q1724 q559 q70 q560 ⟨rfl, rfl⟩ (by decide +kernel) ⟨by show 0 + 1 ≤ R.frames; omega, by show 8 + (1 + 11) + 60 * 0 ≤ R.locals; omega⟩ hcs rfl hl rfl hrm hdg) (fun H locs a1 a2 => ?_)
    have k2 := kk H locs a1 a2
    rw [← e] at k2
    exact k2
theorem vp_notch (X0 : xX p m c cc nL s args own D d) (hR : XR D d A ad X H) (hS : va_S A s.heap H locs) {j : Nat} {x1 : Int32} (hI : XInv X) (hj : j < X.2.2.2 7 0) (hk : X.2.2.2 0 j = 1 ∨ X.2.2.2 0 j = 3) (hi : 0 ≤ x1 ∧ x1 < nI (X.2.2.2 1 j)) {idx : Nat} (hq : Cond.methodLink own idx yX3_notch ∈ lw_all) (hl : ls.size = nL) (hRm : 1 ≤ R.frames ∧ 60 ≤ R.locals) (hcs : cells + 0 ≤ R.cells ∧ slots + 0 ≤ R.slots) (hrm : (rest.map fun v => v.category).sum ≤ 8) (hdg : decode cc pc = .ok (.invokevirtual idx, 3))
    (kk : ∀ (H : Heap) (locs : List Loc), XR D d A ad X H → va_S A s.heap H locs → W p l e R s m args below meth c H locs cells slots Q (F0 m (pc + 3) ls (.int (xw_notch X j x1) :: rest))) : W p l e R s m args below meth c H locs cells slots Q (F0 m pc ls (.int x1 :: .ref (ad (40, j)) :: rest)) := by
  rcases hk with h | h
  · have e : x_t3_notch X j x1 = (xw_notch X j x1) := by simp [h, x_t3_notch, xw_notch]
    refine x_bi hS (xr_O X0 hR (x_lvt hj) (ci := 3) (by rw [x_C40, h]) rfl (xt_t3_notch l D d A ad X j x1 hI hj (Or.inl h) hi) 1 q622 hq q1726 q621 q1728 q621 q70 q622 ⟨rfl, rfl⟩ (by decide +kernel) ⟨by show 0 + 1 ≤ R.frames; omega, by show 8 + (2 + 11) + 60 * 0 ≤ R.locals; omega⟩ hcs rfl hl rfl hrm hdg) (fun H locs a1 a2 => ?_)
    have k2 := kk H locs a1 a2
    rw [← e] at k2
    exact k2
  · have e : x_t3_notch X j x1 = (xw_notch X j x1) := by simp [h, x_t3_notch, xw_notch]
    refine x_bi hS (xr_O X0 hR (x_lvt hj) (ci := 5) (by rw [x_C40, h]) rfl (xt_t3_notch l D d A ad X j x1 hI hj (Or.inr h) hi) 1 q622 hq q1726 q621 q1727 q621 q70 q622 ⟨rfl, rfl⟩ (by decide +kernel) ⟨by show 0 + 1 ≤ R.frames; omega, by show 8 + (2 + 11) + 60 * 0 ≤ R.locals; omega⟩ hcs rfl hl rfl hrm hdg) (fun H locs a1 a2 => ?_)
    have k2 := kk H locs a1 a2
    rw [← e] at k2
    exact k2
theorem vi_hammers (X0 : xX p m c cc nL s args own D d) (hR : XR D d A ad X H) (hS : va_S A s.heap H locs) {j : Nat} (hI : XInv X) (hj : j < X.2.2.2 7 0) {idx count : Nat} (hq : Cond.methodLink own idx yX7_hammers ∈ lw_all) (hl : ls.size = nL) (hRm : 1 ≤ R.frames ∧ 60 ≤ R.locals) (hcs : cells + 0 ≤ R.cells ∧ slots + 0 ≤ R.slots) (hrm : (rest.map fun v => v.category).sum ≤ 8) (hdg : decode cc pc = .ok (.invokeinterface idx count, 5))
    (kk : ∀ (H : Heap) (locs : List Loc), XR D d A ad X H → va_S A s.heap H locs → W p l e R s m args below meth c H locs cells slots Q (F0 m (pc + 5) ls (.int (xv_hammers X j) :: rest))) : W p l e R s m args below meth c H locs cells slots Q (F0 m pc ls (.ref (ad (40, j)) :: rest)) := by
  rcases x_kinds (xi_kd hI hj) with h | h | h | h
  · have e : (1 : Int32) = (xv_hammers X j) := by simp [xv_hammers, h]
    refine xr_D X0 hR (x_lvt hj) (ci := 2) (by rw [x_C40, h]) rfl (x := yX7_hammers) (cy := cX7_hammers) (ret := some .int) hq q853 q852 (by decide +kernel) (X0.2.2.2.2 (RX2, ld_h) (by simp [ld_list, RX2])) q862 q863 q868 q867 q864 (by decide +kernel) (by decide) ⟨by omega, by omega⟩ hl hrm hdg (fun T mk methM cM acts X₁ hT h1 h2 h3 h4 h5 h6 h7 h8 => ?_)
    rw [← e] at kk
    obtain ⟨t, a1, b1⟩ := kk H locs hR hS T hT X₁
    exact ⟨t, b1, st_inI X₁.here X0.1.1.1 acts h1 h2 h6 h7 h5 h4 (by rw [h3]; exact dX7_hammers_0) (by rw [h3]; exact dX7_hammers_1) h8 (by rw [X0.1.1.2.1]; exact hdg) a1⟩
  · have e : (1 : Int32) = (xv_hammers X j) := by simp [xv_hammers, h]
    refine xr_D X0 hR (x_lvt hj) (ci := 3) (by rw [x_C40, h]) rfl (x := yX7_hammers) (cy := cX7_hammers) (ret := some .int) hq q853 q852 (by decide +kernel) (X0.2.2.2.2 (RX3, ld_h) (by simp [ld_list, RX3])) q862 q863 q861 q860 q864 (by decide +kernel) (by decide) ⟨by omega, by omega⟩ hl hrm hdg (fun T mk methM cM acts X₁ hT h1 h2 h3 h4 h5 h6 h7 h8 => ?_)
    rw [← e] at kk
    obtain ⟨t, a1, b1⟩ := kk H locs hR hS T hT X₁
    exact ⟨t, b1, st_inI X₁.here X0.1.1.1 acts h1 h2 h6 h7 h5 h4 (by rw [h3]; exact dX7_hammers_0) (by rw [h3]; exact dX7_hammers_1) h8 (by rw [X0.1.1.2.1]; exact hdg) a1⟩
  · have e : (1 : Int32) = (xv_hammers X j) := by simp [xv_hammers, h]
    refine xr_D X0 hR (x_lvt hj) (ci := 4) (by rw [x_C40, h]) rfl (x := yX7_hammers) (cy := cX7_hammers) (ret := some .int) hq q853 q852 (by decide +kernel) (X0.2.2.2.2 (RX4, ld_h) (by simp [ld_list, RX4])) q862 q863 q866 q865 q864 (by decide +kernel) (by decide) ⟨by omega, by omega⟩ hl hrm hdg (fun T mk methM cM acts X₁ hT h1 h2 h3 h4 h5 h6 h7 h8 => ?_)
    rw [← e] at kk
    obtain ⟨t, a1, b1⟩ := kk H locs hR hS T hT X₁
    exact ⟨t, b1, st_inI X₁.here X0.1.1.1 acts h1 h2 h6 h7 h5 h4 (by rw [h3]; exact dX7_hammers_0) (by rw [h3]; exact dX7_hammers_1) h8 (by rw [X0.1.1.2.1]; exact hdg) a1⟩
  · have e : x_t5_hammers X j = (xv_hammers X j) := by simp [h, x_t5_hammers, xv_hammers]
    refine x_Fi hS (xr_F X0 hR (x_lvt hj) (ci := 5) (by rw [x_C40, h]) rfl (xt_t5_hammers l D d A ad X j hI hj (h)) 0 hq q853 q852 (by decide +kernel) ((by obtain ⟨a1, a2, a3, b1, b2, b3, b4, -⟩ := Cond.selects_spec (X0.1.1.2.2.2.2 _ q855); exact ⟨a1, a2, a3, b1, b2, b3, b4⟩)) q857 q858 q856 q854 q72 q859 ⟨rfl, rfl⟩ (by decide +kernel) ⟨by show 0 + 1 ≤ R.frames; omega, by show 8 + (1 + 11) + 60 * 0 ≤ R.locals; omega⟩ hcs rfl hl rfl hrm hdg) (fun H locs a1 a2 => ?_)
    have k2 := kk H locs a1 a2
    rw [← e] at k2
    exact k2
theorem vi_struck (X0 : xX p m c cc nL s args own D d) (hR : XR D d A ad X H) (hS : va_S A s.heap H locs) {j : Nat} (hI : XInv X) (hj : j < X.2.2.2 7 0) {idx count : Nat} (hq : Cond.methodLink own idx yX7_struck ∈ lw_all) (hl : ls.size = nL) (hRm : 1 ≤ R.frames ∧ 60 ≤ R.locals) (hcs : cells + 0 ≤ R.cells ∧ slots + 0 ≤ R.slots) (hrm : (rest.map fun v => v.category).sum ≤ 8) (hdg : decode cc pc = .ok (.invokeinterface idx count, 5))
    (kk : ∀ (H : Heap) (locs : List Loc), XR D d A ad (xv_struck X j) H → va_S A s.heap H locs → W p l e R s m args below meth c H locs cells slots Q (F0 m (pc + 5) ls (rest))) : W p l e R s m args below meth c H locs cells slots Q (F0 m pc ls (.ref (ad (40, j)) :: rest)) := by
  rcases x_kinds (xi_kd hI hj) with h | h | h | h
  · have e : X = (xv_struck X j) := by simp [xv_struck, h]
    refine xr_D X0 hR (x_lvt hj) (ci := 2) (by rw [x_C40, h]) rfl (x := yX7_struck) (cy := cX7_struck) (ret := none) hq q872 q871 (by decide +kernel) (X0.2.2.2.2 (RX2, ld_s) (by simp [ld_list, RX2])) q879 q880 q883 q867 q881 (by decide +kernel) (by decide) ⟨by omega, by omega⟩ hl hrm hdg (fun T mk methM cM acts X₁ hT h1 h2 h3 h4 h5 h6 h7 h8 => ?_)
    rw [← e] at kk
    obtain ⟨t, a1, b1⟩ := kk H locs hR hS T hT X₁
    exact ⟨t, b1, st_inV X₁.here X0.1.1.1 acts h1 h2 h6 h7 h5 h4 (by rw [h3]; exact dX7_struck_0) h8 (by rw [X0.1.1.2.1]; exact hdg) a1⟩
  · have e : X = (xv_struck X j) := by simp [xv_struck, h]
    refine xr_D X0 hR (x_lvt hj) (ci := 3) (by rw [x_C40, h]) rfl (x := yX7_struck) (cy := cX7_struck) (ret := none) hq q872 q871 (by decide +kernel) (X0.2.2.2.2 (RX3, ld_s) (by simp [ld_list, RX3])) q879 q880 q878 q860 q881 (by decide +kernel) (by decide) ⟨by omega, by omega⟩ hl hrm hdg (fun T mk methM cM acts X₁ hT h1 h2 h3 h4 h5 h6 h7 h8 => ?_)
    rw [← e] at kk
    obtain ⟨t, a1, b1⟩ := kk H locs hR hS T hT X₁
    exact ⟨t, b1, st_inV X₁.here X0.1.1.1 acts h1 h2 h6 h7 h5 h4 (by rw [h3]; exact dX7_struck_0) h8 (by rw [X0.1.1.2.1]; exact hdg) a1⟩
  · have e : X = (xv_struck X j) := by simp [xv_struck, h]
    refine xr_D X0 hR (x_lvt hj) (ci := 4) (by rw [x_C40, h]) rfl (x := yX7_struck) (cy := cX7_struck) (ret := none) hq q872 q871 (by decide +kernel) (X0.2.2.2.2 (RX4, ld_s) (by simp [ld_list, RX4])) q879 q880 q882 q865 q881 (by decide +kernel) (by decide) ⟨by omega, by omega⟩ hl hrm hdg (fun T mk methM cM acts X₁ hT h1 h2 h3 h4 h5 h6 h7 h8 => ?_)
    rw [← e] at kk
    obtain ⟨t, a1, b1⟩ := kk H locs hR hS T hT X₁
    exact ⟨t, b1, st_inV X₁.here X0.1.1.1 acts h1 h2 h6 h7 h5 h4 (by rw [h3]; exact dX7_struck_0) h8 (by rw [X0.1.1.2.1]; exact hdg) a1⟩
  · have e : x_t5_struck X j = (xv_struck X j) := by simp [h, x_t5_struck, xv_struck]
    refine x_Fv hS (xr_F X0 hR (x_lvt hj) (ci := 5) (by rw [x_C40, h]) rfl (xt_t5_struck l D d A ad X j hI hj (h)) 0 hq q872 q871 (by decide +kernel) ((by obtain ⟨a1, a2, a3, b1, b2, b3, b4, -⟩ := Cond.selects_spec (X0.1.1.2.2.2.2 _ q873); exact ⟨a1, a2, a3, b1, b2, b3, b4⟩)) q875 q876 q874 q854 q72 q877 ⟨rfl, rfl⟩ (by decide +kernel) ⟨by show 0 + 1 ≤ R.frames; omega, by show 8 + (1 + 11) + 60 * 0 ≤ R.locals; omega⟩ hcs rfl hl rfl hrm hdg) (fun H locs a1 a2 => ?_)
    rw [e] at a1
    exact kk H locs a1 a2
end VROWS2
