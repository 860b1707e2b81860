/-! THE CLASS: contracts of methods that make cells; objects and arrays made. -/
set_option maxRecDepth 100000
section XMAKE
variable {p : Program} {l : Launch} {e : Env} {R : Room} {s : State} {m : MethodId} {args : Array Value} {below : List Frame} {meth : Method} {c : Code} {H : Heap} {locs : List Loc} {cells slots : Nat} {Q : State → Prop}
variable {cc : ByteArray} {pc nL : Nat} {ls : Array Slot} {rest st0 : List Value} {D : va_G} {A : Nat → Prop} {d : Nat → ClassId} {own : String} {ad : XK → Nat} {X : XS}
def xPa (D : va_G) (d : Nat → ClassId) (A : Nat → Prop) (ad : XK → Nat) (X : XS) (av : List Value) : Array Value → State → Prop := va_Pc av (fun U => XR D d A ad X U.heap ∧ va_K D vwCl (dd_T d) U ∧ XE d U ∧ ∀ q, U.heap.size ≤ q → A q)
/-- the world behind: at other addresses, but for the object's own -/
abbrev xQa (D : va_G) (d : Nat → ClassId) (A : Nat → Prop) (ad : XK → Nat) (F : Int32 × XS) : Array Value → State → Outcome → State → Prop := va_Qi (fun r (u : (XK → Nat) × XS) => (r, u.2) = F ∧ u.1 (0, 0) = ad (0, 0)) (fun u t => XR D d A u.1 u.2 t.heap) A
def XIa (l : Launch) (y : MethodName) (cy : ByteArray) (ny : Nat) (ty : FieldType) (rm : Room) (D : va_G) (d : Nat → ClassId) (A : Nat → Prop) (ad : XK → Nat) (X : XS) (As : List Value) (F : Int32 × XS) (mc ms : Nat) : Prop := Met l y (ws_ y cy ny (some ty)) rm (xPa D d A ad X As) (xQa D d A ad F) mc ms A
/-- room with cells -/
abbrev rmc_ (n k j : Nat) : Room := { frames := n, cells := k, slots := j, locals := 60 * n }
theorem xa_blind {As : List Value} : FrameBlind (xPa D d A ad X As) := fun a' U g mk q => ⟨q.1, q.2.1, va_K.moved (u := U) (U := U.calling g mk a') (Vm.Alike.refl U.vm) q.2.2.1, XE.same (u := U) (U := U.calling g mk a') rfl q.2.2.2.1, q.2.2.2.2⟩
theorem x_startIa {y : MethodName} {cy : ByteArray} {ny : Nat} {ty : FieldType} {rm : Room} {As : List Value} {F : Int32 × XS} {mc ms : Nat} (own : String) (hyo : y.cls = own) (hy : plainName own = true) (hn : (lg_sl As).length ≤ ny)
    (body : ∀ (p : Program) (e : Env) (s : State) (m : MethodId) (av : Array Value) (below : List Frame) (meth : Method) (c : Code) (ls : Array Slot) (Q : State → Prop), xX p m c cy ny s av own D d → meth.sig.returnType = some ty → meth.locks = false → lv_has ls ny (lv_args 0 As) → XR D d A ad X s.heap → (∀ q, s.heap.size ≤ q → A q) → Q = MQ below (xQa D d A ad F) av s mc ms A → W p l e rm s m av below meth c s.heap [] 0 0 Q (F0 m 0 ls [])) : XIa l y cy ny ty rm D d A ad X As F mc ms := by
  refine Met.ofW (cc := cy) (maxL := ny) (ret := some ty) (by rw [hyo]; exact hy) rfl ?_
  intro p e s m args below meth c s₁ B hml hv
  obtain ⟨rfl, hR, hK, hE, hA⟩ := hv
  have hts := atoms_spec (ws := ws_ y cy ny (some ty)) B.pre
  have hl := lv_entry As (n := ny) hn
  have ho : s.vm.findClass y.cls = some m.cls := findClass_of_methodNamed B.named
  rw [hyo] at ho
  rw [lg_entry_eq]
  exact body p e s m _ below meth c _ _ ⟨⟨⟨B.exec, B.bytes, hml, ho, fun w h => hts w (List.mem_cons_of_mem _ h)⟩, hK⟩, hE⟩ B.returns B.notSynchronized hl hR hA rfl
theorem x_riA {F : Int32 × XS} {ty : FieldType} {v : Int32} {mc ms : Nat} {ad' : XK → Nat} (hx : p.tables.exec = Jvm.exec) (hb : c.code = cc) (hr : meth.sig.returnType = some ty) (hn : narrow ty (.int v) = .int v) (hlk : meth.locks = false) (hR : XR D d A ad' X H) (had : ad' (0, 0) = ad (0, 0)) (hS : va_S A s.heap H locs) (hQ : Q = MQ below (xQa D d A ad F) args s mc ms A) (hF : F = (v, X)) (hcs : cells ≤ mc ∧ slots ≤ ms) (hdg : decode cc pc = .ok (.ireturn, 1)) : W p l e R s m args below meth c H locs cells slots Q (F0 m pc ls [.int v]) := by
  subst hQ
  refine W.widen hcs.1 hcs.2 ?_
  exact W.zret hx hb hr hn (fun t ht hW => ⟨⟨v, (ad', X), rfl, ⟨hF.symm, had⟩, by show XR D d A ad' X t.heap; rw [ht]; exact hR⟩, hS.F ht⟩) hS.2.2 hdg hlk
/-- an object is made -/
theorem x_new (X0 : xX p m c cc nL s args own D d) (hS : va_S A s.heap H locs) (hA : ∀ q, s.heap.size ≤ q → A q) {ci nz : Nat} {CN : String} {T : u_T} {N : Nat} (hc : vwCl[ci]? = some (CN, T, N)) (hin : ∀ w ∈ u_ws CN T N, w ∈ lw_all) {ty0 : Nat → FieldType} (hty : ∀ k, k < N → parseFieldDescriptor (T k).2.2.1 = some (ty0 k)) {idx : Nat} (hcl : Cond.classLink own idx CN ∈ lw_all) (hinst : Cond.instantiable CN nz ∈ lw_all) (hini : Cond.initialized CN ∈ lw_all) (fs : List Value) (hfs : ∀ j, j < N → defaultValue (ty0 j) = vp_V fs j) (hcs : cells + 1 ≤ R.cells ∧ slots + nz ≤ R.slots) (hdg : decode cc pc = .ok (.new idx, 3))
    (kk : ∀ (q : Nat) (H1 : Heap), H.size ≤ q → A q → (∀ x, x < H.size → H1[x]? = H[x]?) → oA D q ci fs nz H1 → va_S A s.heap H1 locs → W p l e R s m args below meth c H1 locs (cells + 1) (slots + nz) Q (F0 m (pc + 3) ls (.ref q :: rest))) : W p l e R s m args below meth c H locs cells slots Q (F0 m pc ls rest) := by
  obtain ⟨⟨⟨hx, hb, hml, hown, hts⟩, hK⟩, hE⟩ := X0
  have hKn := hK.1 ci _ hc
  refine W.newcK hx hb hown (hts _ hcl) (hts _ hinst) (hts _ hini) rfl hdg hcs.1 hcs.2 hKn.2.1 rfl fun H1 kC hkC e1 z1 o1 => ?_
  refine kk H.size H1 (Nat.le_refl _) (hA _ hS.1) o1 ⟨⟨_, hc, (u_born ty0 hts hin hKn hkC e1 hty).to hfs⟩, _, e1, ?_⟩ ⟨Nat.le_trans hS.1 (by omega), fun x h1 h2 => (o1 x (Nat.lt_of_lt_of_le h1 hS.1)).trans (hS.2.1 x h1 h2), hS.2.2⟩
  obtain ⟨c2, k2, f2, f3, -, -, -, f4⟩ := Cond.instantiable_spec (hts _ hinst)
  cases hKn.2.1.symm.trans f2
  cases hkC.symm.trans f3
  rw [← f4]
  simp [blank]
/-- a train's constructor, and the train comes into the world -/
theorem x_ctor (X0 : xX p m c cc nL s args own D d) {H0 : Heap} (hR : XR D d A ad X H0) (h8 : X.2.2.2 8 0 = 0) (ho : ∀ p, p < 8 → X.2.2.2 4 p ≤ X.2.2.2 7 0) {q ci nz kd : Nat} {n : Int32} {fs fs' : List Value} (hqz : H0.size ≤ q) (hAq : A q) (hk : ∀ x, x < H0.size → H[x]? = H0[x]?) (hq : oA D q ci fs nz H) (hS : va_S A s.heap H locs) {y : MethodName} {cy : ByteArray} {ny : Nat} {rm : Room} {As : List Value} (hM : OV l y cy ny rm D d q ci nz fs (.ref q :: As) fs') (hci : ci = 2 + kd) (hfs : fs' = x_tf (xtr X kd n) (X.2.2.2 7 0) ++ x_te (adU ad (40, X.2.2.2 7 0) q) (xtr X kd n) (X.2.2.2 7 0))
    (na : Nat) {idx : Nat} (h1 : Cond.methodLink own idx y ∈ lw_all) (h5 : Cond.instanceMethod y ∈ lw_all) (h6 : Cond.initialized y.cls ∈ lw_all) (h7 : Cond.code y cy ny none ∈ lw_all) (hrc : rm.cells = 0 ∧ rm.slots = 0) (hyn : y.name = "<init>") (hd : y.cls ≠ "java/lang/invoke/MethodHandle" ∧ y.cls ≠ "java/lang/invoke/VarHandle" ∧ (parseMethodDescriptor y.desc).map (fun d => d.parameters.length) = some na) (hRm : rm.frames + 1 ≤ R.frames ∧ 8 + (ny + 11) + rm.locals ≤ R.locals) (hcs : cells + 0 ≤ R.cells ∧ slots + 0 ≤ R.slots) (hn : As.length = na) (hl : ls.size = nL) (hst : st0 = As.reverse ++ .ref q :: rest) (hrm : (rest.map fun v => v.category).sum ≤ 8) (hdg : decode cc pc = .ok (.invokespecial idx, 3))
    (kk : ∀ (H1 : Heap) (locs1 : List Loc), XR D d A (adU ad (40, X.2.2.2 7 0) q) (xtr X kd n) H1 → va_S A s.heap H1 locs1 → W p l e R s m args below meth c H1 locs1 cells slots Q (F0 m (pc + 3) ls rest)) : W p l e R s m args below meth c H locs cells slots Q (F0 m pc ls st0) := by
  have hts := X0.1.1.2.2.2.2
  refine va_callv (va_runI (As := As) (rest := rest) X0.1.1 hM (cwI na hts (lw_meth h7) rfl hrc.1 hrc.2 (hts _ h6) (hts _ h1) (hts _ h5) hyn hd hRm) (o_preS X0.1.2 X0.2 hq) rfl hn hl hst (lv_room hrm) hdg hcs) hS (fun x _ h => by rw [show x = q from h]; exact hAq) (fun x h => by rw [show x = q from h]; exact hAq) fun u t H1 locs1 ht hvm hw hB hz hk1 hS1 => ?_
  subst hw
  subst hci
  subst hfs
  refine kk H1 locs1 (XR_tr hR h8 ho hqz hAq (fun x hx => ?_) (by rw [← ht]; exact hB)) hS1
  have hlt : x < H.size := by
    have hs : x < H.size ∨ ¬ x < H.size := Nat.lt_or_ge x H.size |>.imp id Nat.not_lt.mpr
    rcases hs with a | a
    · exact a
    · exfalso
      have e1 := hk x hx
      rw [Array.getElem?_eq_none (Nat.not_lt.mp a), Array.getElem?_eq_getElem hx] at e1
      cases e1
  rw [hk1 x hlt (fun h => by rw [show x = q from h] at hx; omega), hk x hx]
/-- an array of ints is made -/
theorem x_newI (X0 : xX p m c cc nL s args own D d) (hS : va_S A s.heap H locs) (hA : ∀ q, s.heap.size ≤ q → A q) {n : Int32} {N : Nat} (hn : ¬ n < 0) (hN : n.toNatClampNeg = N) (hbytes : N ≤ 1000) (hcs : cells + 1 ≤ R.cells ∧ slots + N ≤ R.slots) (hdg : decode cc pc = .ok (.newarray .int, 2))
    (kk : ∀ (q : Nat) (H1 : Heap), H.size ≤ q → A q → (∀ x, x < H.size → H1[x]? = H[x]?) → H1[q]? = some (vp_cell (d 0) (N, .inl fun _ => 0)) → va_S A s.heap H1 locs → W p l e R s m args below meth c H1 locs (cells + 1) (slots + N) Q (F0 m (pc + 2) ls (.ref q :: rest))) : W p l e R s m args below meth c H locs cells slots Q (F0 m pc ls (.int n :: rest)) := by
  obtain ⟨⟨⟨hx, hb, hml, hown, hts⟩, hK⟩, hE⟩ := X0
  refine va_newaK hx hb (atype := .int) (hts _ q185) rfl hdg rfl hn hN (by show N * 4 ≤ 536870912; omega) hcs.1 hcs.2 rfl fun H1 cA e1 z1 o1 hAr hNm => ?_
  have hcA : cA = d 0 := Option.some.inj (hNm.symm.trans (hK.2 0 _ rfl).2)
  subst hcA
  exact kk H.size H1 (Nat.le_refl _) (hA _ hS.1) o1 e1 ⟨Nat.le_trans hS.1 (by omega), fun x h1 h2 => (o1 x (Nat.lt_of_lt_of_le h1 hS.1)).trans (hS.2.1 x h1 h2), hS.2.2⟩
theorem x_newB (X0 : xX p m c cc nL s args own D d) (hS : va_S A s.heap H locs) (hA : ∀ q, s.heap.size ≤ q → A q) {n : Int32} {N : Nat} (hn : ¬ n < 0) (hN : n.toNatClampNeg = N) (hbytes : N ≤ 1000) (hcs : cells + 1 ≤ R.cells ∧ slots + N ≤ R.slots) (hdg : decode cc pc = .ok (.newarray .byte, 2))
    (kk : ∀ (q : Nat) (H1 : Heap), H.size ≤ q → A q → (∀ x, x < H.size → H1[x]? = H[x]?) → H1[q]? = some (vp_cell (d 2) (N, .inl fun _ => 0)) → va_S A s.heap H1 locs → W p l e R s m args below meth c H1 locs (cells + 1) (slots + N) Q (F0 m (pc + 2) ls (.ref q :: rest))) : W p l e R s m args below meth c H locs cells slots Q (F0 m pc ls (.int n :: rest)) := by
  obtain ⟨⟨⟨hx, hb, hml, hown, hts⟩, hK⟩, hE⟩ := X0
  refine va_newaK hx hb (atype := .byte) (hts _ q272) rfl hdg rfl hn hN (by show N * 1 ≤ 536870912; omega) hcs.1 hcs.2 rfl fun H1 cA e1 z1 o1 hAr hNm => ?_
  have hcA : cA = d 2 := Option.some.inj (hNm.symm.trans (hK.2 2 _ rfl).2)
  subst hcA
  exact kk H.size H1 (Nat.le_refl _) (hA _ hS.1) o1 e1 ⟨Nat.le_trans hS.1 (by omega), fun x h1 h2 => (o1 x (Nat.lt_of_lt_of_le h1 hS.1)).trans (hS.2.1 x h1 h2), hS.2.2⟩
/-- the world beside new cells -/
theorem XR.beside {H1 : Heap} (h : XR D d A ad X H) (hk : ∀ x, x < H.size → H1[x]? = H[x]?) : XR D d A ad X H1 := hp_R.kept h fun x hx _ => hk x hx
end XMAKE
