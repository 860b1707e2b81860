/-! NEW CELLS beside the class's world. -/
set_option maxRecDepth 100000
theorem hp_R.at {K : Type} {D : va_G} {A : Nat → Prop} {live : K → Prop} {ad : K → Nat} {C : K → va_E} {H : Heap} (h : hp_R D A live ad C H) {k : K} (hk : live k) : va_at D vwCl (ad k, C k) H := h.one hk 0 _ rfl
theorem hp_R.inj {K : Type} {D : va_G} {A : Nat → Prop} {live : K → Prop} {ad : K → Nat} {C : K → va_E} {H : Heap} (h : hp_R D A live ad C H) {k k' : K} (hk : live k) (hk' : live k') (e : ad k = ad k') : k = k' := by
  obtain ⟨L, f, -, -, hi⟩ := h
  exact hi k k' hk hk' e
theorem vp1 {D : va_G} {q : Nat} {E : va_E} {H : Heap} (h : va_at D vwCl (q, E) H) : va_P D vwCl [(q, E)] H := by
  intro i x hx
  match i, hx with
  | 0, hx => cases hx; exact h
  | i + 1, hx => simp at hx
theorem vd1 {A : Nat → Prop} {q : Nat} {E : va_E} (h : A q) : va_D A [(q, E)] := by
  refine ⟨fun i j a b hi hj _ => ?_, fun i x hx => ?_⟩
  · have h1 : i < 1 := (List.getElem?_eq_some_iff.mp hi).1
    have h2 : j < 1 := (List.getElem?_eq_some_iff.mp hj).1
    omega
  · match i, hx with
    | 0, hx => cases hx; exact h
    | i + 1, hx => simp at hx
theorem hp_ofL {K : Type} {D : va_G} {A : Nat → Prop} {live : K → Prop} {ad : K → Nat} {C : K → va_E} {H : Heap} (inj : ∀ k k', live k → live k' → ad k = ad k' → k = k') (hat : ∀ k, live k → va_at D vwCl (ad k, C k) H ∧ A (ad k)) : ∀ ks : List K, ∃ (L : List Nat) (f : Nat → va_E), hs_P D A L f H ∧ (∀ x ∈ L, ∃ k, live k ∧ ad k = x ∧ f x = C k) ∧ ∀ k ∈ ks, live k → ad k ∈ L := by
  intro ks
  induction ks with
  | nil => exact ⟨[], fun _ => .inl (0, 0, .inl fun _ => 0), ⟨fun k q hq => by simp [va_pl] at hq, fun i j a b hi => by simp [va_pl] at hi, fun k q hq => by simp [va_pl] at hq⟩, fun x hx => by simp at hx, fun k hk => by simp at hk⟩
  | cons k ks ih =>
    obtain ⟨L, f, ⟨hP, hD⟩, h1, h2⟩ := ih
    by_cases hk : live k
    · by_cases hm : ad k ∈ L
      · exact ⟨L, f, ⟨hP, hD⟩, h1, fun k' hk' hl => by
          rcases List.mem_cons.mp hk' with rfl | h
          · exact hm
          · exact h2 k' h hl⟩
      · refine ⟨L ++ [ad k], va_up f (ad k) (C k), ?_, fun x hx => ?_, fun k' hk' hl => ?_⟩
        · have e : [] ++ va_pl (L ++ [ad k]) (va_up f (ad k) (C k)) = ([] ++ va_pl L f) ++ [(ad k, C k)] := by
            rw [List.nil_append, List.nil_append, va_pl_push hm]
          unfold hs_P
          rw [e]
          refine ⟨hP.app (vp1 (hat k hk).1), hD.app (vd1 (hat k hk).2) fun i j a b hi hj hab => ?_⟩
          have hb : b = (ad k, C k) := by
            have := List.mem_of_getElem? hj
            simpa using this
          subst hb
          have ha := List.mem_of_getElem? hi
          simp only [List.nil_append, va_pl, List.mem_map] at ha
          obtain ⟨y, hy, rfl⟩ := ha
          exact hm (by rw [← show y = ad k from hab]; exact hy)
        · rcases List.mem_append.mp hx with h | h
          · obtain ⟨k', a, b, c⟩ := h1 x h
            refine ⟨k', a, b, ?_⟩
            rw [va_up_ne _ _ (fun q => hm (by rw [← q]; exact h)), c]
          · rw [List.mem_singleton] at h
            subst h
            exact ⟨k, hk, rfl, va_up_self _ _ _⟩
        · rcases List.mem_cons.mp hk' with rfl | h
          · exact List.mem_append.mpr (Or.inr (List.mem_singleton.mpr rfl))
          · exact List.mem_append.mpr (Or.inl (h2 k' h hl))
    · exact ⟨L, f, ⟨hP, hD⟩, h1, fun k' hk' hl => by
        rcases List.mem_cons.mp hk' with rfl | h
        · exact absurd hl hk
        · exact h2 k' h hl⟩
theorem hp_R.of {K : Type} {D : va_G} {A : Nat → Prop} {live : K → Prop} {ad : K → Nat} {C : K → va_E} {H : Heap} (ks : List K) (hks : ∀ k, live k → k ∈ ks) (inj : ∀ k k', live k → live k' → ad k = ad k' → k = k') (hat : ∀ k, live k → va_at D vwCl (ad k, C k) H ∧ A (ad k)) : hp_R D A live ad C H := by
  obtain ⟨L, f, hs, h1, h2⟩ := hp_ofL inj hat ks
  refine ⟨L, f, hs, fun k hk => ⟨h2 k (hks k hk) hk, ?_⟩, inj⟩
  obtain ⟨k', a, b, c⟩ := h1 _ (h2 k (hks k hk) hk)
  rw [c, inj k' k a hk b]
def x_keys (X : XS) : List XK := (List.range 73).flatMap fun a => (List.range (X.2.2.2 7 0 + 30)).map fun b => (a, b)
theorem x_keys_in {X : XS} {k : XK} (h : x_live X k) : k ∈ x_keys X := by
  obtain ⟨a, b⟩ := k
  have hab : a < 73 ∧ b < X.2.2.2 7 0 + 30 := by
    rcases h with h | h | h | h | h | h <;> dsimp only at h <;> omega
  unfold x_keys
  rw [List.mem_flatMap]
  exact ⟨a, List.mem_range.mpr hab.1, List.mem_map.mpr ⟨b, List.mem_range.mpr hab.2, rfl⟩⟩
theorem XR.of {D : va_G} {d : Nat → ClassId} {A : Nat → Prop} {ad : XK → Nat} {X : XS} {H : Heap} (inj : ∀ k k', x_live X k → x_live X k' → ad k = ad k' → k = k') (hat : ∀ k, x_live X k → va_at D vwCl (ad k, x_C d ad X k) H ∧ A (ad k)) : XR D d A ad X H := hp_R.of (x_keys X) (fun _ h => x_keys_in h) inj hat
/-- the world with new cells: each live cell is an old one or a fresh one -/
theorem XR.grow {D : va_G} {d : Nat → ClassId} {A : Nat → Prop} {ad ad' : XK → Nat} {X X' : XS} {H H' : Heap} (h : XR D d A ad X H) (hk : ∀ k, x_live X' k → (x_live X k ∧ ad' k = ad k) ∨ (H.size ≤ ad' k ∧ A (ad' k))) (hat : ∀ k, x_live X' k → va_at D vwCl (ad' k, x_C d ad' X' k) H')
    (hf : ∀ k k', x_live X' k → x_live X' k' → H.size ≤ ad' k → ad' k = ad' k' → k = k') : XR D d A ad' X' H' := by
  refine XR.of (fun k k' a b e => ?_) fun k a => ⟨hat k a, ?_⟩
  · rcases hk k a with h1 | h1
    · rcases hk k' b with h2 | h2
      · exact hp_R.inj h h1.1 h2.1 (by rw [← h1.2, ← h2.2]; exact e)
      · exact hf k k' a b (by rw [e]; exact h2.1) e
    · exact hf k k' a b h1.1 e
  · rcases hk k a with h1 | h1
    · rw [h1.2]; exact hp_R.in_A h h1.1
    · exact h1.2
section XNEW
variable {p : Program} {l : Launch} {e : Env} {R : Room} {s : State} {m : MethodId} {args : Array Value} {below : List Frame} {meth : Method} {c : Code} {H : Heap} {locs : List Loc} {cells slots : Nat} {Q : State → Prop}
variable {cc : ByteArray} {pc nL : Nat} {ls : Array Slot} {rest st0 : List Value} {D : va_G} {A : Nat → Prop} {d : Nat → ClassId} {own : String} {ad : XK → Nat} {X : XS}
/-- one object, alone: what a constructor writes; how many fields it has -/
def oA (D : va_G) (q ci : Nat) (fs : List Value) (nz : Nat) (H : Heap) : Prop := va_at D vwCl (q, .inr (ci, fs)) H ∧ ∃ cell : Cell, H[q]? = some cell ∧ cell.slots.size = nz
def oP (D : va_G) (d : Nat → ClassId) (q ci nz : Nat) (fs : List Value) (av : List Value) : Array Value → State → Prop := va_Pc av (fun U => oA D q ci fs nz U.heap ∧ va_K D vwCl (dd_T d) U ∧ XE d U)
abbrev oQ (D : va_G) (q ci : Nat) (fs' : List Value) : Array Value → State → Outcome → State → Prop := va_Qv (fun u => u = fs') (fun (u : List Value) t => va_at D vwCl (q, .inr (ci, u)) t.heap) (fun x => x = q)
def OV (l : Launch) (y : MethodName) (cy : ByteArray) (ny : Nat) (rm : Room) (D : va_G) (d : Nat → ClassId) (q ci nz : Nat) (fs : List Value) (As : List Value) (fs' : List Value) : Prop := Met l y (ws_ y cy ny none) rm (oP D d q ci nz fs As) (oQ D q ci fs') 0 0 (fun x => x = q)
theorem o_blind {q ci nz : Nat} {fs As : List Value} : FrameBlind (oP D d q ci nz fs As) := fun a' U g mk h => ⟨h.1, h.2.1, va_K.moved (u := U) (U := U.calling g mk a') (Vm.Alike.refl U.vm) h.2.2.1, XE.same (u := U) (U := U.calling g mk a') rfl h.2.2.2⟩
theorem o_preS (hK : va_K D vwCl (dd_T d) s) (hE : XE d s) {q ci nz : Nat} {fs As : List Value} (hq : oA D q ci fs nz H) : PreS s H (oP D d q ci nz fs As) As := ⟨o_blind, fun U hU hW => ⟨rfl, by rw [hU]; exact hq, va_K.moved hW.alike hK, hE.moved hW⟩⟩
theorem o_start {y : MethodName} {cy : ByteArray} {ny : Nat} {rm : Room} {q ci nz : Nat} {fs As fs' : List Value} (own : String) (hyo : y.cls = own) (hyn : y.name = "<init>") (hy : plainName own = true) (hn : (lg_sl As).length ≤ ny)
    (body : ∀ (p : Program) (e : Env) (s : State) (m : MethodId) (av : Array Value) (below : List Frame) (meth : Method) (c : Code) (ls : Array Slot) (Q : State → Prop), xX p m c cy ny s av own D d → meth.sig.returnType = none → meth.locks = false → meth.name = "<init>" → lv_has ls ny (lv_args 0 As) → oA D q ci fs nz s.heap → Q = MQ below (oQ D q ci fs') av s 0 0 (fun x => x = q) → W p l e rm s m av below meth c s.heap [] 0 0 Q (F0 m 0 ls [])) : OV l y cy ny rm D d q ci nz fs As fs' := by
  refine Met.ofW (cc := cy) (maxL := ny) (ret := none) (by rw [hyo]; exact hy) rfl ?_
  intro p e s m args below meth c s₁ B hml hv
  obtain ⟨rfl, hR, hK, hE⟩ := hv
  have hts := atoms_spec (ws := ws_ y cy ny none) B.pre
  have hl := lv_entry As (n := ny) hn
  have ho : s.vm.findClass y.cls = some m.cls := findClass_of_methodNamed B.named
  have hin : meth.name = y.name := (name_of_methodNamed B.named B.method).1
  rw [hyo] at ho
  rw [lg_entry_eq]
  exact body p e s m _ below meth c _ _ ⟨⟨⟨B.exec, B.bytes, hml, ho, fun w h => hts w (List.mem_cons_of_mem _ h)⟩, hK⟩, hE⟩ B.returns B.notSynchronized (hin.trans hyn) hl hR rfl
theorem o_ret {q ci : Nat} {fs fs' : List Value} (hx : p.tables.exec = Jvm.exec) (hb : c.code = cc) (hr : meth.sig.returnType = none) (hlk : meth.locks = false) (hq : va_at D vwCl (q, .inr (ci, fs)) H) (hS : va_S (fun x => x = q) s.heap H locs) (hQ : Q = MQ below (oQ D q ci fs') args s 0 0 (fun x => x = q)) (hF : fs' = fs) (hdg : decode cc pc = .ok (.return_, 1)) : W p l e R s m args below meth c H locs 0 0 Q (F0 m pc ls []) := by
  subst hQ
  exact W.vret hx hb hr (fun t ht hW => ⟨⟨fs, rfl, hF.symm, by show va_at D vwCl _ t.heap; rw [ht]; exact hq⟩, hS.F ht⟩) hS.2.2 hdg hlk
theorem oslot_ne {cell : Cell} {i j : Nat} {v : Value} (h : i ≠ j) : (cell.setSlot j v).slots[i]? = cell.slots[i]? := by
  simp only [Cell.setSlot]
  rw [Array.getElem?_setIfInBounds, if_neg (Ne.symm h)]
/-- a field that isn't kept track of -/
theorem o_putX (X0 : xX p m c cc nL s args own D d) {q ci nz : Nat} {fs : List Value} (hq : oA D q ci fs nz H) (hS : va_S (fun x => x = q) s.heap H locs) {CN : String} {T : u_T} {N : Nat} (hc : vwCl[ci]? = some (CN, T, N)) (hin : ∀ w ∈ u_ws CN T N, w ∈ lw_all) {ty0 : Nat → FieldType} (hty : ∀ k, k < N → parseFieldDescriptor (T k).2.2.1 = some (ty0 k)) (hnm : ∀ k, k < N → (T k).2.1 ≠ "this$0") (hlw : Cond.laysFinal CN own "this$0" "LHammerTowers;" ∈ lw_all) (hiz : Cond.instantiable CN nz ∈ lw_all) {idx : Nat} (hlq : Cond.fieldLink own idx own "this$0" "LHammerTowers;" ∈ lw_all) (hin2 : meth.name = "<init>") {v : Nat} (hdg : decode cc pc = .ok (.putfield idx, 3))
    (kk : ∀ (H1 : Heap) (locs1 : List Loc), oA D q ci fs nz H1 → va_S (fun x => x = q) s.heap H1 locs1 → W p l e R s m args below meth c H1 locs1 cells slots Q (F0 m (pc + 3) ls rest)) : W p l e R s m args below meth c H locs cells slots Q (F0 m pc ls (.ref v :: .ref q :: rest)) := by
  obtain ⟨⟨⟨hx, hb, hml, hown, hts⟩, hK⟩, hE⟩ := X0
  obtain ⟨⟨r, h1, cell, q1, q2, q3, q4⟩, cell', z1, z2⟩ := hq
  cases q1.symm.trans z1
  have hr : r = (CN, T, N) := Option.some.inj (h1.symm.trans hc)
  subst hr
  obtain ⟨hSl, hfc, kC, hkC, hkind⟩ := hK.1 ci _ hc
  have hlay := hts _ hlw
  obtain ⟨i0, cf, kf, fi, fd, hi, hsl⟩ := u_found (Or.inr hlay)
  obtain ⟨hst, -, hty1⟩ := u_facts hfc hkC (Or.inr hlay) hi
  have hcf : m.cls = cf := by
    obtain ⟨_, _, c', _, _, _, -, -, hf', -, -, -, hown2, -⟩ := Cond.laysFinal_spec hlay
    have e1 : c' = cf := by have := hi.symm.trans hf'; simp at this; exact this.1.symm
    rw [← e1]; exact Option.some.inj (hown.symm.trans hown2)
  have hd : parseFieldDescriptor "LHammerTowers;" = some (.object "HammerTowers") := by decide +kernel
  have h6 := u_fits (v := .ref v) hfc hkC hkind (Or.inr hlay) hi hd rfl rfl
  have hap : ∀ k, k < N → D.2 ci k ≠ fd.slot := by
    intro k hk
    obtain ⟨_, _, _, fa, hia, ea⟩ := hSl k hk
    rw [← ea]
    refine u_apart (u_lays hts hin hk) (Or.inr hlay) hia hi ?_
    rw [(State.fieldFound?_type hia (hty k hk)).1, (State.fieldFound?_type hi hd).1]
    exact hnm k hk
  have hlt : fd.slot < cell.slots.size := by
    obtain ⟨c2, k2, f2, f3, -, -, -, f4⟩ := Cond.instantiable_spec (hts _ hiz)
    cases hfc.symm.trans f2
    cases hkC.symm.trans f3
    rw [z2, ← f4]
    exact (Array.getElem?_eq_some_iff.mp hty1).1
  refine W.putFinK hx hb hown (hts _ hlq) hi hst hcf hin2 (by rw [q2]; exact h6) q1 q3 hlt rfl rfl hdg fun H' e1 e2 e3 => ?_
  refine kk H' _ ⟨⟨_, hc, _, e1, q2, q3, fun k hk => ?_⟩, _, e1, ?_⟩ (hS.put e2 e3 rfl)
  · rw [← q4 k hk]
    exact oslot_ne (hap k hk)
  · rw [k2_slotsz, z2]
/-- a field that is kept track of -/
theorem o_put (X0 : xX p m c cc nL s args own D d) {q ci : Nat} {fs : List Value} (hq : va_at D vwCl (q, .inr (ci, fs)) H) (hS : va_S (fun x => x = q) s.heap H locs) {CN : String} {T : u_T} {N : Nat} (hc : vwCl[ci]? = some (CN, T, N)) (hin : ∀ w ∈ u_ws CN T N, w ∈ lw_all) {ty0 : Nat → FieldType} (hty : ∀ k, k < N → parseFieldDescriptor (T k).2.2.1 = some (ty0 k)) (hnm : ∀ a, a < N → ∀ b, b < N → a ≠ b → (T a).2.1 ≠ (T b).2.1) (j : Nat) (hj : j < N) {idx : Nat} (hlq : Cond.fieldLink own idx (T j).1 (T j).2.1 (T j).2.2.1 ∈ lw_all) (hfin : (T j).2.2.2 = false) {v : Value} (hn : narrow (ty0 j) v = v) (hfit : fits (ty0 j) v = true) (hl : j < fs.length) (hdg : decode cc pc = .ok (.putfield idx, 3))
    (kk : ∀ (H1 : Heap) (locs1 : List Loc), va_at D vwCl (q, .inr (ci, fs.set j v)) H1 → va_S (fun x => x = q) s.heap H1 locs1 → W p l e R s m args below meth c H1 locs1 cells slots Q (F0 m (pc + 3) ls rest)) : W p l e R s m args below meth c H locs cells slots Q (F0 m pc ls (v :: .ref q :: rest)) := by
  obtain ⟨⟨⟨hx, hb, hml, hown, hts⟩, hK⟩, hE⟩ := X0
  exact va_put hx hb hts hin ty0 hty hnm hown hK (vp1 hq) (vd1 (A := fun x => x = q) rfl) hS 0 rfl hc j hj (hts _ hlq) (fun _ h => h) hfin (hty j hj) hn hfit hl hdg fun H1 locs1 hP1 hD1 hS1 => kk H1 locs1 (hP1 0 _ rfl) hS1
theorem o_putF (X0 : xX p m c cc nL s args own D d) {q ci : Nat} {fs : List Value} (hq : va_at D vwCl (q, .inr (ci, fs)) H) (hS : va_S (fun x => x = q) s.heap H locs) {CN : String} {T : u_T} {N : Nat} (hc : vwCl[ci]? = some (CN, T, N)) (hin : ∀ w ∈ u_ws CN T N, w ∈ lw_all) {ty0 : Nat → FieldType} (hty : ∀ k, k < N → parseFieldDescriptor (T k).2.2.1 = some (ty0 k)) (hnm : ∀ a, a < N → ∀ b, b < N → a ≠ b → (T a).2.1 ≠ (T b).2.1) (j : Nat) (hj : j < N) {idx : Nat} (hlq : Cond.fieldLink own idx (T j).1 (T j).2.1 (T j).2.2.1 ∈ lw_all) (hfin : (T j).2.2.2 = true) (hdecl : (T j).1 = own) (hin2 : meth.name = "<init>") {v : Value} (hn : narrow (ty0 j) v = v) (hfit : fits (ty0 j) v = true) (hl : j < fs.length) (hdg : decode cc pc = .ok (.putfield idx, 3))
    (kk : ∀ (H1 : Heap) (locs1 : List Loc), va_at D vwCl (q, .inr (ci, fs.set j v)) H1 → va_S (fun x => x = q) s.heap H1 locs1 → W p l e R s m args below meth c H1 locs1 cells slots Q (F0 m (pc + 3) ls rest)) : W p l e R s m args below meth c H locs cells slots Q (F0 m pc ls (v :: .ref q :: rest)) := by
  obtain ⟨⟨⟨hx, hb, hml, hown, hts⟩, hK⟩, hE⟩ := X0
  exact va_putF hx hb hts hin ty0 hty hnm hown hK (vp1 hq) (vd1 (A := fun x => x = q) rfl) hS 0 rfl hc j hj (hts _ hlq) (fun _ h => h) hfin hin2 hdecl (hty j hj) hn hfit hl hdg fun H1 locs1 hP1 hD1 hS1 => kk H1 locs1 (hP1 0 _ rfl) hS1
/-- super's constructor, of the same object -/
theorem o_call (X0 : xX p m c cc nL s args own D d) {q ci nz : Nat} {fs fs' : List Value} (hq : oA D q ci fs nz H) (hS : va_S (fun x => x = q) s.heap H locs) {y : MethodName} {cy : ByteArray} {ny : Nat} {rm : Room} {As : List Value} (hM : OV l y cy ny rm D d q ci nz fs (.ref q :: As) fs') (n : Nat) {idx : Nat} (h1 : Cond.methodLink own idx y ∈ lw_all) (h5 : Cond.instanceMethod y ∈ lw_all) (h6 : Cond.initialized y.cls ∈ lw_all) (h7 : Cond.code y cy ny none ∈ lw_all) (hrc : rm.cells = 0 ∧ rm.slots = 0) (hyn : y.name = "<init>") (hd : y.cls ≠ "java/lang/invoke/MethodHandle" ∧ y.cls ≠ "java/lang/invoke/VarHandle" ∧ (parseMethodDescriptor y.desc).map (fun d => d.parameters.length) = some n) (hRm : rm.frames + 1 ≤ R.frames ∧ 8 + (ny + 11) + rm.locals ≤ R.locals) (hcs : cells + 0 ≤ R.cells ∧ slots + 0 ≤ R.slots) (hn : As.length = n) (hl : ls.size = nL) (hst : st0 = As.reverse ++ .ref q :: rest) (hrm : (rest.map fun v => v.category).sum ≤ 8) (hdg : decode cc pc = .ok (.invokespecial idx, 3))
    (kk : ∀ (H1 : Heap) (locs1 : List Loc), va_at D vwCl (q, .inr (ci, fs')) H1 → va_S (fun x => x = q) s.heap H1 locs1 → W p l e R s m args below meth c H1 locs1 cells slots Q (F0 m (pc + 3) ls rest)) : W p l e R s m args below meth c H locs cells slots Q (F0 m pc ls st0) := by
  have hts := X0.1.1.2.2.2.2
  refine va_callv (va_runI (As := As) (rest := rest) X0.1.1 hM (cwI n hts (lw_meth h7) rfl hrc.1 hrc.2 (hts _ h6) (hts _ h1) (hts _ h5) hyn hd hRm) (o_preS X0.1.2 X0.2 hq) rfl hn hl hst (lv_room hrm) hdg hcs) hS (fun q _ h => h) (fun q h => h) fun u t H1 locs1 ht hvm hw hB hz hk1 hS1 => ?_
  subst hw
  exact kk H1 locs1 (by rw [← ht]; exact hB) hS1
end XNEW
