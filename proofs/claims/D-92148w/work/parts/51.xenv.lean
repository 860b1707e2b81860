/-! THE CLASS: what its walks stand on; rows over keys for inherited and nest fields, arrays of references. -/
set_option maxRecDepth 100000
/-- a word which a step keeps, beside the good ones -/
def nwOk : Cond → Bool
  | .fieldLinkNest .. => true
  | .methodLinkNest .. => true
  | c => c.faceAtom
def nc_list : List (String × String) := [("HammerTowers$Train", "HammerTowers$Plate"), ("HammerTowers$Snail", "HammerTowers$Plate"), ("HammerTowers$Train", "HammerTowers$Snail"), ("HammerTowers$Plate", "HammerTowers$Snail"), ("HammerTowers$Barrel", "HammerTowers$Snail"), ("HammerTowers$Train", "HammerTowers$Barrel"), ("HammerTowers$Plate", "HammerTowers$Barrel"), ("HammerTowers$Snail", "HammerTowers$Barrel"), ("java/lang/ArrayIndexOutOfBoundsException", "java/lang/NullPointerException")]
/-- a call through an interface lands in a default method -/
def xLd (C : String) (x y : MethodName) (U : State) : Prop := ∃ c r m, U.vm.findClass C = some c ∧ U.methodFound? x.cls x.name x.desc = some r ∧ U.methodNamed? y = some m ∧ selectMethod {} U.vm c r = .method m
def ld_h : MethodName := ⟨"HammerTowers$Struck", "hammers", "()I"⟩
def ld_s : MethodName := ⟨"HammerTowers$Struck", "struck", "()V"⟩
def ld_list : List (String × MethodName) := [("HammerTowers$Train", ld_h), ("HammerTowers$Plate", ld_h), ("HammerTowers$Snail", ld_h), ("HammerTowers$Train", ld_s), ("HammerTowers$Plate", ld_s), ("HammerTowers$Snail", ld_s)]
theorem xLd.of {C : String} {x y : MethodName} {A : Array Value} {U : State} (h : (Cond.landsInDefault C x y).before A U = true) : xLd C x y U := by
  simp only [Cond.before, Cond.holds, Cond.value] at h
  cases hc : U.vm.findClass C with
  | none => simp [hc] at h
  | some c =>
    cases hr : U.methodFound? x.cls x.name x.desc with
    | none => simp [hc, hr] at h
    | some r =>
      cases hm : U.methodNamed? y with
      | none => simp [hc, hr, hm] at h
      | some m =>
        refine ⟨c, r, m, hc, hr, hm, ?_⟩
        cases hrm : U.vm.method? r with
        | none => simp [hc, hr, hm, hrm] at h
        | some rm =>
          simp only [hc, hr, hm, hrm, Option.map_some] at h
          cases hs : selectMethod {} U.vm c r with
          | method m' =>
            simp [hs] at h
            rw [h.1.1.1.1]
          | _ => simp [hs] at h
theorem xLd.moved {C : String} {x y : MethodName} {u U : State} (hal : u.vm.Alike U.vm) (h : xLd C x y u) : xLd C x y U := by
  obtain ⟨c, r, m, h1, h2, h3, h4⟩ := h
  refine ⟨c, r, m, by rw [hal.findClass]; exact h1, ?_, ?_, by rw [hal.selectMethod]; exact h4⟩
  · exact (State.methodFound?_setVm (s := u) hal x.cls x.name x.desc).trans h2
  · exact (State.methodNamed?_setVm (s := u) hal y).trans h3
/-- the words beside lw_all: nests, casts, interfaces; pairs that aren't castable; the class of byte[][]; calls that land in defaults -/
def XE (d : Nat → ClassId) (U : State) : Prop := (∀ w ∈ lw_tbl, nwOk w = true → w.before #[] U = true) ∧ (∀ q ∈ nc_list, va_Nc q.1 q.2 U) ∧ (∃ kA : Class, U.vm.classes[d 3]? = some kA ∧ kA.kind = .array (d 2) (.array .byte)) ∧ ∀ q ∈ ld_list, xLd q.1 q.2 q.2 U
theorem nw_on {w : Cond} (h : nwOk w = true) : w.onTables = true := by
  cases w <;> first | rfl | exact absurd h (by simp [nwOk, Cond.faceAtom])
theorem nw_warm {w : Cond} (hk : nwOk w = true) {s U : State} (hW : s.WarmedH U.vm) (hb : w.before #[] s = true) : w.before #[] U = true := by
  by_cases hf : w.faceAtom = true
  · exact va_tabs (nw_on hk) (rfl : (s.setVm U.vm).vm = U.vm) (Cond.faceAtom_setVm hW.alike w hf hb)
  · cases w with
    | fieldLinkNest a i b n d h => exact va_Nw.warmF hW hb
    | methodLinkNest a i x h => exact va_Nw.warmM hW hb
    | _ => exact absurd hk hf
theorem XE.moved {d : Nat → ClassId} {s U : State} (hW : s.WarmedH U.vm) (h : XE d s) : XE d U := by
  refine ⟨fun w hw hk => nw_warm hk hW (h.1 w hw hk), fun q hq => (h.2.1 q hq).moved hW.alike, ?_, fun q hq => (h.2.2.2 q hq).moved hW.alike⟩
  obtain ⟨kA, h1, h2⟩ := h.2.2.1
  obtain ⟨k', hk', he⟩ := hW.alike.2.2 _ _ h1
  exact ⟨k', hk', by rw [he]; exact h2⟩
theorem XE.same {d : Nat → ClassId} {u U : State} (hv : u.vm = U.vm) (h : XE d u) : XE d U := by
  refine ⟨fun w hw hk => va_tabs (nw_on hk) hv (h.1 w hw hk), fun q hq => ?_, ?_, fun q hq => (h.2.2.2 q hq).moved (by rw [hv]; exact Vm.Alike.refl _)⟩
  · obtain ⟨a, b, h1, h2, h3⟩ := h.2.1 q hq
    exact ⟨a, b, by rw [← hv]; exact h1, by rw [← hv]; exact h2, by rw [← hv]; exact h3⟩
  · rw [← hv]; exact h.2.2.1
theorem XE.use {d : Nat → ClassId} {s : State} (h : XE d s) {w : Cond} (hw : w ∈ lw_tbl) (hk : nwOk w = true) {args : Array Value} : w.before args s = true := va_any (nw_on hk) (h.1 w hw hk)
theorem XE.nw {d : Nat → ClassId} {s : State} (h : XE d s) {w : Cond} (hw : w ∈ lw_tbl) (hk : nwOk w = true) : va_Nw w s := h.1 w hw hk
section XENV
variable {p : Program} {l : Launch} {e : Env} {R : Room} {s : State} {m : MethodId} {args : Array Value} {below : List Frame} {meth : Method} {c : Code} {H : Heap} {locs : List Loc} {cells slots : Nat} {Q : State → Prop}
variable {cc : ByteArray} {pc nL : Nat} {ls : Array Slot} {rest st0 : List Value} {D : va_G} {A : Nat → Prop} {d : Nat → ClassId} {own : String} {K : Type} {live : K → Prop} {ad : K → Nat} {C C' : K → va_E}
abbrev xX (p : Program) (m : MethodId) (c : Code) (cc : ByteArray) (nL : Nat) (s : State) (args : Array Value) (own : String) (D : va_G) (d : Nat → ClassId) : Prop := hp_X p m c cc nL s args own D d ∧ XE d s
/-- a field by the name of a class that has it from above -/
def xsame (ref C f t : String) : Prop := ref = C ∨ Cond.sameField ref C f t ∈ lw_all
theorem xsame.of {ref C f t : String} (h : xsame ref C f t) (hts : ∀ w ∈ lw_all, w.before args s = true) : ∀ x, s.fieldFound? C f t = some x → s.fieldFound? ref f t = some x := by
  rcases h with rfl | h
  · exact fun _ h => h
  · exact fun x hx => u_same (hts _ h) x hx
theorem hp_getR (X : hp_X p m c cc nL s args own D d) (hR : hp_R D A live ad C H) {k : K} (hk : live k) {ci : Nat} {fs : List Value} (hC : C k = .inr (ci, fs)) {CN : String} {T : u_T} {N : Nat} (hc : vwCl[ci]? = some (CN, T, N)) (hin : ∀ w ∈ u_ws CN T N, w ∈ lw_all) (j : Nat) (hj : j < N) {idx : Nat} {ref : String} (hq : Cond.fieldLink own idx ref (T j).2.1 (T j).2.2.1 ∈ lw_all) (hs : xsame ref (T j).1 (T j).2.1 (T j).2.2.1) {v : Value} (hv : fs[j]? = some v) (hdg : decode cc pc = .ok (.getfield idx, 3))
    (kk : W p l e R s m args below meth c H locs cells slots Q (F0 m (pc + 3) ls (v :: rest))) : W p l e R s m args below meth c H locs cells slots Q (F0 m pc ls (.ref (ad k) :: rest)) := by
  have hP := hR.one hk
  rw [hC] at hP
  obtain ⟨⟨hx, hb, hml, hown, hts⟩, hK⟩ := X
  exact va_get hx hb hts hin hown hK hP 0 rfl hc j hj (hts _ hq) (hs.of hts) hv hdg kk
theorem hp_putR (X : hp_X p m c cc nL s args own D d) (hR : hp_R D A live ad C H) (hS : va_S A s.heap H locs) {k : K} (hk : live k) {ci : Nat} {fs : List Value} (hC : C k = .inr (ci, fs)) {CN : String} {T : u_T} {N : Nat} (hc : vwCl[ci]? = some (CN, T, N)) (hin : ∀ w ∈ u_ws CN T N, w ∈ lw_all) {ty0 : Nat → FieldType} (hty : ∀ k, k < N → parseFieldDescriptor (T k).2.2.1 = some (ty0 k)) (hnm : ∀ a, a < N → ∀ b, b < N → a ≠ b → (T a).2.1 ≠ (T b).2.1) (j : Nat) (hj : j < N) {idx : Nat} {ref : String} (hq : Cond.fieldLink own idx ref (T j).2.1 (T j).2.2.1 ∈ lw_all) (hs : xsame ref (T j).1 (T j).2.1 (T j).2.2.1) (hfin : (T j).2.2.2 = false) {v : Value} (hn : narrow (ty0 j) v = v) (hfit : fits (ty0 j) v = true) (hl : j < fs.length) (hdg : decode cc pc = .ok (.putfield idx, 3))
    (h1 : C' k = .inr (ci, fs.set j v)) (h2 : ∀ k', live k' → k' ≠ k → C' k' = C k')
    (kk : ∀ (H : Heap) (locs : List Loc), hp_R D A live ad C' H → va_S A s.heap H locs → W p l e R s m args below meth c H locs cells slots Q (F0 m (pc + 3) ls rest)) : W p l e R s m args below meth c H locs cells slots Q (F0 m pc ls (v :: .ref (ad k) :: rest)) := by
  obtain ⟨L, f, ⟨hP, hD⟩, hf, hi⟩ := hR
  obtain ⟨k0, e0⟩ := va_pl_get (X := []) (f := f) (hf k hk).1
  obtain ⟨⟨hx, hb, hml, hown, hts⟩, hK⟩ := X
  refine va_put hx hb hts hin ty0 hty hnm hown hK hP hD hS k0 (by rw [e0, (hf k hk).2, hC]) hc j hj (hts _ hq) (hs.of hts) hfin (hty j hj) hn hfit hl hdg fun H1 locs1 hP1 hD1 hS1 => ?_
  rw [va_pl_set hD (hf k hk).1 e0] at hP1 hD1
  exact kk H1 locs1 (hp_R.upd ⟨hP1, hD1⟩ hf hi hk h1 h2) hS1
theorem hp_getN (X : xX p m c cc nL s args own D d) (hR : hp_R D A live ad C H) {k : K} (hk : live k) {ci : Nat} {fs : List Value} (hC : C k = .inr (ci, fs)) {CN : String} {T : u_T} {N : Nat} (hc : vwCl[ci]? = some (CN, T, N)) (hin : ∀ w ∈ u_ws CN T N, w ∈ lw_all) (j : Nat) (hj : j < N) {idx : Nat} {host : String} (hq : Cond.fieldLinkNest own idx (T j).1 (T j).2.1 (T j).2.2.1 host ∈ lw_tbl) {v : Value} (hv : fs[j]? = some v) (hdg : decode cc pc = .ok (.getfield idx, 3))
    (kk : W p l e R s m args below meth c H locs cells slots Q (F0 m (pc + 3) ls (v :: rest))) : W p l e R s m args below meth c H locs cells slots Q (F0 m pc ls (.ref (ad k) :: rest)) := by
  have hP := hR.one hk
  rw [hC] at hP
  have hw := X.2.use hq rfl (args := args)
  obtain ⟨⟨⟨hx, hb, hml, hown, hts⟩, hK⟩, hE⟩ := X
  exact va_getN hx hb hts hin hown hK hP 0 rfl hc j hj hw (fun _ h => h) hv hdg kk
theorem hp_putN (X : xX p m c cc nL s args own D d) (hR : hp_R D A live ad C H) (hS : va_S A s.heap H locs) {k : K} (hk : live k) {ci : Nat} {fs : List Value} (hC : C k = .inr (ci, fs)) {CN : String} {T : u_T} {N : Nat} (hc : vwCl[ci]? = some (CN, T, N)) (hin : ∀ w ∈ u_ws CN T N, w ∈ lw_all) {ty0 : Nat → FieldType} (hty : ∀ k, k < N → parseFieldDescriptor (T k).2.2.1 = some (ty0 k)) (hnm : ∀ a, a < N → ∀ b, b < N → a ≠ b → (T a).2.1 ≠ (T b).2.1) (j : Nat) (hj : j < N) {idx : Nat} {host : String} (hq : Cond.fieldLinkNest own idx (T j).1 (T j).2.1 (T j).2.2.1 host ∈ lw_tbl) (hfin : (T j).2.2.2 = false) {v : Value} (hn : narrow (ty0 j) v = v) (hfit : fits (ty0 j) v = true) (hl : j < fs.length) (hdg : decode cc pc = .ok (.putfield idx, 3))
    (h1 : C' k = .inr (ci, fs.set j v)) (h2 : ∀ k', live k' → k' ≠ k → C' k' = C k')
    (kk : ∀ (H : Heap) (locs : List Loc), hp_R D A live ad C' H → va_S A s.heap H locs → W p l e R s m args below meth c H locs cells slots Q (F0 m (pc + 3) ls rest)) : W p l e R s m args below meth c H locs cells slots Q (F0 m pc ls (v :: .ref (ad k) :: rest)) := by
  obtain ⟨L, f, ⟨hP, hD⟩, hf, hi⟩ := hR
  obtain ⟨k0, e0⟩ := va_pl_get (X := []) (f := f) (hf k hk).1
  have hw := X.2.use hq rfl (args := args)
  obtain ⟨⟨⟨hx, hb, hml, hown, hts⟩, hK⟩, hE⟩ := X
  refine va_putN hx hb hts hin ty0 hty hnm hown hK hP hD hS k0 (by rw [e0, (hf k hk).2, hC]) hc j hj hw (fun _ h => h) hfin (hty j hj) hn hfit hl hdg fun H1 locs1 hP1 hD1 hS1 => ?_
  rw [va_pl_set hD (hf k hk).1 e0] at hP1 hD1
  exact kk H1 locs1 (hp_R.upd ⟨hP1, hD1⟩ hf hi hk h1 h2) hS1
/-- a load out of an array of references -/
theorem hp_aald (X : hp_X p m c cc nL s args own D d) (hR : hp_R D A live ad C H) {k : K} (hk : live k) {cA : ClassId} {n : Nat} {f : Nat → Option Nat} (hC : C k = .inl (cA, n, .inr (.inr (.inr (.inr f))))) {ty : FieldType} (t0 : Nat) (ht : (dd_T d)[t0]? = some (cA, ty)) (hty : ty.isReference = true) {i : Int32} (hi : vp_in i n) {v : Value} (hv : va_rf (f i.toNatClampNeg) = v) (hdg : decode cc pc = .ok (.aaload, 1))
    (kk : W p l e R s m args below meth c H locs cells slots Q (F0 m (pc + 1) ls (v :: rest))) : W p l e R s m args below meth c H locs cells slots Q (F0 m pc ls (.int i :: .ref (ad k) :: rest)) := by
  have hP := hR.one hk
  rw [hC] at hP
  subst hv
  have hlt : i.toNatClampNeg < n := Nat.not_le.mp fun q => hi (Or.inr q)
  exact W.aald (v := va_rf (f i.toNatClampNeg)) (ty := ty) X.1.1 X.1.2.1 (hP 0 _ rfl) ((X.2.2 t0 _ ht).1 n (fun j => va_rf (f j))) hty (fun q => by cases q) (by show ¬ (i < 0 ∨ (arrV _ _ _).slots.size ≤ _); rw [arrV_size]; exact hi) (by show (arrV _ _ _).slots[_]? = _; rw [arrV_read _ _ hlt]) rfl rfl hdg kk
/-- a store of an object (of key kv) into an array of references -/
theorem hp_aast (X : hp_X p m c cc nL s args own D d) (hR : hp_R D A live ad C H) (hS : va_S A s.heap H locs) {k kv : K} (hk : live k) (hkv : live kv) {cA : ClassId} {n : Nat} {f : Nat → Option Nat} (hC : C k = .inl (cA, n, .inr (.inr (.inr (.inr f))))) {E : String} (t0 : Nat) (ht : (dd_T d)[t0]? = some (cA, .object E)) {ci : Nat} {vs : List Value} (hV : C kv = .inr (ci, vs)) {r : vw_C} (hc : vwCl[ci]? = some r) (hca : va_Nw (.castable r.1 E) s ∨ r.1 = E) {i : Int32} (hi : vp_in i n) (hdg : decode cc pc = .ok (.aastore, 1))
    (h1 : C' k = .inl (cA, n, .inr (.inr (.inr (.inr (va_up f i.toNatClampNeg (some (ad kv)))))))) (h2 : ∀ k', live k' → k' ≠ k → C' k' = C k')
    (kk : ∀ (H : Heap) (locs : List Loc), hp_R D A live ad C' H → va_S A s.heap H locs → W p l e R s m args below meth c H locs cells slots Q (F0 m (pc + 1) ls rest)) : W p l e R s m args below meth c H locs cells slots Q (F0 m pc ls (.ref (ad kv) :: .int i :: .ref (ad k) :: rest)) := by
  obtain ⟨L, g, ⟨hP, hD⟩, hf, hij⟩ := hR
  obtain ⟨k0, e0⟩ := va_pl_get (X := []) (f := g) (hf k hk).1
  obtain ⟨k1, e1⟩ := va_pl_get (X := []) (f := g) (hf kv hkv).1
  have go : ∀ (H1 : Heap) (locs1 : List Loc), va_P D vwCl (([] ++ va_pl L g).set k0 (ad k, .inl (cA, n, .inr (.inr (.inr (.inr (va_up f i.toNatClampNeg (some (ad kv))))))))) H1 → va_D A (([] ++ va_pl L g).set k0 (ad k, .inl (cA, n, .inr (.inr (.inr (.inr (va_up f i.toNatClampNeg (some (ad kv))))))))) → va_S A s.heap H1 locs1 → W p l e R s m args below meth c H1 locs1 cells slots Q (F0 m (pc + 1) ls rest) := by
    intro H1 locs1 hP1 hD1 hS1
    rw [va_pl_set hD (hf k hk).1 e0] at hP1 hD1
    exact kk H1 locs1 (hp_R.upd ⟨hP1, hD1⟩ hf hij hk h1 h2) hS1
  rcases hca with hca | hca
  · exact va_astqO X.1.1 X.1.2.1 X.2 hP hD hS k0 t0 k1 ci (by rw [e0, (hf k hk).2, hC]) ht hca (by rw [e1, (hf kv hkv).2, hV]) hc hi hdg go
  · subst hca
    exact va_astq X.1.1 X.1.2.1 X.2 hP hD hS k0 t0 k1 ci (by rw [e0, (hf k hk).2, hC]) ht (by rw [e1, (hf kv hkv).2, hV]) hc hi hdg go
theorem hp_aastN (X : hp_X p m c cc nL s args own D d) (hR : hp_R D A live ad C H) (hS : va_S A s.heap H locs) {k : K} (hk : live k) {cA : ClassId} {n : Nat} {f : Nat → Option Nat} (hC : C k = .inl (cA, n, .inr (.inr (.inr (.inr f))))) {E : String} (t0 : Nat) (ht : (dd_T d)[t0]? = some (cA, .object E)) {i : Int32} (hi : vp_in i n) (hdg : decode cc pc = .ok (.aastore, 1))
    (h1 : C' k = .inl (cA, n, .inr (.inr (.inr (.inr (va_up f i.toNatClampNeg none)))))) (h2 : ∀ k', live k' → k' ≠ k → C' k' = C k')
    (kk : ∀ (H : Heap) (locs : List Loc), hp_R D A live ad C' H → va_S A s.heap H locs → W p l e R s m args below meth c H locs cells slots Q (F0 m (pc + 1) ls rest)) : W p l e R s m args below meth c H locs cells slots Q (F0 m pc ls (.null :: .int i :: .ref (ad k) :: rest)) := by
  obtain ⟨L, g, ⟨hP, hD⟩, hf, hij⟩ := hR
  obtain ⟨k0, e0⟩ := va_pl_get (X := []) (f := g) (hf k hk).1
  refine va_astqN X.1.1 X.1.2.1 X.2 hP hD hS k0 t0 (by rw [e0, (hf k hk).2, hC]) ht hi hdg fun H1 locs1 hP1 hD1 hS1 => ?_
  rw [va_pl_set hD (hf k hk).1 e0] at hP1 hD1
  exact kk H1 locs1 (hp_R.upd ⟨hP1, hD1⟩ hf hij hk h1 h2) hS1
/-- null is looked at -/
theorem hp_ifnull0 (hx : p.tables.exec = Jvm.exec) (hb : c.code = cc) {off : Int} {tgt : Nat} (hdg : decode cc pc = .ok (.ifnull off, 3)) (ht : (pc : Int) + off = (tgt : Int)) (k : W p l e R s m args below meth c H locs cells slots Q (F0 m tgt ls rest)) : W p l e R s m args below meth c H locs cells slots Q (F0 m pc ls (.null :: rest)) := by
  intro T hT X
  obtain ⟨t, a, b⟩ := k T hT X
  refine ⟨t, ?_, b⟩
  jvm_step X.here [X.here.top, hx, hb, hdg, ht, Value.isRef]
  exact a
theorem hp_ifnonnull0 (hx : p.tables.exec = Jvm.exec) (hb : c.code = cc) {off : Int} (hdg : decode cc pc = .ok (.ifnonnull off, 3)) (k : W p l e R s m args below meth c H locs cells slots Q (F0 m (pc + 3) ls rest)) : W p l e R s m args below meth c H locs cells slots Q (F0 m pc ls (.null :: rest)) := by
  intro T hT X
  obtain ⟨t, a, b⟩ := k T hT X
  refine ⟨t, ?_, b⟩
  jvm_step X.here [X.here.top, hx, hb, hdg, Value.isRef]
  exact a
end XENV
