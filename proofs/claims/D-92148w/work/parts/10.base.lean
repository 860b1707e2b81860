/-! BASE ROWS: a heap by keys. -/
set_option maxRecDepth 100000
def TT2 : u_T := fun k => match k with
  | 0 => ("HammerTowers$Train", "number", "I", true)
  | 1 => ("HammerTowers$Train", "pace", "I", false)
  | 2 => ("HammerTowers$Train", "fall", "I", false)
  | 3 => ("HammerTowers$Train", "weight", "I", false)
  | 4 => ("HammerTowers$Train", "broken", "I", false)
  | 5 => ("HammerTowers$Train", "due", "I", false)
  | 6 => ("HammerTowers$Train", "ever", "I", false)
  | 7 => ("HammerTowers$Train", "place", "I", false)
  | 8 => ("HammerTowers$Train", "isWarned", "Z", false)
  | _ => ("HammerTowers$Train", "lifts", "Z", false)
def TT3 : u_T := fun k => match k with
  | 0 => ("HammerTowers$Train", "number", "I", true)
  | 1 => ("HammerTowers$Train", "pace", "I", false)
  | 2 => ("HammerTowers$Train", "fall", "I", false)
  | 3 => ("HammerTowers$Train", "weight", "I", false)
  | 4 => ("HammerTowers$Train", "broken", "I", false)
  | 5 => ("HammerTowers$Train", "due", "I", false)
  | 6 => ("HammerTowers$Train", "ever", "I", false)
  | 7 => ("HammerTowers$Train", "place", "I", false)
  | 8 => ("HammerTowers$Train", "isWarned", "Z", false)
  | 9 => ("HammerTowers$Train", "lifts", "Z", false)
  | 10 => ("HammerTowers$Plate", "notches", "[I", true)
  | _ => ("HammerTowers$Plate", "at", "I", false)
def TT4 : u_T := fun k => match k with
  | 0 => ("HammerTowers$Train", "number", "I", true)
  | 1 => ("HammerTowers$Train", "pace", "I", false)
  | 2 => ("HammerTowers$Train", "fall", "I", false)
  | 3 => ("HammerTowers$Train", "weight", "I", false)
  | 4 => ("HammerTowers$Train", "broken", "I", false)
  | 5 => ("HammerTowers$Train", "due", "I", false)
  | 6 => ("HammerTowers$Train", "ever", "I", false)
  | 7 => ("HammerTowers$Train", "place", "I", false)
  | 8 => ("HammerTowers$Train", "isWarned", "Z", false)
  | 9 => ("HammerTowers$Train", "lifts", "Z", false)
  | _ => ("HammerTowers$Snail", "steps", "[I", true)
def TT5 : u_T := fun k => match k with
  | 0 => ("HammerTowers$Train", "number", "I", true)
  | 1 => ("HammerTowers$Train", "pace", "I", false)
  | 2 => ("HammerTowers$Train", "fall", "I", false)
  | 3 => ("HammerTowers$Train", "weight", "I", false)
  | 4 => ("HammerTowers$Train", "broken", "I", false)
  | 5 => ("HammerTowers$Train", "due", "I", false)
  | 6 => ("HammerTowers$Train", "ever", "I", false)
  | 7 => ("HammerTowers$Train", "place", "I", false)
  | 8 => ("HammerTowers$Train", "isWarned", "Z", false)
  | 9 => ("HammerTowers$Train", "lifts", "Z", false)
  | 10 => ("HammerTowers$Plate", "notches", "[I", true)
  | 11 => ("HammerTowers$Plate", "at", "I", false)
  | 12 => ("HammerTowers$Barrel", "pins", "[I", true)
  | _ => ("HammerTowers$Barrel", "pin", "I", false)
def ty_TT (c : Nat) : Nat → FieldType := fun k => match k with
  | 8 => .boolean
  | 9 => .boolean
  | 10 => if c = 2 then .int else .array .int
  | 12 => .array .int
  | _ => .int
theorem nm_T2 : ∀ a, a < 10 → ∀ b, b < 10 → a ≠ b → (TT2 a).2.1 ≠ (TT2 b).2.1 := by decide +kernel
theorem nm_T3 : ∀ a, a < 12 → ∀ b, b < 12 → a ≠ b → (TT3 a).2.1 ≠ (TT3 b).2.1 := by decide +kernel
theorem nm_T4 : ∀ a, a < 11 → ∀ b, b < 11 → a ≠ b → (TT4 a).2.1 ≠ (TT4 b).2.1 := by decide +kernel
theorem nm_T5 : ∀ a, a < 14 → ∀ b, b < 14 → a ≠ b → (TT5 a).2.1 ≠ (TT5 b).2.1 := by decide +kernel
theorem ty_T2 : ∀ k, k < 10 → parseFieldDescriptor (TT2 k).2.2.1 = some (ty_TT 2 k) := by decide +kernel
theorem ty_T3 : ∀ k, k < 12 → parseFieldDescriptor (TT3 k).2.2.1 = some (ty_TT 3 k) := by decide +kernel
theorem ty_T4 : ∀ k, k < 11 → parseFieldDescriptor (TT4 k).2.2.1 = some (ty_TT 4 k) := by decide +kernel
theorem ty_T5 : ∀ k, k < 14 → parseFieldDescriptor (TT5 k).2.2.1 = some (ty_TT 5 k) := by decide +kernel
theorem in_T2 : ∀ w ∈ u_ws RX2 TT2 10, w ∈ lw_all := lw_in (u_ws RX2 TT2 10) [389, 391, 393, 395, 397, 399, 401, 403, 405, 407] (by decide +kernel) (by decide +kernel)
theorem in_T3 : ∀ w ∈ u_ws RX3 TT3 12, w ∈ lw_all := lw_in (u_ws RX3 TT3 12) [439, 440, 441, 442, 443, 444, 445, 446, 447, 448, 433, 435] (by decide +kernel) (by decide +kernel)
theorem in_T4 : ∀ w ∈ u_ws RX4 TT4 11, w ∈ lw_all := lw_in (u_ws RX4 TT4 11) [467, 468, 469, 470, 471, 472, 473, 474, 475, 476, 463] (by decide +kernel) (by decide +kernel)
theorem in_T5 : ∀ w ∈ u_ws RX5 TT5 14, w ∈ lw_all := lw_in (u_ws RX5 TT5 14) [502, 503, 504, 505, 506, 507, 508, 509, 510, 511, 499, 500, 493, 495] (by decide +kernel) (by decide +kernel)
/-- the classes whose objects the worlds hold -/
abbrev vwCl : List vw_C := [(RX0, TX0, 29), (RX1, TX1, 56), (RX2, TT2, 10), (RX3, TT3, 12), (RX4, TT4, 11), (RX5, TT5, 14), (RX6, TX6, 12)]
/-- the array classes -/
abbrev dd_T (d : Nat → ClassId) : List (ClassId × FieldType) := [(d 0, .int), (d 1, .boolean), (d 2, .byte), (d 3, .array .byte), (d 4, .object "HammerTowers$Train"), (d 5, .object "HammerTowers$Tower")]
def hs_P (D : va_G) (A : Nat → Prop) (L : List Nat) (f : Nat → va_E) (H : Heap) : Prop := va_P D vwCl ([] ++ va_pl L f) H ∧ va_D A ([] ++ va_pl L f)
/-- for every live key k the heap holds the cell C k at the address ad k; live keys have different addresses, and they lie in A -/
def hp_R {K : Type} (D : va_G) (A : Nat → Prop) (live : K → Prop) (ad : K → Nat) (C : K → va_E) (H : Heap) : Prop :=
  ∃ (L : List Nat) (f : Nat → va_E), hs_P D A L f H ∧ (∀ k, live k → ad k ∈ L ∧ f (ad k) = C k) ∧ ∀ k k', live k → live k' → ad k = ad k' → k = k'
theorem hp_R.one {K : Type} {D : va_G} {A : Nat → Prop} {live : K → Prop} {ad : K → Nat} {C : K → va_E} {H : Heap} (h : hp_R D A live ad C H) {k : K} (hk : live k) : va_P D vwCl [(ad k, C k)] H := by
  obtain ⟨L, f, ⟨hP, hD⟩, hf, hi⟩ := h
  obtain ⟨k0, e0⟩ := va_pl_get (X := []) (f := f) (hf k hk).1
  rw [(hf k hk).2] at e0
  intro i q hq
  match i, hq with
  | 0, hq => cases hq; exact hP k0 _ e0
  | i + 1, hq => simp at hq
theorem hp_R.in_A {K : Type} {D : va_G} {A : Nat → Prop} {live : K → Prop} {ad : K → Nat} {C : K → va_E} {H : Heap} (h : hp_R D A live ad C H) {k : K} (hk : live k) : A (ad k) := by
  obtain ⟨L, f, ⟨hP, hD⟩, hf, hi⟩ := h
  obtain ⟨k0, e0⟩ := va_pl_get (X := []) (f := f) (hf k hk).1
  exact hD.2 k0 _ e0
theorem hp_R.lt {K : Type} {D : va_G} {A : Nat → Prop} {live : K → Prop} {ad : K → Nat} {C : K → va_E} {H : Heap} (h : hp_R D A live ad C H) {k : K} (hk : live k) : ad k < H.size :=
  va_at.lt (q := (ad k, C k)) (h.one hk 0 _ rfl)
theorem hp_R.upd {K : Type} {D : va_G} {A : Nat → Prop} {live : K → Prop} {ad : K → Nat} {C C' : K → va_E} {H1 : Heap} {L : List Nat} {f : Nat → va_E} {k : K} {e : va_E} (hs : hs_P D A L (va_up f (ad k) e) H1) (hf : ∀ k, live k → ad k ∈ L ∧ f (ad k) = C k) (hi : ∀ k k', live k → live k' → ad k = ad k' → k = k') (hk : live k) (h1 : C' k = e) (h2 : ∀ k', live k' → k' ≠ k → C' k' = C k') : hp_R D A live ad C' H1 := by
  refine ⟨L, va_up f (ad k) e, hs, fun k' hk' => ⟨(hf k' hk').1, ?_⟩, hi⟩
  by_cases h : k' = k
  · subst h
    rw [va_up_self, h1]
  · rw [va_up_ne _ _ (fun q => h (hi _ _ hk' hk q)), h2 k' hk' h, (hf k' hk').2]
/-- a world out of a's cells: the same heap, the cells unchanged -/
theorem hp_R.kept {K : Type} {D : va_G} {A : Nat → Prop} {live : K → Prop} {ad : K → Nat} {C : K → va_E} {H H1 : Heap} (h : hp_R D A live ad C H) (hk : ∀ q : Nat, q < H.size → A q → H1[q]? = H[q]?) : hp_R D A live ad C H1 := by
  obtain ⟨L, f, ⟨hP, hD⟩, hf, hi⟩ := h
  exact ⟨L, f, ⟨hP.kept (fun k q hq => hk q.1 (va_at.lt (hP k q hq)) (hD.2 k q hq)), hD⟩, hf, hi⟩
section ROWS
variable {p : Program} {l : Launch} {e : Env} {R : Room} {s : State} {m : MethodId} {args : Array Value} {below : List Frame} {meth : Method} {c : Code} {H : Heap} {locs : List Loc} {cells slots : Nat} {Q : State → Prop}
variable {cc : ByteArray} {pc nL : Nat} {ls : Array Slot} {rest st0 : List Value} {D : va_G} {A : Nat → Prop} {d : Nat → ClassId} {own : String} {K : Type} {live : K → Prop} {ad : K → Nat} {C C' : K → va_E}
/-- what a walk stands on -/
abbrev hp_X (p : Program) (m : MethodId) (c : Code) (cc : ByteArray) (nL : Nat) (s : State) (args : Array Value) (own : String) (D : va_G) (d : Nat → ClassId) : Prop := CallFix p m c cc nL s args lw_all own ∧ va_K D vwCl (dd_T d) s
theorem hp_get (X : hp_X p m c cc nL s args own D d) (hR : hp_R D A live ad C H) {k : K} (hk : live k) {ci : Nat} {fs : List Value} (hC : C k = .inr (ci, fs)) {CN : String} {T : u_T} {N : Nat} (hc : vwCl[ci]? = some (CN, T, N)) (hin : ∀ w ∈ u_ws CN T N, w ∈ lw_all) (j : Nat) (hj : j < N) {idx : Nat} (hq : Cond.fieldLink own idx (T j).1 (T j).2.1 (T j).2.2.1 ∈ lw_all) {v : Value} (hv : fs[j]? = some v) (hdg : decode cc pc = .ok (.getfield idx, 3))
    (kk : W p l e R s m args below meth c H locs cells slots Q (F0 m (pc + 3) ls (v :: rest))) : W p l e R s m args below meth c H locs cells slots Q (F0 m pc ls (.ref (ad k) :: rest)) := by
  have hP := hR.one hk
  rw [hC] at hP
  obtain ⟨⟨hx, hb, hml, hown, hts⟩, hK⟩ := X
  exact va_get hx hb hts hin hown hK hP 0 rfl hc j hj (hts _ hq) (fun _ h => h) hv hdg kk
theorem hp_put (X : hp_X p m c cc nL s args own D d) (hR : hp_R D A live ad C H) (hS : va_S A s.heap H locs) {k : K} (hk : live k) {ci : Nat} {fs : List Value} (hC : C k = .inr (ci, fs)) {CN : String} {T : u_T} {N : Nat} (hc : vwCl[ci]? = some (CN, T, N)) (hin : ∀ w ∈ u_ws CN T N, w ∈ lw_all) {ty0 : Nat → FieldType} (hty : ∀ k, k < N → parseFieldDescriptor (T k).2.2.1 = some (ty0 k)) (hnm : ∀ a, a < N → ∀ b, b < N → a ≠ b → (T a).2.1 ≠ (T b).2.1) (j : Nat) (hj : j < N) {idx : Nat} (hq : Cond.fieldLink own idx (T j).1 (T j).2.1 (T j).2.2.1 ∈ lw_all) (hfin : (T j).2.2.2 = false) {v : Value} (hn : narrow (ty0 j) v = v) (hfit : fits (ty0 j) v = true) (hl : j < fs.length) (hdg : decode cc pc = .ok (.putfield idx, 3))
    (h1 : C' k = .inr (ci, fs.set j v)) (h2 : ∀ k', live k' → k' ≠ k → C' k' = C k')
    (kk : ∀ (H : Heap) (locs : List Loc), hp_R D A live ad C' H → va_S A s.heap H locs → W p l e R s m args below meth c H locs cells slots Q (F0 m (pc + 3) ls rest)) : W p l e R s m args below meth c H locs cells slots Q (F0 m pc ls (v :: .ref (ad k) :: rest)) := by
  obtain ⟨L, f, ⟨hP, hD⟩, hf, hi⟩ := hR
  obtain ⟨k0, e0⟩ := va_pl_get (X := []) (f := f) (hf k hk).1
  obtain ⟨⟨hx, hb, hml, hown, hts⟩, hK⟩ := X
  refine va_put hx hb hts hin ty0 hty hnm hown hK hP hD hS k0 (by rw [e0, (hf k hk).2, hC]) hc j hj (hts _ hq) (fun _ h => h) hfin (hty j hj) hn hfit hl hdg fun H1 locs1 hP1 hD1 hS1 => ?_
  rw [va_pl_set hD (hf k hk).1 e0] at hP1 hD1
  exact kk H1 locs1 (hp_R.upd ⟨hP1, hD1⟩ hf hi hk h1 h2) hS1
theorem hp_ald (X : hp_X p m c cc nL s args own D d) (hR : hp_R D A live ad C H) {k : K} (hk : live k) {n : Nat} {f : Nat → Int32} (hC : C k = .inl (d 0, n, .inl f)) {i v : Int32} (hi : vp_in i n) (hv : f i.toNatClampNeg = v) (hdg : decode cc pc = .ok (.iaload, 1))
    (kk : W p l e R s m args below meth c H locs cells slots Q (F0 m (pc + 1) ls (.int v :: rest))) : W p l e R s m args below meth c H locs cells slots Q (F0 m pc ls (.int i :: .ref (ad k) :: rest)) := by
  have hP := hR.one hk
  rw [hC] at hP
  subst hv
  exact va_iald X.1.1 X.1.2.1 X.2 hP 0 0 rfl rfl hi hdg kk
theorem hp_zld (X : hp_X p m c cc nL s args own D d) (hR : hp_R D A live ad C H) {k : K} (hk : live k) {n : Nat} {f : Nat → Int32} (hC : C k = .inl (d 1, n, .inl f)) {i v : Int32} (hi : vp_in i n) (hv : f i.toNatClampNeg = v) (hdg : decode cc pc = .ok (.baload, 1))
    (kk : W p l e R s m args below meth c H locs cells slots Q (F0 m (pc + 1) ls (.int v :: rest))) : W p l e R s m args below meth c H locs cells slots Q (F0 m pc ls (.int i :: .ref (ad k) :: rest)) := by
  have hP := hR.one hk
  rw [hC] at hP
  subst hv
  exact va_zald X.1.1 X.1.2.1 X.2 hP 0 1 rfl rfl hi hdg kk
theorem hp_bld (X : hp_X p m c cc nL s args own D d) (hR : hp_R D A live ad C H) {k : K} (hk : live k) {n : Nat} {f : Nat → Int32} (hC : C k = .inl (d 2, n, .inl f)) {i v : Int32} (hi : vp_in i n) (hv : f i.toNatClampNeg = v) (hdg : decode cc pc = .ok (.baload, 1))
    (kk : W p l e R s m args below meth c H locs cells slots Q (F0 m (pc + 1) ls (.int v :: rest))) : W p l e R s m args below meth c H locs cells slots Q (F0 m pc ls (.int i :: .ref (ad k) :: rest)) := by
  have hP := hR.one hk
  rw [hC] at hP
  subst hv
  exact va_bald X.1.1 X.1.2.1 X.2 hP 0 2 rfl rfl hi hdg kk
theorem hp_ast (X : hp_X p m c cc nL s args own D d) (hR : hp_R D A live ad C H) (hS : va_S A s.heap H locs) {k : K} (hk : live k) {n : Nat} {f : Nat → Int32} (hC : C k = .inl (d 0, n, .inl f)) {i v : Int32} (hi : vp_in i n) (hdg : decode cc pc = .ok (.iastore, 1))
    (h1 : C' k = .inl (d 0, n, .inl (upd f i.toNatClampNeg v))) (h2 : ∀ k', live k' → k' ≠ k → C' k' = C k')
    (kk : ∀ (H : Heap) (locs : List Loc), hp_R D A live ad C' H → va_S A s.heap H locs → W p l e R s m args below meth c H locs cells slots Q (F0 m (pc + 1) ls rest)) : W p l e R s m args below meth c H locs cells slots Q (F0 m pc ls (.int v :: .int i :: .ref (ad k) :: rest)) := by
  obtain ⟨L, g, ⟨hP, hD⟩, hf, hij⟩ := hR
  obtain ⟨k0, e0⟩ := va_pl_get (X := []) (f := g) (hf k hk).1
  refine va_iast X.1.1 X.1.2.1 X.2 hP hD hS k0 0 (by rw [e0, (hf k hk).2, hC]) rfl hi hdg fun H1 locs1 hP1 hD1 hS1 => ?_
  rw [va_pl_set hD (hf k hk).1 e0] at hP1 hD1
  exact kk H1 locs1 (hp_R.upd ⟨hP1, hD1⟩ hf hij hk h1 h2) hS1
theorem hp_zst (X : hp_X p m c cc nL s args own D d) (hR : hp_R D A live ad C H) (hS : va_S A s.heap H locs) {k : K} (hk : live k) {n : Nat} {f : Nat → Int32} (hC : C k = .inl (d 1, n, .inl f)) {i v : Int32} (hi : vp_in i n) (hz : v = 0 ∨ v = 1) (hdg : decode cc pc = .ok (.bastore, 1))
    (h1 : C' k = .inl (d 1, n, .inl (upd f i.toNatClampNeg v))) (h2 : ∀ k', live k' → k' ≠ k → C' k' = C k')
    (kk : ∀ (H : Heap) (locs : List Loc), hp_R D A live ad C' H → va_S A s.heap H locs → W p l e R s m args below meth c H locs cells slots Q (F0 m (pc + 1) ls rest)) : W p l e R s m args below meth c H locs cells slots Q (F0 m pc ls (.int v :: .int i :: .ref (ad k) :: rest)) := by
  obtain ⟨L, g, ⟨hP, hD⟩, hf, hij⟩ := hR
  obtain ⟨k0, e0⟩ := va_pl_get (X := []) (f := g) (hf k hk).1
  refine va_zast X.1.1 X.1.2.1 X.2 hP hD hS k0 1 (by rw [e0, (hf k hk).2, hC]) rfl hi hdg fun H1 locs1 hP1 hD1 hS1 => ?_
  have hnv : vp_nar .boolean v = v := by rcases hz with rfl | rfl <;> rfl
  rw [va_pl_set hD (hf k hk).1 e0, hnv] at hP1 hD1
  exact kk H1 locs1 (hp_R.upd ⟨hP1, hD1⟩ hf hij hk h1 h2) hS1
theorem hp_bst (X : hp_X p m c cc nL s args own D d) (hR : hp_R D A live ad C H) (hS : va_S A s.heap H locs) {k : K} (hk : live k) {n : Nat} {f : Nat → Int32} (hC : C k = .inl (d 2, n, .inl f)) {i v : Int32} (hi : vp_in i n) (hdg : decode cc pc = .ok (.bastore, 1))
    (h1 : C' k = .inl (d 2, n, .inl (upd f i.toNatClampNeg v.toInt8.toInt32))) (h2 : ∀ k', live k' → k' ≠ k → C' k' = C k')
    (kk : ∀ (H : Heap) (locs : List Loc), hp_R D A live ad C' H → va_S A s.heap H locs → W p l e R s m args below meth c H locs cells slots Q (F0 m (pc + 1) ls rest)) : W p l e R s m args below meth c H locs cells slots Q (F0 m pc ls (.int v :: .int i :: .ref (ad k) :: rest)) := by
  obtain ⟨L, g, ⟨hP, hD⟩, hf, hij⟩ := hR
  obtain ⟨k0, e0⟩ := va_pl_get (X := []) (f := g) (hf k hk).1
  refine va_bast X.1.1 X.1.2.1 X.2 hP hD hS k0 2 (by rw [e0, (hf k hk).2, hC]) rfl hi hdg fun H1 locs1 hP1 hD1 hS1 => ?_
  rw [va_pl_set hD (hf k hk).1 e0, vp_nar_byte] at hP1 hD1
  exact kk H1 locs1 (hp_R.upd ⟨hP1, hD1⟩ hf hij hk h1 h2) hS1
theorem hp_alen (X : hp_X p m c cc nL s args own D d) (hR : hp_R D A live ad C H) {k : K} (hk : live k) {cA : ClassId} {n : Nat} {x} (hC : C k = .inl (cA, n, x)) {ty : FieldType} (t0 : Nat) (ht : (dd_T d)[t0]? = some (cA, ty)) {v : Int32} (hv : nI n = v) (hdg : decode cc pc = .ok (.arraylength, 1))
    (kk : W p l e R s m args below meth c H locs cells slots Q (F0 m (pc + 1) ls (.int v :: rest))) : W p l e R s m args below meth c H locs cells slots Q (F0 m pc ls (.ref (ad k) :: rest)) := by
  have hP := hR.one hk
  rw [hC] at hP
  exact va_alen X.1.1 X.1.2.1 X.2 hP 0 t0 rfl ht hv hdg kk
/-- an index, told by the numbers -/
theorem ix_ {i : Int32} {n : Nat} (hn : n < 2 ^ 31) (h : 0 ≤ i ∧ i < nI n) : vp_in i n := by
  rw [vp_in_iff]
  obtain ⟨h0, h1⟩ := h
  rw [Int32.le_iff_toInt_le, Int32.toInt_zero] at h0
  rw [Int32.lt_iff_toInt_lt, nI_toInt hn] at h1
  exact ⟨h0, h1⟩
abbrev rm_ (n : Nat) : Room := { frames := n, cells := 0, slots := 0, locals := 60 * n }
/-- a static method of numbers alone: it answers r -/
def SI (l : Launch) (y : MethodName) (cy : ByteArray) (ny : Nat) (ty : FieldType) (rm : Room) (av : List Value) (r : Int32) : Prop := Met l y (ws_ y cy ny (some ty)) rm (va_Pc av (fun _ => True)) (vp_Si (fun r' => r' = r)) 0 0 (fun _ => False)
def SL (l : Launch) (y : MethodName) (cy : ByteArray) (ny : Nat) (rm : Room) (av : List Value) (r : Int64) : Prop := Met l y (ws_ y cy ny (some .long)) rm (va_Pc av (fun _ => True)) (vp_Sl (fun r' => r' = r)) 0 0 (fun _ => False)
theorem s_ci (X : CallFix p m c cc nL s args lw_all own) {y : MethodName} {cy : ByteArray} {ny : Nat} {ty : FieldType} {rm : Room} {As : List Value} {r : Int32} (hM : SI l y cy ny ty rm As r) (n : Nat) {idx : Nat} (hG : GoodIn lw_all (va_wsS own idx y (ws_ y cy ny (some ty)))) (hrc : rm.cells = 0 ∧ rm.slots = 0) (hd : y.cls ≠ "java/lang/invoke/MethodHandle" ∧ y.cls ≠ "java/lang/invoke/VarHandle" ∧ (parseMethodDescriptor y.desc).map (fun d => d.parameters.length) = some n) (hRm : rm.frames + 1 ≤ R.frames ∧ 8 + (ny + 11) + rm.locals ≤ R.locals) (hcs : cells + 0 ≤ R.cells ∧ slots + 0 ≤ R.slots) (hn : As.length = n) (hl : ls.size = nL) (hst : st0 = As.reverse ++ rest) (hrm : (rest.map fun v => v.category).sum ≤ 8) (hdg : decode cc pc = .ok (.invokestatic idx, 3))
    (kk : W p l e R s m args below meth c H locs cells slots Q (F0 m (pc + 3) ls (.int r :: rest))) : W p l e R s m args below meth c H locs cells slots Q (F0 m pc ls st0) := by
  refine vp_callSi (W.runS (As := As) (rest := rest) X hM (va_cwS n X.2.2.2.2 hG rfl hrc.1 hrc.2 hd hRm) ⟨fun a U g mk q => ⟨q.1, trivial⟩, fun U hU hW => ⟨rfl, trivial⟩⟩ rfl hn hl hst (lv_room hrm) hdg hcs) fun r' h => ?_
  subst h
  exact kk
theorem s_cl (X : CallFix p m c cc nL s args lw_all own) {y : MethodName} {cy : ByteArray} {ny : Nat} {rm : Room} {As : List Value} {r : Int64} (hM : SL l y cy ny rm As r) (n : Nat) {idx : Nat} (hG : GoodIn lw_all (va_wsS own idx y (ws_ y cy ny (some .long)))) (hrc : rm.cells = 0 ∧ rm.slots = 0) (hd : y.cls ≠ "java/lang/invoke/MethodHandle" ∧ y.cls ≠ "java/lang/invoke/VarHandle" ∧ (parseMethodDescriptor y.desc).map (fun d => d.parameters.length) = some n) (hRm : rm.frames + 1 ≤ R.frames ∧ 8 + (ny + 11) + rm.locals ≤ R.locals) (hcs : cells + 0 ≤ R.cells ∧ slots + 0 ≤ R.slots) (hn : As.length = n) (hl : ls.size = nL) (hst : st0 = As.reverse ++ rest) (hrm : (rest.map fun v => v.category).sum ≤ 8) (hdg : decode cc pc = .ok (.invokestatic idx, 3))
    (kk : W p l e R s m args below meth c H locs cells slots Q (F0 m (pc + 3) ls (.long r :: rest))) : W p l e R s m args below meth c H locs cells slots Q (F0 m pc ls st0) := by
  refine vp_callSl (W.runS (As := As) (rest := rest) X hM (va_cwS n X.2.2.2.2 hG rfl hrc.1 hrc.2 hd hRm) ⟨fun a U g mk q => ⟨q.1, trivial⟩, fun U hU hW => ⟨rfl, trivial⟩⟩ rfl hn hl hst (lv_room hrm) hdg hcs) fun r' h => ?_
  subst h
  exact kk
/-- long compares and their branches, in one row -/
theorem hl_eq (hx : p.tables.exec = Jvm.exec) (hb : c.code = cc) {x y : Int64} {off : Int} {tgt : Nat} (h1 : decode cc pc = .ok (.lcmp, 1)) (h2 : decode cc (pc + 1) = .ok (.ifCond .eq off, 3)) (ht : ((pc + 1 : Nat) : Int) + off = (tgt : Int))
    (kt : x = y → W p l e R s m args below meth c H locs cells slots Q (F0 m tgt ls rest)) (kf : ¬ x = y → W p l e R s m args below meth c H locs cells slots Q (F0 m (pc + 1 + 3) ls rest)) : W p l e R s m args below meth c H locs cells slots Q (F0 m pc ls (.long y :: .long x :: rest)) :=
  W.lcmp hx hb h1 (lv_if_eq hx hb h2 ht (fun h => kt ((lg_cmp_eq x y).mp h)) (fun h => kf (fun q => h ((lg_cmp_eq x y).mpr q))))
theorem hl_ne (hx : p.tables.exec = Jvm.exec) (hb : c.code = cc) {x y : Int64} {off : Int} {tgt : Nat} (h1 : decode cc pc = .ok (.lcmp, 1)) (h2 : decode cc (pc + 1) = .ok (.ifCond .ne off, 3)) (ht : ((pc + 1 : Nat) : Int) + off = (tgt : Int))
    (kt : ¬ x = y → W p l e R s m args below meth c H locs cells slots Q (F0 m tgt ls rest)) (kf : x = y → W p l e R s m args below meth c H locs cells slots Q (F0 m (pc + 1 + 3) ls rest)) : W p l e R s m args below meth c H locs cells slots Q (F0 m pc ls (.long y :: .long x :: rest)) :=
  W.lcmp hx hb h1 (lv_if_ne hx hb h2 ht (fun h => kt (fun q => h ((lg_cmp_eq x y).mpr q))) (fun h => kf ((lg_cmp_eq x y).mp h)))
theorem hl_lt (hx : p.tables.exec = Jvm.exec) (hb : c.code = cc) {x y : Int64} {off : Int} {tgt : Nat} (h1 : decode cc pc = .ok (.lcmp, 1)) (h2 : decode cc (pc + 1) = .ok (.ifCond .lt off, 3)) (ht : ((pc + 1 : Nat) : Int) + off = (tgt : Int))
    (kt : x < y → W p l e R s m args below meth c H locs cells slots Q (F0 m tgt ls rest)) (kf : ¬ x < y → W p l e R s m args below meth c H locs cells slots Q (F0 m (pc + 1 + 3) ls rest)) : W p l e R s m args below meth c H locs cells slots Q (F0 m pc ls (.long y :: .long x :: rest)) :=
  W.lcmp hx hb h1 (lv_if_lt hx hb h2 ht (fun h => kt ((lg_cmp_lt x y).mp h)) (fun h => kf (fun q => h ((lg_cmp_lt x y).mpr q))))
theorem hl_ge (hx : p.tables.exec = Jvm.exec) (hb : c.code = cc) {x y : Int64} {off : Int} {tgt : Nat} (h1 : decode cc pc = .ok (.lcmp, 1)) (h2 : decode cc (pc + 1) = .ok (.ifCond .ge off, 3)) (ht : ((pc + 1 : Nat) : Int) + off = (tgt : Int))
    (kt : y ≤ x → W p l e R s m args below meth c H locs cells slots Q (F0 m tgt ls rest)) (kf : ¬ y ≤ x → W p l e R s m args below meth c H locs cells slots Q (F0 m (pc + 1 + 3) ls rest)) : W p l e R s m args below meth c H locs cells slots Q (F0 m pc ls (.long y :: .long x :: rest)) :=
  W.lcmp hx hb h1 (lv_if_ge hx hb h2 ht (fun h => kt ((lg_cmp_ge x y).mp h)) (fun h => kf (fun q => h ((lg_cmp_ge x y).mpr q))))
theorem hl_gt (hx : p.tables.exec = Jvm.exec) (hb : c.code = cc) {x y : Int64} {off : Int} {tgt : Nat} (h1 : decode cc pc = .ok (.lcmp, 1)) (h2 : decode cc (pc + 1) = .ok (.ifCond .gt off, 3)) (ht : ((pc + 1 : Nat) : Int) + off = (tgt : Int))
    (kt : y < x → W p l e R s m args below meth c H locs cells slots Q (F0 m tgt ls rest)) (kf : ¬ y < x → W p l e R s m args below meth c H locs cells slots Q (F0 m (pc + 1 + 3) ls rest)) : W p l e R s m args below meth c H locs cells slots Q (F0 m pc ls (.long y :: .long x :: rest)) :=
  W.lcmp hx hb h1 (lv_if_gt hx hb h2 ht (fun h => kt ((lg_cmp_gt x y).mp h)) (fun h => kf (fun q => h ((lg_cmp_gt x y).mpr q))))
theorem hl_le (hx : p.tables.exec = Jvm.exec) (hb : c.code = cc) {x y : Int64} {off : Int} {tgt : Nat} (h1 : decode cc pc = .ok (.lcmp, 1)) (h2 : decode cc (pc + 1) = .ok (.ifCond .le off, 3)) (ht : ((pc + 1 : Nat) : Int) + off = (tgt : Int))
    (kt : x ≤ y → W p l e R s m args below meth c H locs cells slots Q (F0 m tgt ls rest)) (kf : ¬ x ≤ y → W p l e R s m args below meth c H locs cells slots Q (F0 m (pc + 1 + 3) ls rest)) : W p l e R s m args below meth c H locs cells slots Q (F0 m pc ls (.long y :: .long x :: rest)) :=
  W.lcmp hx hb h1 (lv_if_le hx hb h2 ht (fun h => kt ((lg_cmp_le x y).mp h)) (fun h => kf (fun q => h ((lg_cmp_le x y).mpr q))))
theorem s_ri {y : MethodName} {ty : FieldType} {v r : Int32} (hx : p.tables.exec = Jvm.exec) (hb : c.code = cc) (hr : meth.sig.returnType = some ty) (hn : narrow ty (.int v) = .int v) (hlk : meth.locks = false) (hQ : Q = MQ below (vp_Si (fun r' => r' = r)) args s 0 0 (fun _ => False)) (hF : v = r) (hdg : decode cc pc = .ok (.ireturn, 1)) : W p l e R s m args below meth c s.heap [] 0 0 Q (F0 m pc ls [.int v]) := by
  subst hQ
  exact W.zret hx hb hr hn (fun t ht hW => ⟨v, rfl, hF, ht⟩) (fun q h => by cases h) hdg hlk
theorem s_rl {y : MethodName} {v r : Int64} (hx : p.tables.exec = Jvm.exec) (hb : c.code = cc) (hr : meth.sig.returnType = some .long) (hlk : meth.locks = false) (hQ : Q = MQ below (vp_Sl (fun r' => r' = r)) args s 0 0 (fun _ => False)) (hF : v = r) (hdg : decode cc pc = .ok (.lreturn, 1)) : W p l e R s m args below meth c s.heap [] 0 0 Q (F0 m pc ls [.long v]) := by
  subst hQ
  exact W.lret hx hb hr (fun t ht hW => ⟨v, rfl, hF, ht⟩) (fun q h => by cases h) hdg hlk
theorem s_startI {y : MethodName} {cy : ByteArray} {ny : Nat} {ty : FieldType} {rm : Room} {As : List Value} {r : Int32} (own : String) (hyo : y.cls = own) (hy : plainName y.cls = true) (hn : (lg_sl As).length ≤ ny)
    (body : ∀ (p : Program) (e : Env) (s : State) (m : MethodId) (av : Array Value) (below : List Frame) (meth : Method) (c : Code) (ls : Array Slot) (Q : State → Prop), CallFix p m c cy ny s av lw_all own → meth.sig.returnType = some ty → meth.locks = false → lv_has ls ny (lv_args 0 As) → Q = MQ below (vp_Si (fun r' => r' = r)) av s 0 0 (fun _ => False) → W p l e rm s m av below meth c s.heap [] 0 0 Q (F0 m 0 ls [])) : SI l y cy ny ty rm As r := by
  subst hyo
  refine Met.ofW (cc := cy) (maxL := ny) (ret := some ty) hy rfl ?_
  intro p e s m args below meth c s₁ B hml hv
  obtain ⟨rfl, -⟩ := hv
  have hts := atoms_spec (ws := ws_ y cy ny (some ty)) B.pre
  have hl := lv_entry As (n := ny) hn
  rw [lg_entry_eq]
  exact body p e s m _ below meth c _ _ ⟨B.exec, B.bytes, hml, findClass_of_methodNamed B.named, fun w h => hts w (List.mem_cons_of_mem _ h)⟩ B.returns B.notSynchronized hl rfl
theorem s_startL {y : MethodName} {cy : ByteArray} {ny : Nat} {rm : Room} {As : List Value} {r : Int64} (own : String) (hyo : y.cls = own) (hy : plainName y.cls = true) (hn : (lg_sl As).length ≤ ny)
    (body : ∀ (p : Program) (e : Env) (s : State) (m : MethodId) (av : Array Value) (below : List Frame) (meth : Method) (c : Code) (ls : Array Slot) (Q : State → Prop), CallFix p m c cy ny s av lw_all own → meth.sig.returnType = some .long → meth.locks = false → lv_has ls ny (lv_args 0 As) → Q = MQ below (vp_Sl (fun r' => r' = r)) av s 0 0 (fun _ => False) → W p l e rm s m av below meth c s.heap [] 0 0 Q (F0 m 0 ls [])) : SL l y cy ny rm As r := by
  subst hyo
  refine Met.ofW (cc := cy) (maxL := ny) (ret := some .long) hy rfl ?_
  intro p e s m args below meth c s₁ B hml hv
  obtain ⟨rfl, -⟩ := hv
  have hts := atoms_spec (ws := ws_ y cy ny (some .long)) B.pre
  have hl := lv_entry As (n := ny) hn
  rw [lg_entry_eq]
  exact body p e s m _ below meth c _ _ ⟨B.exec, B.bytes, hml, findClass_of_methodNamed B.named, fun w h => hts w (List.mem_cons_of_mem _ h)⟩ B.returns B.notSynchronized hl rfl
end ROWS
