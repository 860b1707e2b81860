/-! THE MODEL: its pure state and its rows. -/
set_option maxRecDepth 100000
/-- fields by their numbers (an int field k: S.1 k 0; an array k: S.1 k), longs S.2 k -/
abbrev MS : Type := (Nat → Nat → Int32) × (Nat → Int64)
def mu (S : MS) (k i : Nat) (v : Int32) : MS := (fun k2 i2 => if k2 = k ∧ i2 = i then v else S.1 k2 i2, S.2)
def ml (S : MS) (k : Nat) (v : Int64) : MS := (S.1, fun k2 => if k2 = k then v else S.2 k2)
/-- 0 int, 1 long, 2 int[], 3 boolean[] -/
def m_kd : Nat → Nat := fun k => match k with
  | 0 => 0
  | 2 => 0
  | 3 => 1
  | 4 => 1
  | 5 => 0
  | 6 => 0
  | 10 => 0
  | 25 => 3
  | 26 => 3
  | 31 => 3
  | 36 => 3
  | 40 => 0
  | 42 => 0
  | 43 => 0
  | 44 => 0
  | 45 => 0
  | 46 => 0
  | 48 => 0
  | 50 => 0
  | 53 => 1
  | 54 => 1
  | 55 => 0
  | _ => 2
def m_sz : Nat → Nat := fun k => match k with
  | 1 => 6
  | 7 => 8
  | 8 => 384
  | 9 => 48
  | 13 => 384
  | 16 => 768
  | 26 => 4
  | 27 => 4
  | 28 => 4
  | 29 => 4
  | 30 => 4
  | 31 => 4
  | 32 => 4
  | 33 => 4
  | 34 => 4
  | 35 => 8
  | 36 => 8
  | 37 => 4
  | 38 => 960
  | 39 => 144
  | 41 => 144
  | 47 => 3
  | 49 => 12
  | 51 => 4
  | 52 => 4
  | _ => 16
def m_fv (a : Nat → Nat) (S : MS) (k : Nat) : Value := if m_kd k = 0 then .int (S.1 k 0) else if m_kd k = 1 then .long (S.2 k) else .ref (a k)
def m_fs (a : Nat → Nat) (S : MS) : List Value := (List.range 56).map (m_fv a S)
def m_lv (k : Nat) : Prop := k = 0 ∨ (2 ≤ m_kd k ∧ k < 56)
def m_C (d : Nat → ClassId) (a : Nat → Nat) (S : MS) (k : Nat) : va_E := if k = 0 then .inr (1, m_fs a S) else .inl (if m_kd k = 3 then d 1 else d 0, m_sz k, .inl (S.1 k))
/-- the model's world: S at the addresses a (a 0: the object itself) -/
def MR (D : va_G) (d : Nat → ClassId) (A : Nat → Prop) (a : Nat → Nat) (S : MS) (H : Heap) : Prop := hp_R D A m_lv a (m_C d a S) H
theorem m_fs_at (a : Nat → Nat) (S : MS) {k : Nat} (hk : k < 56) : (m_fs a S)[k]? = some (m_fv a S k) := by
  simp [m_fs, hk]
theorem m_fs_set {a : Nat → Nat} {S S' : MS} {k : Nat} {v : Value} (h1 : m_fv a S' k = v) (h2 : ∀ j, j ≠ k → m_fv a S' j = m_fv a S j) : m_fs a S' = (m_fs a S).set k v := by
  apply List.ext_getElem?
  intro i
  by_cases hi : i < 56
  · by_cases h : i = k
    · subst h
      rw [m_fs_at a S' hi, List.getElem?_set_self (by simp [m_fs, hi]), h1]
    · rw [m_fs_at a S' hi, List.getElem?_set_ne (Ne.symm h), m_fs_at a S hi, h2 i h]
  · rw [List.getElem?_eq_none (by simp [m_fs]; omega), List.getElem?_eq_none (by simp [m_fs]; omega)]
theorem m_fs_eq {a : Nat → Nat} {S S' : MS} (h2 : ∀ j, m_fv a S' j = m_fv a S j) : m_fs a S' = m_fs a S := by
  unfold m_fs
  exact List.map_congr_left fun j _ => h2 j
theorem mu_self (S : MS) (k i : Nat) (v : Int32) : (mu S k i v).1 k i = v := by simp [mu]
theorem mu_k (S : MS) {k k' : Nat} (h : k' ≠ k) (i j : Nat) (v : Int32) : (mu S k i v).1 k' j = S.1 k' j := by simp [mu, h]
theorem mu_i (S : MS) (k : Nat) {i j : Nat} (h : j ≠ i) (v : Int32) : (mu S k i v).1 k j = S.1 k j := by simp [mu, h]
theorem mu_kf (S : MS) {k k' : Nat} (h : k' ≠ k) (i : Nat) (v : Int32) : (mu S k i v).1 k' = S.1 k' := by
  funext j
  exact mu_k S h i j v
theorem mu_kk (S : MS) (k i : Nat) (v : Int32) : (mu S k i v).1 k = upd (S.1 k) i v := by
  funext j
  simp [mu, upd]
/-- an array's cell is changed -/
theorem m_C_arr {d : Nat → ClassId} {a : Nat → Nat} {S : MS} {k i : Nat} {v : Int32} (hk : 2 ≤ m_kd k) (h0 : k ≠ 0) : m_C d a (mu S k i v) k = .inl (if m_kd k = 3 then d 1 else d 0, m_sz k, .inl (upd (S.1 k) i v)) ∧ ∀ k', m_lv k' → k' ≠ k → m_C d a (mu S k i v) k' = m_C d a S k' := by
  refine ⟨by simp [m_C, h0, mu_kk], fun k' hk' hne => ?_⟩
  unfold m_C
  rw [mu_kf S hne]
  by_cases h : k' = 0
  · rw [if_pos h, if_pos h]
    congr 2
    apply m_fs_eq
    intro j
    unfold m_fv
    by_cases hj : m_kd j = 0
    · rw [if_pos hj, if_pos hj, mu_k S (fun e => by subst e; omega)]
    · rw [if_neg hj, if_neg hj]
      rfl
  · rw [if_neg h, if_neg h]
theorem m_C_int {d : Nat → ClassId} {a : Nat → Nat} {S : MS} {k : Nat} {v : Int32} (hk : m_kd k = 0) : m_C d a (mu S k 0 v) 0 = .inr (1, (m_fs a S).set k (.int v)) ∧ ∀ k', m_lv k' → k' ≠ 0 → m_C d a (mu S k 0 v) k' = m_C d a S k' := by
  constructor
  · unfold m_C
    rw [if_pos rfl]
    congr 2
    apply m_fs_set
    · unfold m_fv
      rw [if_pos hk, mu_self]
    · intro j hj
      unfold m_fv
      rw [mu_k S hj]
      rfl
  · intro k' hk' hne
    unfold m_C
    rw [if_neg hne, if_neg hne, mu_kf S]
    rintro rfl
    rcases hk' with h | h
    · exact hne h
    · omega
theorem m_C_long {d : Nat → ClassId} {a : Nat → Nat} {S : MS} {k : Nat} {v : Int64} (hk : m_kd k = 1) : m_C d a (ml S k v) 0 = .inr (1, (m_fs a S).set k (.long v)) ∧ ∀ k', m_lv k' → k' ≠ 0 → m_C d a (ml S k v) k' = m_C d a S k' := by
  constructor
  · unfold m_C
    rw [if_pos rfl]
    congr 2
    apply m_fs_set
    · simp [m_fv, hk, ml]
    · intro j hj
      simp [m_fv, ml, hj]
  · intro k' hk' hne
    unfold m_C
    rw [if_neg hne, if_neg hne]
    rfl
section MROWS
variable {p : Program} {l : Launch} {e : Env} {R : Room} {s : State} {m : MethodId} {args : Array Value} {below : List Frame} {meth : Method} {c : Code} {H : Heap} {locs : List Loc} {cells slots : Nat} {Q : State → Prop}
variable {cc : ByteArray} {pc nL : Nat} {ls : Array Slot} {rest st0 : List Value} {D : va_G} {A : Nat → Prop} {d : Nat → ClassId} {own : String} {a : Nat → Nat} {S : MS}
theorem mg_i (X : hp_X p m c cc nL s args RX1 D d) (hR : MR D d A a S H) (k : Nat) (hk : k < 56) (h0 : m_kd k = 0) {idx : Nat} (hq : Cond.fieldLink RX1 idx (TX1 k).1 (TX1 k).2.1 (TX1 k).2.2.1 ∈ lw_all) {v : Int32} (hv : S.1 k 0 = v) (hdg : decode cc pc = .ok (.getfield idx, 3))
    (kk : W p l e R s m args below meth c H locs cells slots Q (F0 m (pc + 3) ls (.int v :: rest))) : W p l e R s m args below meth c H locs cells slots Q (F0 m pc ls (.ref (a 0) :: rest)) := by
  subst hv
  exact hp_get X hR (k := 0) (Or.inl rfl) (ci := 1) (fs := m_fs a S) rfl rfl in_X1 k hk hq (by rw [m_fs_at a S hk, m_fv, if_pos h0]) hdg kk
theorem mg_l (X : hp_X p m c cc nL s args RX1 D d) (hR : MR D d A a S H) (k : Nat) (hk : k < 56) (h0 : m_kd k = 1) {idx : Nat} (hq : Cond.fieldLink RX1 idx (TX1 k).1 (TX1 k).2.1 (TX1 k).2.2.1 ∈ lw_all) {v : Int64} (hv : S.2 k = v) (hdg : decode cc pc = .ok (.getfield idx, 3))
    (kk : W p l e R s m args below meth c H locs cells slots Q (F0 m (pc + 3) ls (.long v :: rest))) : W p l e R s m args below meth c H locs cells slots Q (F0 m pc ls (.ref (a 0) :: rest)) := by
  subst hv
  exact hp_get X hR (k := 0) (Or.inl rfl) (ci := 1) (fs := m_fs a S) rfl rfl in_X1 k hk hq (by rw [m_fs_at a S hk, m_fv, if_neg (by omega), if_pos h0]) hdg kk
theorem mg_a (X : hp_X p m c cc nL s args RX1 D d) (hR : MR D d A a S H) (k : Nat) (hk : k < 56) (h0 : 2 ≤ m_kd k) {idx : Nat} (hq : Cond.fieldLink RX1 idx (TX1 k).1 (TX1 k).2.1 (TX1 k).2.2.1 ∈ lw_all) (hdg : decode cc pc = .ok (.getfield idx, 3))
    (kk : W p l e R s m args below meth c H locs cells slots Q (F0 m (pc + 3) ls (.ref (a k) :: rest))) : W p l e R s m args below meth c H locs cells slots Q (F0 m pc ls (.ref (a 0) :: rest)) :=
  hp_get X hR (k := 0) (Or.inl rfl) (ci := 1) (fs := m_fs a S) rfl rfl in_X1 k hk hq (by rw [m_fs_at a S hk, m_fv, if_neg (by omega), if_neg (by omega)]) hdg kk
theorem mp_i (X : hp_X p m c cc nL s args RX1 D d) (hR : MR D d A a S H) (hS : va_S A s.heap H locs) (k : Nat) (hk : k < 56) (h0 : m_kd k = 0) (ht : tyX1 k = .int) (hfin : (TX1 k).2.2.2 = false) {idx : Nat} (hq : Cond.fieldLink RX1 idx (TX1 k).1 (TX1 k).2.1 (TX1 k).2.2.1 ∈ lw_all) {v : Int32} (hdg : decode cc pc = .ok (.putfield idx, 3))
    (kk : ∀ (H : Heap) (locs : List Loc), MR D d A a (mu S k 0 v) H → va_S A s.heap H locs → W p l e R s m args below meth c H locs cells slots Q (F0 m (pc + 3) ls rest)) : W p l e R s m args below meth c H locs cells slots Q (F0 m pc ls (.int v :: .ref (a 0) :: rest)) :=
  hp_put X hR hS (k := 0) (Or.inl rfl) (ci := 1) (fs := m_fs a S) rfl rfl in_X1 tyX1_ok nmX1 k hk hq hfin (by rw [ht]; rfl) (by rw [ht]; rfl) (by simp [m_fs, hk]) hdg (m_C_int h0).1 (m_C_int h0).2 kk
theorem mp_z (X : hp_X p m c cc nL s args RX1 D d) (hR : MR D d A a S H) (hS : va_S A s.heap H locs) (k : Nat) (hk : k < 56) (h0 : m_kd k = 0) (ht : tyX1 k = .boolean) (hfin : (TX1 k).2.2.2 = false) {idx : Nat} (hq : Cond.fieldLink RX1 idx (TX1 k).1 (TX1 k).2.1 (TX1 k).2.2.1 ∈ lw_all) {v : Int32} (hz : v = 0 ∨ v = 1) (hdg : decode cc pc = .ok (.putfield idx, 3))
    (kk : ∀ (H : Heap) (locs : List Loc), MR D d A a (mu S k 0 v) H → va_S A s.heap H locs → W p l e R s m args below meth c H locs cells slots Q (F0 m (pc + 3) ls rest)) : W p l e R s m args below meth c H locs cells slots Q (F0 m pc ls (.int v :: .ref (a 0) :: rest)) :=
  hp_put X hR hS (k := 0) (Or.inl rfl) (ci := 1) (fs := m_fs a S) rfl rfl in_X1 tyX1_ok nmX1 k hk hq hfin (by rw [ht]; rcases hz with rfl | rfl <;> rfl) (by rw [ht]; rcases hz with rfl | rfl <;> rfl) (by simp [m_fs, hk]) hdg (m_C_int h0).1 (m_C_int h0).2 kk
theorem mp_l (X : hp_X p m c cc nL s args RX1 D d) (hR : MR D d A a S H) (hS : va_S A s.heap H locs) (k : Nat) (hk : k < 56) (h0 : m_kd k = 1) (ht : tyX1 k = .long) (hfin : (TX1 k).2.2.2 = false) {idx : Nat} (hq : Cond.fieldLink RX1 idx (TX1 k).1 (TX1 k).2.1 (TX1 k).2.2.1 ∈ lw_all) {v : Int64} (hdg : decode cc pc = .ok (.putfield idx, 3))
    (kk : ∀ (H : Heap) (locs : List Loc), MR D d A a (ml S k v) H → va_S A s.heap H locs → W p l e R s m args below meth c H locs cells slots Q (F0 m (pc + 3) ls rest)) : W p l e R s m args below meth c H locs cells slots Q (F0 m pc ls (.long v :: .ref (a 0) :: rest)) :=
  hp_put X hR hS (k := 0) (Or.inl rfl) (ci := 1) (fs := m_fs a S) rfl rfl in_X1 tyX1_ok nmX1 k hk hq hfin (by rw [ht]; rfl) (by rw [ht]; rfl) (by simp [m_fs, hk]) hdg (m_C_long h0).1 (m_C_long h0).2 kk
theorem m_ld (X : hp_X p m c cc nL s args RX1 D d) (hR : MR D d A a S H) {k : Nat} (hk : k < 56 ∧ m_kd k = 2 ∧ k ≠ 0) {i v : Int32} (hi : vp_in i (m_sz k)) (hv : S.1 k i.toNatClampNeg = v) (hdg : decode cc pc = .ok (.iaload, 1))
    (kk : W p l e R s m args below meth c H locs cells slots Q (F0 m (pc + 1) ls (.int v :: rest))) : W p l e R s m args below meth c H locs cells slots Q (F0 m pc ls (.int i :: .ref (a k) :: rest)) :=
  hp_ald X hR (k := k) (Or.inr ⟨by omega, hk.1⟩) (n := m_sz k) (f := S.1 k) (by simp [m_C, hk.2.2, hk.2.1]) hi hv hdg kk
theorem m_zld (X : hp_X p m c cc nL s args RX1 D d) (hR : MR D d A a S H) {k : Nat} (hk : k < 56 ∧ m_kd k = 3 ∧ k ≠ 0) {i v : Int32} (hi : vp_in i (m_sz k)) (hv : S.1 k i.toNatClampNeg = v) (hdg : decode cc pc = .ok (.baload, 1))
    (kk : W p l e R s m args below meth c H locs cells slots Q (F0 m (pc + 1) ls (.int v :: rest))) : W p l e R s m args below meth c H locs cells slots Q (F0 m pc ls (.int i :: .ref (a k) :: rest)) :=
  hp_zld X hR (k := k) (Or.inr ⟨by omega, hk.1⟩) (n := m_sz k) (f := S.1 k) (by simp [m_C, hk.2.2, hk.2.1]) hi hv hdg kk
theorem m_st (X : hp_X p m c cc nL s args RX1 D d) (hR : MR D d A a S H) (hS : va_S A s.heap H locs) {k : Nat} (hk : k < 56 ∧ m_kd k = 2 ∧ k ≠ 0) {i v : Int32} (hi : vp_in i (m_sz k)) (hdg : decode cc pc = .ok (.iastore, 1))
    (kk : ∀ (H : Heap) (locs : List Loc), MR D d A a (mu S k i.toNatClampNeg v) H → va_S A s.heap H locs → W p l e R s m args below meth c H locs cells slots Q (F0 m (pc + 1) ls rest)) : W p l e R s m args below meth c H locs cells slots Q (F0 m pc ls (.int v :: .int i :: .ref (a k) :: rest)) :=
  hp_ast X hR hS (k := k) (Or.inr ⟨by omega, hk.1⟩) (n := m_sz k) (f := S.1 k) (by simp [m_C, hk.2.2, hk.2.1]) hi hdg (by rw [(m_C_arr (by omega) hk.2.2).1, if_neg (by omega)]) (m_C_arr (by omega) hk.2.2).2 kk
theorem m_zst (X : hp_X p m c cc nL s args RX1 D d) (hR : MR D d A a S H) (hS : va_S A s.heap H locs) {k : Nat} (hk : k < 56 ∧ m_kd k = 3 ∧ k ≠ 0) {i v : Int32} (hi : vp_in i (m_sz k)) (hz : v = 0 ∨ v = 1) (hdg : decode cc pc = .ok (.bastore, 1))
    (kk : ∀ (H : Heap) (locs : List Loc), MR D d A a (mu S k i.toNatClampNeg v) H → va_S A s.heap H locs → W p l e R s m args below meth c H locs cells slots Q (F0 m (pc + 1) ls rest)) : W p l e R s m args below meth c H locs cells slots Q (F0 m pc ls (.int v :: .int i :: .ref (a k) :: rest)) :=
  hp_zst X hR hS (k := k) (Or.inr ⟨by omega, hk.1⟩) (n := m_sz k) (f := S.1 k) (by simp [m_C, hk.2.2, hk.2.1]) hi hz hdg (by rw [(m_C_arr (by omega) hk.2.2).1, if_pos hk.2.1]) (m_C_arr (by omega) hk.2.2).2 kk
def mP (D : va_G) (d : Nat → ClassId) (A : Nat → Prop) (a : Nat → Nat) (S : MS) (av : List Value) : Array Value → State → Prop := va_Pc av (fun U => MR D d A a S U.heap ∧ va_K D vwCl (dd_T d) U)
def mB (D : va_G) (d : Nat → ClassId) (A : Nat → Prop) (a : Nat → Nat) (u : MS) (t : State) : Prop := MR D d A a u t.heap
/-- the model's method y, at the state S, answers F.1 and leaves F.2 -/
def MI (l : Launch) (y : MethodName) (cy : ByteArray) (ny : Nat) (ty : FieldType) (rm : Room) (D : va_G) (d : Nat → ClassId) (A : Nat → Prop) (a : Nat → Nat) (S : MS) (As : List Value) (F : Int32 × MS) : Prop := Met l y (ws_ y cy ny (some ty)) rm (mP D d A a S (.ref (a 0) :: As)) (va_Qi (fun r u => (r, u) = F) (mB D d A a) A) 0 0 A
def ML (l : Launch) (y : MethodName) (cy : ByteArray) (ny : Nat) (rm : Room) (D : va_G) (d : Nat → ClassId) (A : Nat → Prop) (a : Nat → Nat) (S : MS) (As : List Value) (F : Int64 × MS) : Prop := Met l y (ws_ y cy ny (some .long)) rm (mP D d A a S (.ref (a 0) :: As)) (va_Ql (fun r u => (r, u) = F) (mB D d A a) A) 0 0 A
def MV (l : Launch) (y : MethodName) (cy : ByteArray) (ny : Nat) (rm : Room) (D : va_G) (d : Nat → ClassId) (A : Nat → Prop) (a : Nat → Nat) (S : MS) (As : List Value) (F : MS) : Prop := Met l y (ws_ y cy ny none) rm (mP D d A a S (.ref (a 0) :: As)) (va_Qv (fun u => u = F) (mB D d A a) A) 0 0 A
theorem m_pre {As : List Value} (hK : va_K D vwCl (dd_T d) s) (hR : MR D d A a S H) : PreV s H RX1 (a 0) (mP D d A a S (.ref (a 0) :: As)) As := by
  refine ⟨fun a' U g mk q => ⟨q.1, q.2.1, va_K.moved (u := U) (U := U.calling g mk a') (Vm.Alike.refl U.vm) q.2.2⟩, ?_, fun U hU hW => ⟨rfl, by rw [hU]; exact hR, va_K.moved hW.alike hK⟩⟩
  have hP := hR.one (k := 0) (Or.inl rfl)
  exact va_recv (q := (RX1, TX1, 56)) (fs := m_fs a S) hK hP (ci := 1) (q0 := 0) rfl rfl
theorem m_ci (X : hp_X p m c cc nL s args own D d) (hR : MR D d A a S H) (hS : va_S A s.heap H locs) {y : MethodName} {cy : ByteArray} {ny : Nat} {ty : FieldType} {rm : Room} {As : List Value} {F : Int32 × MS} (hM : MI l y cy ny ty rm D d A a S As F) (n : Nat) {idx : Nat} (hG : GoodIn lw_all (wsV own idx RX1 y (ws_ y cy ny (some ty)))) (hrc : rm.cells = 0 ∧ rm.slots = 0) (hd : y.cls = RX1 ∧ y.cls ≠ "java/lang/invoke/MethodHandle" ∧ y.cls ≠ "java/lang/invoke/VarHandle" ∧ (parseMethodDescriptor y.desc).map (fun d => d.parameters.length) = some n) (hRm : rm.frames + 1 ≤ R.frames ∧ 8 + (ny + 11) + rm.locals ≤ R.locals) (hcs : cells + 0 ≤ R.cells ∧ slots + 0 ≤ R.slots) (hn : As.length = n) (hl : ls.size = nL) (hst : st0 = As.reverse ++ .ref (a 0) :: rest) (hrm : (rest.map fun v => v.category).sum ≤ 8) (hdg : decode cc pc = .ok (.invokevirtual idx, 3))
    (kk : ∀ (H : Heap) (locs : List Loc), MR D d A a F.2 H → va_S A s.heap H locs → W p l e R s m args below meth c H locs cells slots Q (F0 m (pc + 3) ls (.int F.1 :: rest))) : W p l e R s m args below meth c H locs cells slots Q (F0 m pc ls st0) := by
  refine va_calli (va_runV (As := As) (rest := rest) X.1 hM (cwV n X.1.2.2.2.2 hG rfl hrc.1 hrc.2 hd hRm) (m_pre X.2 hR) rfl hn hl hst (lv_room hrm) hdg hcs) hS (fun q _ h => h) (fun q h => h) fun r u t H1 locs1 ht hvm hw hB hz hk1 hS1 => ?_
  subst hw
  exact kk H1 locs1 (by rw [← ht]; exact hB) hS1
theorem m_cl (X : hp_X p m c cc nL s args own D d) (hR : MR D d A a S H) (hS : va_S A s.heap H locs) {y : MethodName} {cy : ByteArray} {ny : Nat} {rm : Room} {As : List Value} {F : Int64 × MS} (hM : ML l y cy ny rm D d A a S As F) (n : Nat) {idx : Nat} (hG : GoodIn lw_all (wsV own idx RX1 y (ws_ y cy ny (some .long)))) (hrc : rm.cells = 0 ∧ rm.slots = 0) (hd : y.cls = RX1 ∧ y.cls ≠ "java/lang/invoke/MethodHandle" ∧ y.cls ≠ "java/lang/invoke/VarHandle" ∧ (parseMethodDescriptor y.desc).map (fun d => d.parameters.length) = some n) (hRm : rm.frames + 1 ≤ R.frames ∧ 8 + (ny + 11) + rm.locals ≤ R.locals) (hcs : cells + 0 ≤ R.cells ∧ slots + 0 ≤ R.slots) (hn : As.length = n) (hl : ls.size = nL) (hst : st0 = As.reverse ++ .ref (a 0) :: rest) (hrm : (rest.map fun v => v.category).sum ≤ 8) (hdg : decode cc pc = .ok (.invokevirtual idx, 3))
    (kk : ∀ (H : Heap) (locs : List Loc), MR D d A a F.2 H → va_S A s.heap H locs → W p l e R s m args below meth c H locs cells slots Q (F0 m (pc + 3) ls (.long F.1 :: rest))) : W p l e R s m args below meth c H locs cells slots Q (F0 m pc ls st0) := by
  refine va_calll (va_runV (As := As) (rest := rest) X.1 hM (cwV n X.1.2.2.2.2 hG rfl hrc.1 hrc.2 hd hRm) (m_pre X.2 hR) rfl hn hl hst (lv_room hrm) hdg hcs) hS (fun q _ h => h) (fun q h => h) fun r u t H1 locs1 ht hvm hw hB hz hk1 hS1 => ?_
  subst hw
  exact kk H1 locs1 (by rw [← ht]; exact hB) hS1
theorem m_cv (X : hp_X p m c cc nL s args own D d) (hR : MR D d A a S H) (hS : va_S A s.heap H locs) {y : MethodName} {cy : ByteArray} {ny : Nat} {rm : Room} {As : List Value} {F : MS} (hM : MV l y cy ny rm D d A a S As F) (n : Nat) {idx : Nat} (hG : GoodIn lw_all (wsV own idx RX1 y (ws_ y cy ny none))) (hrc : rm.cells = 0 ∧ rm.slots = 0) (hd : y.cls = RX1 ∧ y.cls ≠ "java/lang/invoke/MethodHandle" ∧ y.cls ≠ "java/lang/invoke/VarHandle" ∧ (parseMethodDescriptor y.desc).map (fun d => d.parameters.length) = some n) (hRm : rm.frames + 1 ≤ R.frames ∧ 8 + (ny + 11) + rm.locals ≤ R.locals) (hcs : cells + 0 ≤ R.cells ∧ slots + 0 ≤ R.slots) (hn : As.length = n) (hl : ls.size = nL) (hst : st0 = As.reverse ++ .ref (a 0) :: rest) (hrm : (rest.map fun v => v.category).sum ≤ 8) (hdg : decode cc pc = .ok (.invokevirtual idx, 3))
    (kk : ∀ (H : Heap) (locs : List Loc), MR D d A a F H → va_S A s.heap H locs → W p l e R s m args below meth c H locs cells slots Q (F0 m (pc + 3) ls rest)) : W p l e R s m args below meth c H locs cells slots Q (F0 m pc ls st0) := by
  refine va_callv (va_runV (As := As) (rest := rest) X.1 hM (cwV n X.1.2.2.2.2 hG rfl hrc.1 hrc.2 hd hRm) (m_pre X.2 hR) rfl hn hl hst (lv_room hrm) hdg hcs) hS (fun q _ h => h) (fun q h => h) fun u t H1 locs1 ht hvm hw hB hz hk1 hS1 => ?_
  subst hw
  exact kk H1 locs1 (by rw [← ht]; exact hB) hS1
theorem m_ri {F : Int32 × MS} {ty : FieldType} {v : Int32} (hx : p.tables.exec = Jvm.exec) (hb : c.code = cc) (hr : meth.sig.returnType = some ty) (hn : narrow ty (.int v) = .int v) (hlk : meth.locks = false) (hR : MR D d A a S H) (hS : va_S A s.heap H locs) (hQ : Q = MQ below (va_Qi (fun r u => (r, u) = F) (mB D d A a) A) args s 0 0 A) (hF : F = (v, S)) (hdg : decode cc pc = .ok (.ireturn, 1)) : W p l e R s m args below meth c H locs 0 0 Q (F0 m pc ls [.int v]) := by
  subst hQ
  exact W.zret hx hb hr hn (fun t ht hW => ⟨⟨v, S, rfl, hF.symm, by rw [mB, ht]; exact hR⟩, hS.F ht⟩) hS.2.2 hdg hlk
theorem m_rl {F : Int64 × MS} {v : Int64} (hx : p.tables.exec = Jvm.exec) (hb : c.code = cc) (hr : meth.sig.returnType = some .long) (hlk : meth.locks = false) (hR : MR D d A a S H) (hS : va_S A s.heap H locs) (hQ : Q = MQ below (va_Ql (fun r u => (r, u) = F) (mB D d A a) A) args s 0 0 A) (hF : F = (v, S)) (hdg : decode cc pc = .ok (.lreturn, 1)) : W p l e R s m args below meth c H locs 0 0 Q (F0 m pc ls [.long v]) := by
  subst hQ
  exact W.lret hx hb hr (fun t ht hW => ⟨⟨v, S, rfl, hF.symm, by rw [mB, ht]; exact hR⟩, hS.F ht⟩) hS.2.2 hdg hlk
theorem m_rv {F : MS} (hx : p.tables.exec = Jvm.exec) (hb : c.code = cc) (hr : meth.sig.returnType = none) (hlk : meth.locks = false) (hR : MR D d A a S H) (hS : va_S A s.heap H locs) (hQ : Q = MQ below (va_Qv (fun u => u = F) (mB D d A a) A) args s 0 0 A) (hF : F = S) (hdg : decode cc pc = .ok (.return_, 1)) : W p l e R s m args below meth c H locs 0 0 Q (F0 m pc ls []) := by
  subst hQ
  exact W.vret hx hb hr (fun t ht hW => ⟨⟨S, rfl, hF.symm, by rw [mB, ht]; exact hR⟩, hS.F ht⟩) hS.2.2 hdg hlk
theorem m_startI {y : MethodName} {cy : ByteArray} {ny : Nat} {ty : FieldType} {rm : Room} {As : List Value} {F : Int32 × MS} (hyo : y.cls = RX1) (hn : (lg_sl (.ref (a 0) :: As)).length ≤ ny)
    (body : ∀ (p : Program) (e : Env) (s : State) (m : MethodId) (av : Array Value) (below : List Frame) (meth : Method) (c : Code) (ls : Array Slot) (Q : State → Prop), hp_X p m c cy ny s av RX1 D d → meth.sig.returnType = some ty → meth.locks = false → lv_has ls ny (lv_args 0 (.ref (a 0) :: As)) → MR D d A a S s.heap → Q = MQ below (va_Qi (fun r u => (r, u) = F) (mB D d A a) A) av s 0 0 A → W p l e rm s m av below meth c s.heap [] 0 0 Q (F0 m 0 ls [])) : MI l y cy ny ty rm D d A a S As F := by
  refine Met.ofW (cc := cy) (maxL := ny) (ret := some ty) (by rw [hyo]; decide) rfl ?_
  intro p e s m args below meth c s₁ B hml hv
  obtain ⟨rfl, hR, hK⟩ := hv
  have hts := atoms_spec (ws := ws_ y cy ny (some ty)) B.pre
  have hl := lv_entry (.ref (a 0) :: As) (n := ny) hn
  have ho : s.vm.findClass y.cls = some m.cls := findClass_of_methodNamed B.named
  rw [hyo] at ho
  rw [lg_entry_eq]
  exact body p e s m _ below meth c _ _ ⟨⟨B.exec, B.bytes, hml, ho, fun w h => hts w (List.mem_cons_of_mem _ h)⟩, hK⟩ B.returns B.notSynchronized hl hR rfl
theorem m_startL {y : MethodName} {cy : ByteArray} {ny : Nat} {rm : Room} {As : List Value} {F : Int64 × MS} (hyo : y.cls = RX1) (hn : (lg_sl (.ref (a 0) :: As)).length ≤ ny)
    (body : ∀ (p : Program) (e : Env) (s : State) (m : MethodId) (av : Array Value) (below : List Frame) (meth : Method) (c : Code) (ls : Array Slot) (Q : State → Prop), hp_X p m c cy ny s av RX1 D d → meth.sig.returnType = some .long → meth.locks = false → lv_has ls ny (lv_args 0 (.ref (a 0) :: As)) → MR D d A a S s.heap → Q = MQ below (va_Ql (fun r u => (r, u) = F) (mB D d A a) A) av s 0 0 A → W p l e rm s m av below meth c s.heap [] 0 0 Q (F0 m 0 ls [])) : ML l y cy ny rm D d A a S As F := by
  refine Met.ofW (cc := cy) (maxL := ny) (ret := some .long) (by rw [hyo]; decide) rfl ?_
  intro p e s m args below meth c s₁ B hml hv
  obtain ⟨rfl, hR, hK⟩ := hv
  have hts := atoms_spec (ws := ws_ y cy ny (some .long)) B.pre
  have hl := lv_entry (.ref (a 0) :: As) (n := ny) hn
  have ho : s.vm.findClass y.cls = some m.cls := findClass_of_methodNamed B.named
  rw [hyo] at ho
  rw [lg_entry_eq]
  exact body p e s m _ below meth c _ _ ⟨⟨B.exec, B.bytes, hml, ho, fun w h => hts w (List.mem_cons_of_mem _ h)⟩, hK⟩ B.returns B.notSynchronized hl hR rfl
theorem m_startV {y : MethodName} {cy : ByteArray} {ny : Nat} {rm : Room} {As : List Value} {F : MS} (hyo : y.cls = RX1) (hn : (lg_sl (.ref (a 0) :: As)).length ≤ ny)
    (body : ∀ (p : Program) (e : Env) (s : State) (m : MethodId) (av : Array Value) (below : List Frame) (meth : Method) (c : Code) (ls : Array Slot) (Q : State → Prop), hp_X p m c cy ny s av RX1 D d → meth.sig.returnType = none → meth.locks = false → lv_has ls ny (lv_args 0 (.ref (a 0) :: As)) → MR D d A a S s.heap → Q = MQ below (va_Qv (fun u => u = F) (mB D d A a) A) av s 0 0 A → W p l e rm s m av below meth c s.heap [] 0 0 Q (F0 m 0 ls [])) : MV l y cy ny rm D d A a S As F := by
  refine Met.ofW (cc := cy) (maxL := ny) (ret := none) (by rw [hyo]; decide) rfl ?_
  intro p e s m args below meth c s₁ B hml hv
  obtain ⟨rfl, hR, hK⟩ := hv
  have hts := atoms_spec (ws := ws_ y cy ny (none)) B.pre
  have hl := lv_entry (.ref (a 0) :: As) (n := ny) hn
  have ho : s.vm.findClass y.cls = some m.cls := findClass_of_methodNamed B.named
  rw [hyo] at ho
  rw [lg_entry_eq]
  exact body p e s m _ below meth c _ _ ⟨⟨B.exec, B.bytes, hml, ho, fun w h => hts w (List.mem_cons_of_mem _ h)⟩, hK⟩ B.returns B.notSynchronized hl hR rfl
end MROWS
