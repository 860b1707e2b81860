/-! small rows that the printed walks use -/
theorem ixl {i : Int32} (n : Nat) (N : Int32) (hn : n < 2 ^ 31) (hN : N = nI n) (h : 0 ≤ i ∧ i < N) : vp_in i n := ix_ hn (by rw [← hN]; exact h)
theorem nz_ {v : Int32} (h : v = 0 ∨ v = 1) : narrow .boolean (.int v) = .int v := by
  rcases h with rfl | rfl <;> rfl
theorem hF1 {α β : Type} {f v : α} {S : β} (h : f = v) : (f, S) = (v, S) := by rw [h]
theorem sw_out (x : Int32) (lo hi : Int) (h : ∀ k : Nat, k < (hi - lo + 1).toNat → ¬ x = Int32.ofInt (lo + k)) : x.toInt < lo ∨ hi < x.toInt := by
  by_cases h1 : x.toInt < lo
  · exact Or.inl h1
  · by_cases h2 : hi < x.toInt
    · exact Or.inr h2
    · exfalso
      refine h (x.toInt - lo).toNat (by omega) ?_
      have e : lo + ((x.toInt - lo).toNat : Int) = x.toInt := by omega
      rw [e, Int32.ofInt_toInt]
/-- a loop that counts up -/
theorem up_ {i n : Int32} (h0 : 0 ≤ i) (h : i < n) : (n - (i + 1)).toNatClampNeg < (n - i).toNatClampNeg := by
  have e1 : (n - (i + 1)).toInt = n.toInt - i.toInt - 1 ∧ (n - i).toInt = n.toInt - i.toInt := by
    rw [Int32.le_iff_toInt_le, Int32.toInt_zero] at h0
    rw [Int32.lt_iff_toInt_lt] at h
    have a := Int32.toInt_lt n
    have b := Int32.le_toInt n
    constructor
    · rw [Int32.toInt_sub, Int32.toInt_add]
      simp only [Int32.toInt_one]
      rw [Int.bmod_eq_of_le (n := i.toInt + 1) (by omega) (by omega), Int.bmod_eq_of_le (by omega) (by omega)]
      omega
    · rw [Int32.toInt_sub, Int.bmod_eq_of_le (by omega) (by omega)]
  rw [Int32.le_iff_toInt_le, Int32.toInt_zero] at h0
  rw [Int32.lt_iff_toInt_lt] at h
  unfold Int32.toNatClampNeg
  rw [e1.1, e1.2]
  omega
section MROWS2
variable {p : Program} {l : Launch} {e : Env} {R : Room} {s : State} {m : MethodId} {args : Array Value} {below : List Frame} {meth : Method} {c : Code} {H : Heap} {locs : List Loc} {cells slots : Nat} {Q : State → Prop}
variable {cc : ByteArray} {pc nL : Nat} {ls : Array Slot} {rest st0 : List Value} {D : va_G} {A : Nat → Prop} {d : Nat → ClassId} {own : String} {a : Nat → Nat} {S : MS}
theorem m_cr (X : hp_X p m c cc nL s args own D d) (hR : MR D d A a S H) (hS : va_S A s.heap H locs) {y : MethodName} {cy : ByteArray} {ny : Nat} {ty : FieldType} {rm : Room} {As : List Value} {f : Int32} (hM : MI l y cy ny ty rm D d A a S As (f, S)) (n : Nat) {idx : Nat} (hG : GoodIn lw_all (wsV own idx RX1 y (ws_ y cy ny (some ty)))) (hrc : rm.cells = 0 ∧ rm.slots = 0) (hd : y.cls = RX1 ∧ y.cls ≠ "java/lang/invoke/MethodHandle" ∧ y.cls ≠ "java/lang/invoke/VarHandle" ∧ (parseMethodDescriptor y.desc).map (fun d => d.parameters.length) = some n) (hRm : rm.frames + 1 ≤ R.frames ∧ 8 + (ny + 11) + rm.locals ≤ R.locals) (hcs : cells + 0 ≤ R.cells ∧ slots + 0 ≤ R.slots) (hn : As.length = n) (hl : ls.size = nL) (hst : st0 = As.reverse ++ .ref (a 0) :: rest) (hrm : (rest.map fun v => v.category).sum ≤ 8) (hdg : decode cc pc = .ok (.invokevirtual idx, 3))
    (kk : ∀ (H : Heap) (locs : List Loc), MR D d A a S H → va_S A s.heap H locs → W p l e R s m args below meth c H locs cells slots Q (F0 m (pc + 3) ls (.int f :: rest))) : W p l e R s m args below meth c H locs cells slots Q (F0 m pc ls st0) :=
  m_ci X hR hS hM n hG hrc hd hRm hcs hn hl hst hrm hdg kk
theorem m_crl (X : hp_X p m c cc nL s args own D d) (hR : MR D d A a S H) (hS : va_S A s.heap H locs) {y : MethodName} {cy : ByteArray} {ny : Nat} {rm : Room} {As : List Value} {f : Int64} (hM : ML l y cy ny rm D d A a S As (f, S)) (n : Nat) {idx : Nat} (hG : GoodIn lw_all (wsV own idx RX1 y (ws_ y cy ny (some .long)))) (hrc : rm.cells = 0 ∧ rm.slots = 0) (hd : y.cls = RX1 ∧ y.cls ≠ "java/lang/invoke/MethodHandle" ∧ y.cls ≠ "java/lang/invoke/VarHandle" ∧ (parseMethodDescriptor y.desc).map (fun d => d.parameters.length) = some n) (hRm : rm.frames + 1 ≤ R.frames ∧ 8 + (ny + 11) + rm.locals ≤ R.locals) (hcs : cells + 0 ≤ R.cells ∧ slots + 0 ≤ R.slots) (hn : As.length = n) (hl : ls.size = nL) (hst : st0 = As.reverse ++ .ref (a 0) :: rest) (hrm : (rest.map fun v => v.category).sum ≤ 8) (hdg : decode cc pc = .ok (.invokevirtual idx, 3))
    (kk : ∀ (H : Heap) (locs : List Loc), MR D d A a S H → va_S A s.heap H locs → W p l e R s m args below meth c H locs cells slots Q (F0 m (pc + 3) ls (.long f :: rest))) : W p l e R s m args below meth c H locs cells slots Q (F0 m pc ls st0) :=
  m_cl X hR hS hM n hG hrc hd hRm hcs hn hl hst hrm hdg kk
end MROWS2
/-! sums without overflow, over the integers -/
theorem a32 {x y : Int32} (h : -2147483648 ≤ x.toInt + y.toInt ∧ x.toInt + y.toInt < 2147483648) : (x + y).toInt = x.toInt + y.toInt := by
  rw [Int32.toInt_add, Int.bmod_eq_of_le (by omega) (by omega)]
theorem s32 {x y : Int32} (h : -2147483648 ≤ x.toInt - y.toInt ∧ x.toInt - y.toInt < 2147483648) : (x - y).toInt = x.toInt - y.toInt := by
  rw [Int32.toInt_sub, Int.bmod_eq_of_le (by omega) (by omega)]
theorem m32 {x y : Int32} (h : -2147483648 ≤ x.toInt * y.toInt ∧ x.toInt * y.toInt < 2147483648) : (x * y).toInt = x.toInt * y.toInt := by
  rw [Int32.toInt_mul, Int.bmod_eq_of_le (by omega) (by omega)]
theorem d32 {x y : Int32} (h : 0 ≤ x.toInt ∧ 0 < y.toInt) : (x / y).toInt = x.toInt / y.toInt := by
  have h1 := Int32.toInt_lt x
  rw [Int32.toInt_div, Int.tdiv_eq_ediv_of_nonneg h.1, Int.bmod_eq_of_le]
  · have := Int.ediv_nonneg h.1 (Int.le_of_lt h.2); omega
  · have := Int.ediv_le_self y.toInt h.1; omega
theorem i_le {x y : Int32} : x ≤ y ↔ x.toInt ≤ y.toInt := Int32.le_iff_toInt_le
theorem i_lt {x y : Int32} : x < y ↔ x.toInt < y.toInt := Int32.lt_iff_toInt_lt
theorem i_eq {x y : Int32} : x = y ↔ x.toInt = y.toInt := Int32.toInt_inj.symm
