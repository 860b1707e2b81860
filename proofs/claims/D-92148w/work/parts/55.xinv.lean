/-! THE CLASS: what its numbers keep to. -/
set_option maxRecDepth 100000
/-- of the lengths, kinds and owners -/
def XN (N : Nat → Nat → Nat) : Prop := N 7 0 ≤ 16 ∧ (∀ j, j < N 7 0 → N 0 j ≤ 3 ∧ (¬ N 0 j = 0 → 1 ≤ N 1 j ∧ N 1 j ≤ 24) ∧ (N 0 j = 3 → 1 ≤ N 2 j ∧ N 2 j ≤ 48)) ∧ (∀ q, q < 8 → N 4 q ≤ N 7 0) ∧ ∀ r, r < 8 → N 3 r ≤ 49
/-- of the ints that are indices; of notches, weights, teeth -/
def XInv (X : XS) : Prop := XN X.2.2.2 ∧ X.1 5 0 = nI (X.2.2.2 7 0) ∧ (∀ j, j < X.2.2.2 7 0 → (X.2.2.2 0 j = 1 ∨ X.2.2.2 0 j = 3) → 0 ≤ X.1 50 j ∧ X.1 50 j < nI (X.2.2.2 1 j)) ∧ (∀ j, j < X.2.2.2 7 0 → X.2.2.2 0 j = 3 → 0 ≤ X.1 51 j ∧ X.1 51 j < nI (X.2.2.2 2 j)) ∧ (∀ t, t < 4 → ¬ X.2.2.2 5 t = 0 → (0 ≤ X.1 60 t ∧ X.1 60 t < 1440) ∧ (0 ≤ X.1 69 t ∧ X.1 69 t ≤ 60) ∧ (-3600) ≤ X.1 62 t ∧ X.1 62 t ≤ 3600) ∧ (0 ≤ X.1 20 0 ∧ X.1 20 0 ≤ 12) ∧ (0 ≤ X.1 9 0 ∧ X.1 9 0 ≤ 48) ∧ (0 ≤ X.1 22 0 ∧ X.1 22 0 ≤ 4) ∧
  (∀ j, j < X.2.2.2 7 0 → ¬ X.2.2.2 0 j = 0 → ∀ i, i < X.2.2.2 1 j → 1 ≤ X.2.2.1 0 j i ∧ X.2.2.1 0 j i ≤ 24) ∧ (∀ j, j < X.2.2.2 7 0 → (0 ≤ X.1 43 j ∧ X.1 43 j ≤ 100000) ∧ 0 ≤ X.1 42 j ∧ X.1 42 j ≤ 100000) ∧ (∀ i, i < 12 → nI i < X.1 20 0 → 6 ≤ X.1 21 i ∧ X.1 21 i ≤ 200)
/-- a number that doesn't unfold: the loops' fuel -/
def fz (n : Nat) : Nat := if h : n = 0 then 0 else fz (n - 1) + 1
termination_by n
decreasing_by omega
theorem fz_eq : ∀ n, fz n = n := by
  intro n
  induction n with
  | zero => rw [fz]; simp
  | succ n ih => rw [fz]; simp [ih]
theorem fz_lt (n : Nat) : n < fz (n + 1) := by rw [fz_eq]; exact Nat.lt_succ_self n
theorem ifI {c : Prop} [Decidable c] {α : Type} {P : α → Prop} {a b : α} (ha : c → P a) (hb : ¬ c → P b) : P (if c then a else b) := by
  split
  · exact ha (by assumption)
  · exact hb (by assumption)
section XINV
variable {X : XS} {j : Nat}
theorem xi_kd (h : XInv X) (hj : j < X.2.2.2 7 0) : X.2.2.2 0 j ≤ 3 := (h.1.2.1 j hj).1
theorem xi_nl (h : XInv X) (hj : j < X.2.2.2 7 0) (hk : ¬ X.2.2.2 0 j = 0) : X.2.2.2 1 j < 2 ^ 31 := by have := ((h.1.2.1 j hj).2.1 hk).2; omega
theorem xi_pl (h : XInv X) (hj : j < X.2.2.2 7 0) (hk : X.2.2.2 0 j = 3) : X.2.2.2 2 j < 2 ^ 31 := by have := ((h.1.2.1 j hj).2.2 hk).2; omega
theorem xi_rl (h : XInv X) {r : Nat} (hr : r < 8) : X.2.2.2 3 r - 1 < 2 ^ 31 := by have := h.1.2.2.2 r hr; omega
theorem xi_own (h : XInv X) {q : Nat} (hq : q < 8) (h0 : ¬ X.2.2.2 4 q = 0) : X.2.2.2 4 q - 1 < X.2.2.2 7 0 := by have := h.1.2.2.1 q hq; omega
theorem nI_b {n a b : Nat} (h : a ≤ n ∧ n ≤ b) (hb : b < 2 ^ 31) : nI a ≤ nI n ∧ nI n ≤ nI b := ⟨nI_le h.1 (by omega), nI_le h.2 hb⟩
theorem xi_nb (h : XInv X) (hj : j < X.2.2.2 7 0) (hk : ¬ X.2.2.2 0 j = 0) : 1 ≤ nI (X.2.2.2 1 j) ∧ nI (X.2.2.2 1 j) ≤ 24 := nI_b ((h.1.2.1 j hj).2.1 hk) (by decide)
theorem xi_pb (h : XInv X) (hj : j < X.2.2.2 7 0) (hk : X.2.2.2 0 j = 3) : 1 ≤ nI (X.2.2.2 2 j) ∧ nI (X.2.2.2 2 j) ≤ 48 := nI_b ((h.1.2.1 j hj).2.2 hk) (by decide)
theorem xi_rb (h : XInv X) {r : Nat} (hr : r < 8) : 0 ≤ nI (X.2.2.2 3 r - 1) ∧ nI (X.2.2.2 3 r - 1) ≤ 48 := nI_b (a := 0) (b := 48) ⟨Nat.zero_le _, by have := h.1.2.2.2 r hr; omega⟩ (by decide)
theorem xi_tm (h : XInv X) : 0 ≤ X.1 5 0 ∧ X.1 5 0 ≤ 16 := by rw [h.2.1]; exact nI_b (a := 0) (b := 16) ⟨Nat.zero_le _, h.1.1⟩ (by decide)
theorem xi_at (h : XInv X) (hj : j < X.2.2.2 7 0) (hk : X.2.2.2 0 j = 1 ∨ X.2.2.2 0 j = 3) : 0 ≤ X.1 50 j ∧ X.1 50 j < nI (X.2.2.2 1 j) := h.2.2.1 j hj hk
theorem xi_pn (h : XInv X) (hj : j < X.2.2.2 7 0) (hk : X.2.2.2 0 j = 3) : 0 ≤ X.1 51 j ∧ X.1 51 j < nI (X.2.2.2 2 j) := h.2.2.2.1 j hj hk
theorem xi_t (h : XInv X) {t : Nat} (ht : t < 4) (h5 : ¬ X.2.2.2 5 t = 0) : (0 ≤ X.1 60 t ∧ X.1 60 t < 1440) ∧ (0 ≤ X.1 69 t ∧ X.1 69 t ≤ 60) ∧ (-3600) ≤ X.1 62 t ∧ X.1 62 t ≤ 3600 := h.2.2.2.2.1 t ht h5
theorem tn_lt {i : Int32} {n : Nat} (N : Int32) (hN : N = nI n) (hn : n < 2 ^ 31) (h : 0 ≤ i ∧ i < N) : i.toNatClampNeg < n := vp_lt (ix_ hn (by rw [← hN]; exact h))
theorem tn4 {i : Int32} (h : 0 ≤ i ∧ i < 4) : i.toNatClampNeg < 4 := tn_lt 4 rfl (by decide) h
theorem tn8 {i : Int32} (h : 0 ≤ i ∧ i < 8) : i.toNatClampNeg < 8 := tn_lt 8 rfl (by decide) h
theorem tn2 {i : Int32} (h : 0 ≤ i ∧ i < 2) : i.toNatClampNeg < 2 := tn_lt 2 rfl (by decide) h
theorem tp8 {t : Nat} {i : Int32} (ht : t < 4) (h : 0 ≤ i ∧ i < 2) : 2 * t + i.toNatClampNeg < 8 := by have := tn2 h; omega
theorem k13 {n : Nat} (h : n = 1 ∨ n = 3) : ¬ n = 0 := by omega
theorem xi_trn (h : XInv X) {i : Int32} (hi : 0 ≤ i ∧ i ≤ X.1 5 0 - 1) : i.toNatClampNeg < X.2.2.2 7 0 := by
  have h1 := h.1.1
  have e := nI_toInt (n := X.2.2.2 7 0) (by omega)
  rw [h.2.1] at hi
  obtain ⟨a, b⟩ := hi
  rw [Int32.le_iff_toInt_le] at a b
  have e2 := s32 (x := nI (X.2.2.2 7 0)) (y := 1) (by rw [e]; simp only [Int32.reduceToInt]; omega)
  simp only [Int32.reduceToInt] at *
  have : (i.toNatClampNeg : Int) = i.toInt := by show ((i.toInt.toNat : Nat) : Int) = _; omega
  omega
theorem xi_wm (h : XInv X) : 0 ≤ X.1 20 0 ∧ X.1 20 0 ≤ 12 := h.2.2.2.2.2.1
theorem xi_am (h : XInv X) : 0 ≤ X.1 9 0 ∧ X.1 9 0 ≤ 48 := h.2.2.2.2.2.2.1
theorem xi_cm (h : XInv X) : 0 ≤ X.1 22 0 ∧ X.1 22 0 ≤ 4 := h.2.2.2.2.2.2.2.1
theorem xi_no (h : XInv X) (hj : j < X.2.2.2 7 0) (hk : ¬ X.2.2.2 0 j = 0) {i : Nat} (hi : i < X.2.2.2 1 j) : 1 ≤ X.2.2.1 0 j i ∧ X.2.2.1 0 j i ≤ 24 := h.2.2.2.2.2.2.2.2.1 j hj hk i hi
theorem xi_we (h : XInv X) (hj : j < X.2.2.2 7 0) : (0 ≤ X.1 43 j ∧ X.1 43 j ≤ 100000) ∧ 0 ≤ X.1 42 j ∧ X.1 42 j ≤ 100000 := h.2.2.2.2.2.2.2.2.2.1 j hj
theorem xi_te (h : XInv X) {i : Nat} (hi : i < 12) (h2 : nI i < X.1 20 0) : 6 ≤ X.1 21 i ∧ X.1 21 i ≤ 200 := h.2.2.2.2.2.2.2.2.2.2 i hi h2
theorem xi_noI (h : XInv X) (hj : j < X.2.2.2 7 0) (hk : ¬ X.2.2.2 0 j = 0) {i : Int32} (hi : 0 ≤ i ∧ i < nI (X.2.2.2 1 j)) : 1 ≤ X.2.2.1 0 j i.toNatClampNeg ∧ X.2.2.1 0 j i.toNatClampNeg ≤ 24 := xi_no h hj hk (vp_lt (ix_ (xi_nl h hj hk) hi))
def xKeys : List Nat := [5, 50, 51, 60, 69, 62, 20, 9, 22, 43, 42, 21]
theorem XInv_fr {X X' : XS} (h : ∀ k ∈ xKeys, X'.1 k = X.1 k) (hb : X'.2.2.1 0 = X.2.2.1 0) (hn : X'.2.2.2 = X.2.2.2) (hI : XInv X) : XInv X' := by
  unfold XInv at hI ⊢
  rw [hn, hb, h 5 (by decide), h 50 (by decide), h 51 (by decide), h 60 (by decide), h 69 (by decide), h 62 (by decide), h 20 (by decide), h 9 (by decide), h 22 (by decide), h 43 (by decide), h 42 (by decide), h 21 (by decide)]
  exact hI
theorem XInv_xu (hI : XInv X) (k i : Nat) (v : Int32) (hk : k ∉ xKeys) : XInv (xu X k i v) := XInv_fr (fun q hq => xu_kf X (fun e => hk (by rw [← e]; exact hq)) i v) rfl rfl hI
theorem XInv_xl (hI : XInv X) (k : Nat) (v : Int64) : XInv (xl X k v) := XInv_fr (X := X) (X' := xl X k v) (fun _ _ => rfl) rfl rfl hI
theorem XInv_xb (hI : XInv X) (s o i : Nat) (v : Int32) (hs : 0 ≠ s) : XInv (xb X s o i v) := XInv_fr (X := X) (X' := xb X s o i v) (fun _ _ => rfl) (by funext a; exact xb_ne X (fun q => hs q.1) i v) rfl hI
theorem XInv_xb0 (hI : XInv X) (o i : Nat) (v : Int32) (hv : 1 ≤ v ∧ v ≤ 24) : XInv (xb X 0 o i v) := by
  obtain ⟨a1, a2, a3, a4, a5, a6, a7, a8, a9, a10, a11⟩ := hI
  refine ⟨a1, a2, a3, a4, a5, a6, a7, a8, fun j hj hk n hn => ?_, a10, a11⟩
  show 1 ≤ (if 0 = 0 ∧ j = o ∧ n = i then v else X.2.2.1 0 j n) ∧ (if 0 = 0 ∧ j = o ∧ n = i then v else X.2.2.1 0 j n) ≤ 24
  split
  · exact hv
  · exact a9 j hj hk n hn
theorem XInv_xcp (hI : XInv X) (t : Nat) : XInv (xcp X t) := XInv_fr (X := X) (X' := xcp X t) (fun _ _ => rfl) (by funext a; exact xcp_ne (by omega)) rfl hI
theorem XInv_50 (hI : XInv X) (o : Nat) (v : Int32) (hv : o < X.2.2.2 7 0 → (X.2.2.2 0 o = 1 ∨ X.2.2.2 0 o = 3) → 0 ≤ v ∧ v < nI (X.2.2.2 1 o)) : XInv (xu X 50 o v) := by
  obtain ⟨a1, a2, a3, a4, a5, a6, a7, a8, a9, a10, a11⟩ := hI
  refine ⟨a1, a2, fun j hj hk => ?_, a4, a5, a6, a7, a8, a9, a10, a11⟩
  by_cases h : j = o
  · subst h; rw [xu_self]; exact hv hj hk
  · rw [xu_i X 50 h]; exact a3 j hj hk
theorem XInv_51 (hI : XInv X) (o : Nat) (v : Int32) (hv : o < X.2.2.2 7 0 → X.2.2.2 0 o = 3 → 0 ≤ v ∧ v < nI (X.2.2.2 2 o)) : XInv (xu X 51 o v) := by
  obtain ⟨a1, a2, a3, a4, a5, a6, a7, a8, a9, a10, a11⟩ := hI
  refine ⟨a1, a2, a3, fun j hj hk => ?_, a5, a6, a7, a8, a9, a10, a11⟩
  by_cases h : j = o
  · subst h; rw [xu_self]; exact hv hj hk
  · rw [xu_i X 51 h]; exact a4 j hj hk
theorem XInv_60 (hI : XInv X) (o : Nat) (v : Int32) (hv : 0 ≤ v ∧ v < 1440) : XInv (xu X 60 o v) := by
  obtain ⟨a1, a2, a3, a4, a5, a6, a7, a8, a9, a10, a11⟩ := hI
  refine ⟨a1, a2, a3, a4, fun j hj hk => ?_, a6, a7, a8, a9, a10, a11⟩
  by_cases h : j = o
  · subst h; rw [xu_self]; exact ⟨hv, (a5 j hj hk).2⟩
  · rw [xu_i X 60 h]; exact a5 j hj hk
theorem XInv_69 (hI : XInv X) (o : Nat) (v : Int32) (hv : 0 ≤ v ∧ v ≤ 60) : XInv (xu X 69 o v) := by
  obtain ⟨a1, a2, a3, a4, a5, a6, a7, a8, a9, a10, a11⟩ := hI
  refine ⟨a1, a2, a3, a4, fun j hj hk => ?_, a6, a7, a8, a9, a10, a11⟩
  by_cases h : j = o
  · subst h; rw [xu_self]; exact ⟨(a5 j hj hk).1, hv, (a5 j hj hk).2.2⟩
  · rw [xu_i X 69 h]; exact a5 j hj hk
theorem XInv_62 (hI : XInv X) (o : Nat) (v : Int32) (hv : (-3600) ≤ v ∧ v ≤ 3600) : XInv (xu X 62 o v) := by
  obtain ⟨a1, a2, a3, a4, a5, a6, a7, a8, a9, a10, a11⟩ := hI
  refine ⟨a1, a2, a3, a4, fun j hj hk => ?_, a6, a7, a8, a9, a10, a11⟩
  by_cases h : j = o
  · subst h; rw [xu_self]; exact ⟨(a5 j hj hk).1, (a5 j hj hk).2.1, hv⟩
  · rw [xu_i X 62 h]; exact a5 j hj hk
theorem XInv_9 (hI : XInv X) (o : Nat) (v : Int32) (hv : 0 ≤ v ∧ v ≤ 48) : XInv (xu X 9 o v) := by
  obtain ⟨a1, a2, a3, a4, a5, a6, a7, a8, a9, a10, a11⟩ := hI
  refine ⟨a1, a2, a3, a4, a5, a6, ?_, a8, a9, a10, a11⟩
  by_cases h : 0 = o
  · subst h; rw [xu_self]; exact hv
  · rw [xu_i X 9 h]; exact a7
theorem XInv_22 (hI : XInv X) (o : Nat) (v : Int32) (hv : 0 ≤ v ∧ v ≤ 4) : XInv (xu X 22 o v) := by
  obtain ⟨a1, a2, a3, a4, a5, a6, a7, a8, a9, a10, a11⟩ := hI
  refine ⟨a1, a2, a3, a4, a5, a6, a7, ?_, a9, a10, a11⟩
  by_cases h : 0 = o
  · subst h; rw [xu_self]; exact hv
  · rw [xu_i X 22 h]; exact a8
theorem XInv_43 (hI : XInv X) (o : Nat) (v : Int32) (hv : 0 ≤ v ∧ v ≤ 100000) : XInv (xu X 43 o v) := by
  obtain ⟨a1, a2, a3, a4, a5, a6, a7, a8, a9, a10, a11⟩ := hI
  refine ⟨a1, a2, a3, a4, a5, a6, a7, a8, a9, fun j hj => ?_, a11⟩
  by_cases h : j = o
  · subst h; rw [xu_self]; exact ⟨hv, (a10 j hj).2⟩
  · rw [xu_i X 43 h]; exact a10 j hj
theorem XInv_42 (hI : XInv X) (o : Nat) (v : Int32) (hv : 0 ≤ v ∧ v ≤ 100000) : XInv (xu X 42 o v) := by
  obtain ⟨a1, a2, a3, a4, a5, a6, a7, a8, a9, a10, a11⟩ := hI
  refine ⟨a1, a2, a3, a4, a5, a6, a7, a8, a9, fun j hj => ?_, a11⟩
  by_cases h : j = o
  · subst h; rw [xu_self]; exact ⟨(a10 j hj).1, hv⟩
  · rw [xu_i X 42 h]; exact a10 j hj
theorem XInv_n4 (hI : XInv X) (q n : Nat) (hn : n ≤ X.2.2.2 7 0) : XInv (xn X 4 q n) := by
  obtain ⟨⟨b1, b2, b3, b4⟩, a2, a3, a4, a5, a6, a7, a8, a9, a10, a11⟩ := hI
  refine ⟨⟨b1, b2, fun i hi => ?_, b4⟩, a2, a3, a4, a5, a6, a7, a8, a9, a10, a11⟩
  show (if 4 = 4 ∧ i = q then n else X.2.2.2 4 i) ≤ X.2.2.2 7 0
  split
  · exact hn
  · exact b3 i hi
theorem XInv_n3 (hI : XInv X) (q n : Nat) (hn : n ≤ 49) : XInv (xn X 3 q n) := by
  obtain ⟨⟨b1, b2, b3, b4⟩, a2, a3, a4, a5, a6, a7, a8, a9, a10, a11⟩ := hI
  refine ⟨⟨b1, b2, b3, fun i hi => ?_⟩, a2, a3, a4, a5, a6, a7, a8, a9, a10, a11⟩
  show (if 3 = 3 ∧ i = q then n else X.2.2.2 3 i) ≤ 49
  split
  · exact hn
  · exact b4 i hi
end XINV
/-- a method of a class of the JDK's that no native row stands for -/
theorem Met_ofWF {l : Launch} {y : MethodName} {ws ws' : List Cond} {rm : Room} {Pc : Array Value → State → Prop} {Qc : Array Value → State → Outcome → State → Prop} {mc ms : Nat} {free : Addr → Prop} {cc : ByteArray} {maxL : Nat} {ret : Option FieldType}
    (hy : plainFor y = true) (hw : ws = Cond.code y cc maxL ret :: ws')
    (body : ∀ p e s m args below meth c s₁, BodyLoose p l y (headSpec ws rm) cc maxL ret e s m args below meth c s₁ → c.maxLocals = maxL → Pc args s →
      W p l e (headSpec ws rm).room s m args below meth c s.heap [] 0 0 (MQ below Qc args s mc ms free) (entryFrame m args maxL)) : Met l y ws rm Pc Qc mc ms free := by
  refine MetFree.of_bodySF (code := cc) (maxLocals := maxL) (ret := ret) hy ?_ ?_
  · intro args s m h hn
    obtain ⟨meth, c, h1, h2, h3, h4, h5, h6, -, -⟩ := Cond.code_spec hn (atoms_spec (ws := ws) h _ (by rw [hw]; exact List.mem_cons_self))
    exact ⟨meth, c, h1, h2, h3, h4, h5, h6⟩
  · intro p e s m args below meth c s₁ B hml hP _
    have hh0 : s₁.heap = s.heap := by rw [B.state]; rfl
    obtain ⟨t, a1, o, b1, b2, b3⟩ := body p e s m args below meth c s₁ B hml hP s₁ hh0 (Stand.of_body B)
    exact ⟨t, o, a1, b1, b2, ⟨b3.1, b3.2⟩⟩
theorem s_startIF {l : Launch} {y : MethodName} {cy : ByteArray} {ny : Nat} {ty : FieldType} {rm : Room} {As : List Value} {r : Int32} (own : String) (hyo : y.cls = own) (hy : plainFor y = true) (hn : (lg_sl As).length ≤ ny)
    (body : ∀ (p : Program) (e : Env) (s : State) (m : MethodId) (av : Array Value) (below : List Frame) (meth : Method) (c : Code) (ls : Array Slot) (Q : State → Prop), CallFix p m c cy ny s av lw_all own → meth.sig.returnType = some ty → meth.locks = false → lv_has ls ny (lv_args 0 As) → Q = MQ below (vp_Si (fun r' => r' = r)) av s 0 0 (fun _ => False) → W p l e rm s m av below meth c s.heap [] 0 0 Q (F0 m 0 ls [])) : SI l y cy ny ty rm As r := by
  subst hyo
  refine Met_ofWF (cc := cy) (maxL := ny) (ret := some ty) hy rfl ?_
  intro p e s m args below meth c s₁ B hml hv
  obtain ⟨rfl, -⟩ := hv
  have hts := atoms_spec (ws := ws_ y cy ny (some ty)) B.pre
  have hl := lv_entry As (n := ny) hn
  rw [lg_entry_eq]
  exact body p e s m _ below meth c _ _ ⟨B.exec, B.bytes, hml, findClass_of_methodNamed B.named, fun w h => hts w (List.mem_cons_of_mem _ h)⟩ B.returns B.notSynchronized hl rfl
theorem s_startLF {l : Launch} {y : MethodName} {cy : ByteArray} {ny : Nat} {rm : Room} {As : List Value} {r : Int64} (own : String) (hyo : y.cls = own) (hy : plainFor y = true) (hn : (lg_sl As).length ≤ ny)
    (body : ∀ (p : Program) (e : Env) (s : State) (m : MethodId) (av : Array Value) (below : List Frame) (meth : Method) (c : Code) (ls : Array Slot) (Q : State → Prop), CallFix p m c cy ny s av lw_all own → meth.sig.returnType = some .long → meth.locks = false → lv_has ls ny (lv_args 0 As) → Q = MQ below (vp_Sl (fun r' => r' = r)) av s 0 0 (fun _ => False) → W p l e rm s m av below meth c s.heap [] 0 0 Q (F0 m 0 ls [])) : SL l y cy ny rm As r := by
  subst hyo
  refine Met_ofWF (cc := cy) (maxL := ny) (ret := some .long) hy rfl ?_
  intro p e s m args below meth c s₁ B hml hv
  obtain ⟨rfl, -⟩ := hv
  have hts := atoms_spec (ws := ws_ y cy ny (some .long)) B.pre
  have hl := lv_entry As (n := ny) hn
  rw [lg_entry_eq]
  exact body p e s m _ below meth c _ _ ⟨B.exec, B.bytes, hml, findClass_of_methodNamed B.named, fun w h => hts w (List.mem_cons_of_mem _ h)⟩ B.returns B.notSynchronized hl rfl
theorem x_clq {n : Nat} (h : n ≤ 3) : ∃ q, vwCl[2 + n]? = some q := by
  rcases x_kinds h with rfl | rfl | rfl | rfl <;> exact ⟨_, rfl⟩
