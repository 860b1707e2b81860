/-! THE CLASS: rows of its arrays. -/
set_option maxRecDepth 100000
theorem hp_R.conv {K : Type} {D : va_G} {A : Nat → Prop} {live live' : K → Prop} {ad : K → Nat} {C C' : K → va_E} {H : Heap} (h : hp_R D A live ad C H) (h2 : ∀ k, live' k → live k ∧ C' k = C k) : hp_R D A live' ad C' H := by
  obtain ⟨L, f, hs, hf, hi⟩ := h
  exact ⟨L, f, hs, fun k hk => ⟨(hf k (h2 k hk).1).1, by rw [(h2 k hk).2]; exact (hf k (h2 k hk).1).2⟩, fun k k' a b => hi k k' (h2 k a).1 (h2 k' b).1⟩
theorem x_C30 {d : Nat → ClassId} {ad : XK → Nat} {X : XS} (r : Nat) : x_C d ad X (30, r) = .inl (d 2, X.2.2.2 3 r - 1, .inl (X.2.2.1 3 r)) := rfl
theorem x_C41 {d : Nat → ClassId} {ad : XK → Nat} {X : XS} (j : Nat) : x_C d ad X (41, j) = .inl (d 0, X.2.2.2 1 j, .inl (X.2.2.1 0 j)) := rfl
theorem x_C42 {d : Nat → ClassId} {ad : XK → Nat} {X : XS} (j : Nat) : x_C d ad X (42, j) = .inl (d 0, X.2.2.2 2 j, .inl (X.2.2.1 1 j)) := rfl
theorem x_C72 {d : Nat → ClassId} {ad : XK → Nat} {X : XS} (t : Nat) : x_C d ad X (72, t) = .inl (d 0, 240, .inl (X.2.2.1 2 t)) := rfl
theorem x_C71 {d : Nat → ClassId} {ad : XK → Nat} {X : XS} (t : Nat) : x_C d ad X (71, t) = .inl (d 4, 2, .inr (.inr (.inr (.inr (fun q => if q < 2 then x_own ad X (2 * t + q) else none))))) := rfl
theorem x_C3 {d : Nat → ClassId} {ad : XK → Nat} {X : XS} : x_C d ad X (3, 0) = .inl (d 3, 8, .inr (.inr (.inr (.inr (fun r => if X.2.2.2 3 r = 0 then none else some (ad (30, r))))))) := rfl
theorem x_C4 {d : Nat → ClassId} {ad : XK → Nat} {X : XS} : x_C d ad X (4, 0) = .inl (d 4, 16, .inr (.inr (.inr (.inr (fun j => if j < X.2.2.2 7 0 then some (ad (40, j)) else none))))) := rfl
theorem x_C7 {d : Nat → ClassId} {ad : XK → Nat} {X : XS} : x_C d ad X (7, 0) = .inl (d 5, 4, .inr (.inr (.inr (.inr (fun t => if X.2.2.2 5 t = 0 then none else some (ad (70, t))))))) := rfl
theorem vp_lt {i : Int32} {n : Nat} (h : vp_in i n) : i.toNatClampNeg < n := Nat.not_le.mp fun q => h (Or.inr q)
section XARR
variable {p : Program} {l : Launch} {e : Env} {R : Room} {s : State} {m : MethodId} {args : Array Value} {below : List Frame} {meth : Method} {c : Code} {H : Heap} {locs : List Loc} {cells slots : Nat} {Q : State → Prop}
variable {cc : ByteArray} {pc nL : Nat} {ls : Array Slot} {rest st0 : List Value} {D : va_G} {A : Nat → Prop} {d : Nat → ClassId} {own : String} {ad : XK → Nat} {X : XS}
/-- notches -/
theorem x_ldn (X0 : xX p m c cc nL s args own D d) (hR : XR D d A ad X H) {j : Nat} (hlv : x_live X (41, j)) {i v : Int32} (hi : vp_in i (X.2.2.2 1 j)) (hv : X.2.2.1 0 j i.toNatClampNeg = v) (hdg : decode cc pc = .ok (.iaload, 1))
    (kk : W p l e R s m args below meth c H locs cells slots Q (F0 m (pc + 1) ls (.int v :: rest))) : W p l e R s m args below meth c H locs cells slots Q (F0 m pc ls (.int i :: .ref (ad (41, j)) :: rest)) :=
  hp_ald X0.1 hR hlv (x_C41 j) hi hv hdg kk
theorem x_stn (X0 : xX p m c cc nL s args own D d) (hR : XR D d A ad X H) (hS : va_S A s.heap H locs) {j : Nat} (hlv : x_live X (41, j)) {i v : Int32} (hi : vp_in i (X.2.2.2 1 j)) (hdg : decode cc pc = .ok (.iastore, 1))
    (kk : ∀ (H : Heap) (locs : List Loc), XR D d A ad (xb X 0 j i.toNatClampNeg v) H → va_S A s.heap H locs → W p l e R s m args below meth c H locs cells slots Q (F0 m (pc + 1) ls rest)) : W p l e R s m args below meth c H locs cells slots Q (F0 m pc ls (.int v :: .int i :: .ref (ad (41, j)) :: rest)) :=
  hp_ast X0.1 hR hS hlv (C' := x_C d ad (xb X 0 j i.toNatClampNeg v)) (x_C41 j) hi hdg (by rw [x_C41, xb_so]; rfl)
    (fun q _ hne => x_C_xb (fun a b => by omega) (fun a b => hne (Prod.ext a b.2)) (fun a b => by omega) (fun a b => by omega)) kk
theorem x_lnn (X0 : xX p m c cc nL s args own D d) (hR : XR D d A ad X H) {j : Nat} (hlv : x_live X (41, j)) {v : Int32} (hv : nI (X.2.2.2 1 j) = v) (hdg : decode cc pc = .ok (.arraylength, 1))
    (kk : W p l e R s m args below meth c H locs cells slots Q (F0 m (pc + 1) ls (.int v :: rest))) : W p l e R s m args below meth c H locs cells slots Q (F0 m pc ls (.ref (ad (41, j)) :: rest)) :=
  hp_alen X0.1 hR hlv (x_C41 j) 0 rfl hv hdg kk
/-- pins -/
theorem x_ldp (X0 : xX p m c cc nL s args own D d) (hR : XR D d A ad X H) {j : Nat} (hlv : x_live X (42, j)) {i v : Int32} (hi : vp_in i (X.2.2.2 2 j)) (hv : X.2.2.1 1 j i.toNatClampNeg = v) (hdg : decode cc pc = .ok (.iaload, 1))
    (kk : W p l e R s m args below meth c H locs cells slots Q (F0 m (pc + 1) ls (.int v :: rest))) : W p l e R s m args below meth c H locs cells slots Q (F0 m pc ls (.int i :: .ref (ad (42, j)) :: rest)) :=
  hp_ald X0.1 hR hlv (x_C42 j) hi hv hdg kk
theorem x_stp (X0 : xX p m c cc nL s args own D d) (hR : XR D d A ad X H) (hS : va_S A s.heap H locs) {j : Nat} (hlv : x_live X (42, j)) {i v : Int32} (hi : vp_in i (X.2.2.2 2 j)) (hdg : decode cc pc = .ok (.iastore, 1))
    (kk : ∀ (H : Heap) (locs : List Loc), XR D d A ad (xb X 1 j i.toNatClampNeg v) H → va_S A s.heap H locs → W p l e R s m args below meth c H locs cells slots Q (F0 m (pc + 1) ls rest)) : W p l e R s m args below meth c H locs cells slots Q (F0 m pc ls (.int v :: .int i :: .ref (ad (42, j)) :: rest)) :=
  hp_ast X0.1 hR hS hlv (C' := x_C d ad (xb X 1 j i.toNatClampNeg v)) (x_C42 j) hi hdg (by rw [x_C42, xb_so]; rfl)
    (fun q _ hne => x_C_xb (fun a b => by omega) (fun a b => by omega) (fun a b => hne (Prod.ext a b.2)) (fun a b => by omega)) kk
theorem x_lnp (X0 : xX p m c cc nL s args own D d) (hR : XR D d A ad X H) {j : Nat} (hlv : x_live X (42, j)) {v : Int32} (hv : nI (X.2.2.2 2 j) = v) (hdg : decode cc pc = .ok (.arraylength, 1))
    (kk : W p l e R s m args below meth c H locs cells slots Q (F0 m (pc + 1) ls (.int v :: rest))) : W p l e R s m args below meth c H locs cells slots Q (F0 m pc ls (.ref (ad (42, j)) :: rest)) :=
  hp_alen X0.1 hR hlv (x_C42 j) 0 rfl hv hdg kk
/-- a log -/
theorem x_ldg (X0 : xX p m c cc nL s args own D d) (hR : XR D d A ad X H) {t : Nat} (hlv : x_live X (72, t)) {i v : Int32} (hi : vp_in i 240) (hv : X.2.2.1 2 t i.toNatClampNeg = v) (hdg : decode cc pc = .ok (.iaload, 1))
    (kk : W p l e R s m args below meth c H locs cells slots Q (F0 m (pc + 1) ls (.int v :: rest))) : W p l e R s m args below meth c H locs cells slots Q (F0 m pc ls (.int i :: .ref (ad (72, t)) :: rest)) :=
  hp_ald X0.1 hR hlv (x_C72 t) hi hv hdg kk
theorem x_stg (X0 : xX p m c cc nL s args own D d) (hR : XR D d A ad X H) (hS : va_S A s.heap H locs) {t : Nat} (hlv : x_live X (72, t)) {i v : Int32} (hi : vp_in i 240) (hdg : decode cc pc = .ok (.iastore, 1))
    (kk : ∀ (H : Heap) (locs : List Loc), XR D d A ad (xb X 2 t i.toNatClampNeg v) H → va_S A s.heap H locs → W p l e R s m args below meth c H locs cells slots Q (F0 m (pc + 1) ls rest)) : W p l e R s m args below meth c H locs cells slots Q (F0 m pc ls (.int v :: .int i :: .ref (ad (72, t)) :: rest)) :=
  hp_ast X0.1 hR hS hlv (C' := x_C d ad (xb X 2 t i.toNatClampNeg v)) (x_C72 t) hi hdg (by rw [x_C72, xb_so])
    (fun q _ hne => x_C_xb (fun a b => by omega) (fun a b => by omega) (fun a b => by omega) (fun a b => hne (Prod.ext a b.2))) kk
/-- a row's bytes -/
theorem x_ldr (X0 : xX p m c cc nL s args own D d) (hR : XR D d A ad X H) {r : Nat} (hlv : x_live X (30, r)) {i v : Int32} (hi : vp_in i (X.2.2.2 3 r - 1)) (hv : X.2.2.1 3 r i.toNatClampNeg = v) (hdg : decode cc pc = .ok (.baload, 1))
    (kk : W p l e R s m args below meth c H locs cells slots Q (F0 m (pc + 1) ls (.int v :: rest))) : W p l e R s m args below meth c H locs cells slots Q (F0 m pc ls (.int i :: .ref (ad (30, r)) :: rest)) :=
  hp_bld X0.1 hR hlv (x_C30 r) hi hv hdg kk
theorem x_str (X0 : xX p m c cc nL s args own D d) (hR : XR D d A ad X H) (hS : va_S A s.heap H locs) {r : Nat} (hlv : x_live X (30, r)) {i v : Int32} (hi : vp_in i (X.2.2.2 3 r - 1)) (hdg : decode cc pc = .ok (.bastore, 1))
    (kk : ∀ (H : Heap) (locs : List Loc), XR D d A ad (xb X 3 r i.toNatClampNeg v.toInt8.toInt32) H → va_S A s.heap H locs → W p l e R s m args below meth c H locs cells slots Q (F0 m (pc + 1) ls rest)) : W p l e R s m args below meth c H locs cells slots Q (F0 m pc ls (.int v :: .int i :: .ref (ad (30, r)) :: rest)) :=
  hp_bst X0.1 hR hS hlv (C' := x_C d ad (xb X 3 r i.toNatClampNeg v.toInt8.toInt32)) (x_C30 r) hi hdg (by rw [x_C30, xb_so]; rfl)
    (fun q _ hne => x_C_xb (fun a b => hne (Prod.ext a b.2)) (fun a b => by omega) (fun a b => by omega) (fun a b => by omega)) kk
theorem x_lnr (X0 : xX p m c cc nL s args own D d) (hR : XR D d A ad X H) {r : Nat} (hlv : x_live X (30, r)) {v : Int32} (hv : nI (X.2.2.2 3 r - 1) = v) (hdg : decode cc pc = .ok (.arraylength, 1))
    (kk : W p l e R s m args below meth c H locs cells slots Q (F0 m (pc + 1) ls (.int v :: rest))) : W p l e R s m args below meth c H locs cells slots Q (F0 m pc ls (.ref (ad (30, r)) :: rest)) :=
  hp_alen X0.1 hR hlv (x_C30 r) 2 rfl hv hdg kk
/-- trains -/
theorem x_ldt (X0 : xX p m c cc nL s args own D d) (hR : XR D d A ad X H) {i : Int32} (hi : vp_in i 16) (hj : i.toNatClampNeg < X.2.2.2 7 0) (hdg : decode cc pc = .ok (.aaload, 1))
    (kk : W p l e R s m args below meth c H locs cells slots Q (F0 m (pc + 1) ls (.ref (ad (40, i.toNatClampNeg)) :: rest))) : W p l e R s m args below meth c H locs cells slots Q (F0 m pc ls (.int i :: .ref (ad (4, 0)) :: rest)) :=
  hp_aald X0.1 hR (k := (4, 0)) (x_lva ⟨by decide, by decide⟩) x_C4 4 rfl rfl hi (by rw [if_pos hj]; rfl) hdg kk
/-- towers: one is there, none is there, either -/
theorem x_ldw (X0 : xX p m c cc nL s args own D d) (hR : XR D d A ad X H) {i : Int32} (hi : vp_in i 4) (hj : ¬ X.2.2.2 5 i.toNatClampNeg = 0) (hdg : decode cc pc = .ok (.aaload, 1))
    (kk : W p l e R s m args below meth c H locs cells slots Q (F0 m (pc + 1) ls (.ref (ad (70, i.toNatClampNeg)) :: rest))) : W p l e R s m args below meth c H locs cells slots Q (F0 m pc ls (.int i :: .ref (ad (7, 0)) :: rest)) :=
  hp_aald X0.1 hR (k := (7, 0)) (x_lva ⟨by decide, by decide⟩) x_C7 5 rfl rfl hi (by rw [if_neg hj]; rfl) hdg kk
theorem x_ldw0 (X0 : xX p m c cc nL s args own D d) (hR : XR D d A ad X H) {i : Int32} (hi : vp_in i 4) (hj : X.2.2.2 5 i.toNatClampNeg = 0) (hdg : decode cc pc = .ok (.aaload, 1))
    (kk : W p l e R s m args below meth c H locs cells slots Q (F0 m (pc + 1) ls (.null :: rest))) : W p l e R s m args below meth c H locs cells slots Q (F0 m pc ls (.int i :: .ref (ad (7, 0)) :: rest)) :=
  hp_aald X0.1 hR (k := (7, 0)) (x_lva ⟨by decide, by decide⟩) x_C7 5 rfl rfl hi (by rw [if_pos hj]; rfl) hdg kk
theorem x_ldwB (X0 : xX p m c cc nL s args own D d) (hR : XR D d A ad X H) {i : Int32} (hi : vp_in i 4) (hdg : decode cc pc = .ok (.aaload, 1))
    (k0 : X.2.2.2 5 i.toNatClampNeg = 0 → W p l e R s m args below meth c H locs cells slots Q (F0 m (pc + 1) ls (.null :: rest)))
    (k1 : ¬ X.2.2.2 5 i.toNatClampNeg = 0 → W p l e R s m args below meth c H locs cells slots Q (F0 m (pc + 1) ls (.ref (ad (70, i.toNatClampNeg)) :: rest))) : W p l e R s m args below meth c H locs cells slots Q (F0 m pc ls (.int i :: .ref (ad (7, 0)) :: rest)) := by
  by_cases h : X.2.2.2 5 i.toNatClampNeg = 0
  · exact x_ldw0 X0 hR hi h hdg (k0 h)
  · exact x_ldw X0 hR hi h hdg (k1 h)
/-- rows -/
theorem x_ldR (X0 : xX p m c cc nL s args own D d) (hR : XR D d A ad X H) {i : Int32} (hi : vp_in i 8) (hj : ¬ X.2.2.2 3 i.toNatClampNeg = 0) (hdg : decode cc pc = .ok (.aaload, 1))
    (kk : W p l e R s m args below meth c H locs cells slots Q (F0 m (pc + 1) ls (.ref (ad (30, i.toNatClampNeg)) :: rest))) : W p l e R s m args below meth c H locs cells slots Q (F0 m pc ls (.int i :: .ref (ad (3, 0)) :: rest)) :=
  hp_aald X0.1 hR (k := (3, 0)) (x_lva ⟨by decide, by decide⟩) x_C3 3 rfl rfl hi (by rw [if_neg hj]; rfl) hdg kk
theorem x_ldR0 (X0 : xX p m c cc nL s args own D d) (hR : XR D d A ad X H) {i : Int32} (hi : vp_in i 8) (hj : X.2.2.2 3 i.toNatClampNeg = 0) (hdg : decode cc pc = .ok (.aaload, 1))
    (kk : W p l e R s m args below meth c H locs cells slots Q (F0 m (pc + 1) ls (.null :: rest))) : W p l e R s m args below meth c H locs cells slots Q (F0 m pc ls (.int i :: .ref (ad (3, 0)) :: rest)) :=
  hp_aald X0.1 hR (k := (3, 0)) (x_lva ⟨by decide, by decide⟩) x_C3 3 rfl rfl hi (by rw [if_pos hj]; rfl) hdg kk
theorem x_ldRB (X0 : xX p m c cc nL s args own D d) (hR : XR D d A ad X H) {i : Int32} (hi : vp_in i 8) (hdg : decode cc pc = .ok (.aaload, 1))
    (k0 : X.2.2.2 3 i.toNatClampNeg = 0 → W p l e R s m args below meth c H locs cells slots Q (F0 m (pc + 1) ls (.null :: rest)))
    (k1 : ¬ X.2.2.2 3 i.toNatClampNeg = 0 → W p l e R s m args below meth c H locs cells slots Q (F0 m (pc + 1) ls (.ref (ad (30, i.toNatClampNeg)) :: rest))) : W p l e R s m args below meth c H locs cells slots Q (F0 m pc ls (.int i :: .ref (ad (3, 0)) :: rest)) := by
  by_cases h : X.2.2.2 3 i.toNatClampNeg = 0
  · exact x_ldR0 X0 hR hi h hdg (k0 h)
  · exact x_ldR X0 hR hi h hdg (k1 h)
/-- the trains of a tower -/
theorem x_own_s {q : Nat} (h : ¬ X.2.2.2 4 q = 0) : x_own ad X q = some (ad (40, X.2.2.2 4 q - 1)) := by
  unfold x_own
  split
  · exact absurd (by assumption) h
  · next n hn => rw [hn]; rfl
theorem x_own_n {q : Nat} (h : X.2.2.2 4 q = 0) : x_own ad X q = none := by
  unfold x_own
  rw [h]
theorem x_ldo (X0 : xX p m c cc nL s args own D d) (hR : XR D d A ad X H) {t : Nat} (hlv : x_live X (71, t)) {i : Int32} (hi : vp_in i 2) (hj : ¬ X.2.2.2 4 (2 * t + i.toNatClampNeg) = 0) (hdg : decode cc pc = .ok (.aaload, 1))
    (kk : W p l e R s m args below meth c H locs cells slots Q (F0 m (pc + 1) ls (.ref (ad (40, X.2.2.2 4 (2 * t + i.toNatClampNeg) - 1)) :: rest))) : W p l e R s m args below meth c H locs cells slots Q (F0 m pc ls (.int i :: .ref (ad (71, t)) :: rest)) :=
  hp_aald X0.1 hR hlv (x_C71 t) 4 rfl rfl hi (by rw [if_pos (vp_lt hi), x_own_s hj]; rfl) hdg kk
theorem x_ldo0 (X0 : xX p m c cc nL s args own D d) (hR : XR D d A ad X H) {t : Nat} (hlv : x_live X (71, t)) {i : Int32} (hi : vp_in i 2) (hj : X.2.2.2 4 (2 * t + i.toNatClampNeg) = 0) (hdg : decode cc pc = .ok (.aaload, 1))
    (kk : W p l e R s m args below meth c H locs cells slots Q (F0 m (pc + 1) ls (.null :: rest))) : W p l e R s m args below meth c H locs cells slots Q (F0 m pc ls (.int i :: .ref (ad (71, t)) :: rest)) :=
  hp_aald X0.1 hR hlv (x_C71 t) 4 rfl rfl hi (by rw [if_pos (vp_lt hi), x_own_n hj]; rfl) hdg kk
theorem x_ldoB (X0 : xX p m c cc nL s args own D d) (hR : XR D d A ad X H) {t : Nat} (hlv : x_live X (71, t)) {i : Int32} (hi : vp_in i 2) (hdg : decode cc pc = .ok (.aaload, 1))
    (k0 : X.2.2.2 4 (2 * t + i.toNatClampNeg) = 0 → W p l e R s m args below meth c H locs cells slots Q (F0 m (pc + 1) ls (.null :: rest)))
    (k1 : ¬ X.2.2.2 4 (2 * t + i.toNatClampNeg) = 0 → W p l e R s m args below meth c H locs cells slots Q (F0 m (pc + 1) ls (.ref (ad (40, X.2.2.2 4 (2 * t + i.toNatClampNeg) - 1)) :: rest))) : W p l e R s m args below meth c H locs cells slots Q (F0 m pc ls (.int i :: .ref (ad (71, t)) :: rest)) := by
  by_cases h : X.2.2.2 4 (2 * t + i.toNatClampNeg) = 0
  · exact x_ldo0 X0 hR hlv hi h hdg (k0 h)
  · exact x_ldo X0 hR hlv hi h hdg (k1 h)
/-- a number of the state changes (a place's train): the live keys and the other cells stay -/
theorem x_live4 {q n : Nat} {k : XK} : x_live (xn X 4 q n) k = x_live X k := by
  simp [x_live, xn]
theorem x_C4n {t i n : Nat} (hi : i < 2) : ∀ q, x_live X q → q ≠ (71, t) → x_C d ad (xn X 4 (2 * t + i) n) q = x_C d ad X q := by
  intro q hq hne
  obtain ⟨a, b⟩ := q
  by_cases h71 : a = 71
  · subst h71
    have hb : b ≠ t := fun e => hne (by rw [e])
    rw [x_C71, x_C71]
    have : (fun q => if q < 2 then x_own ad (xn X 4 (2 * t + i) n) (2 * b + q) else none) = (fun q => if q < 2 then x_own ad X (2 * b + q) else none) := by
      funext w
      by_cases w2 : w < 2
      · rw [if_pos w2, if_pos w2]
        unfold x_own
        rw [show (xn X 4 (2 * t + i) n).2.2.2 4 (2 * b + w) = X.2.2.2 4 (2 * b + w) by
          show (if 4 = 4 ∧ 2 * b + w = 2 * t + i then n else X.2.2.2 4 (2 * b + w)) = _
          rw [if_neg (by omega)]]
      · rw [if_neg w2, if_neg w2]
    rw [this]
  · have h4 : ∀ k w, k ≠ 4 → (xn X 4 (2 * t + i) n).2.2.2 k w = X.2.2.2 k w := fun k w hk => by simp [xn, hk]
    unfold x_C
    dsimp only
    rw [if_neg h71, if_neg h71]
    simp only [h4 3 _ (by decide), h4 7 _ (by decide), h4 5 _ (by decide), h4 0 _ (by decide), h4 1 _ (by decide), h4 2 _ (by decide)]
    have e1 : x_te ad (xn X 4 (2 * t + i) n) b = x_te ad X b := by
      unfold x_te
      rw [h4 0 _ (by decide)]
      rfl
    rw [e1]
    rfl
theorem x_Cown {t i n : Nat} (hi : i < 2) {w : Option Nat} (hw : (match n with | 0 => none | n + 1 => some (ad (40, n))) = w) : x_C d ad (xn X 4 (2 * t + i) n) (71, t) = .inl (d 4, 2, .inr (.inr (.inr (.inr (va_up (fun q => if q < 2 then x_own ad X (2 * t + q) else none) i w))))) := by
  subst hw
  rw [x_C71]
  have : (fun q => if q < 2 then x_own ad (xn X 4 (2 * t + i) n) (2 * t + q) else none) = va_up (fun q => if q < 2 then x_own ad X (2 * t + q) else none) i (match n with | 0 => none | n + 1 => some (ad (40, n))) := by
    funext q
    unfold va_up
    by_cases h : q = i
    · subst h
      rw [if_pos hi, if_pos rfl]
      unfold x_own
      rw [show (xn X 4 (2 * t + q) n).2.2.2 4 (2 * t + q) = n by simp [xn]]
      cases n <;> rfl
    · rw [if_neg h]
      dsimp only
      by_cases q2 : q < 2
      · rw [if_pos q2, if_pos q2]
        unfold x_own
        rw [show (xn X 4 (2 * t + i) n).2.2.2 4 (2 * t + q) = X.2.2.2 4 (2 * t + q) by
          show (if 4 = 4 ∧ 2 * t + q = 2 * t + i then n else X.2.2.2 4 (2 * t + q)) = _
          rw [if_neg (by omega)]]
      · rw [if_neg q2, if_neg q2]
  rw [this]
theorem x_sto (X0 : xX p m c cc nL s args own D d) (hR : XR D d A ad X H) (hS : va_S A s.heap H locs) {t j : Nat} (hlv : x_live X (71, t)) (hlj : x_live X (40, j)) (hkd : X.2.2.2 0 j ≤ 3) {i : Int32} (hi : vp_in i 2) (hdg : decode cc pc = .ok (.aastore, 1))
    (kk : ∀ (H : Heap) (locs : List Loc), XR D d A ad (xn X 4 (2 * t + i.toNatClampNeg) (j + 1)) H → va_S A s.heap H locs → W p l e R s m args below meth c H locs cells slots Q (F0 m (pc + 1) ls rest)) : W p l e R s m args below meth c H locs cells slots Q (F0 m pc ls (.ref (ad (40, j)) :: .int i :: .ref (ad (71, t)) :: rest)) := by
  have hlt := vp_lt hi
  have go : ∀ (H : Heap) (locs : List Loc), hp_R D A (x_live X) ad (x_C d ad (xn X 4 (2 * t + i.toNatClampNeg) (j + 1))) H → va_S A s.heap H locs → W p l e R s m args below meth c H locs cells slots Q (F0 m (pc + 1) ls rest) := fun H locs h1 h2 => kk H locs (h1.conv fun k hk => ⟨by rw [x_live4] at hk; exact hk, rfl⟩) h2
  have h1 := x_Cown (d := d) (ad := ad) (X := X) (t := t) (n := j + 1) hlt rfl
  have h2 := x_C4n (d := d) (ad := ad) (X := X) (t := t) (n := j + 1) hlt
  rcases x_kinds hkd with h | h | h | h
  · exact hp_aast X0.1 hR hS hlv hlj (x_C71 t) 4 rfl (ci := 2) (by rw [x_C40, h]) rfl (Or.inr rfl) hi hdg h1 h2 go
  · exact hp_aast X0.1 hR hS hlv hlj (x_C71 t) 4 rfl (ci := 3) (by rw [x_C40, h]) rfl (Or.inl (X0.2.nw q1731 rfl)) hi hdg h1 h2 go
  · exact hp_aast X0.1 hR hS hlv hlj (x_C71 t) 4 rfl (ci := 4) (by rw [x_C40, h]) rfl (Or.inl (X0.2.nw q1732 rfl)) hi hdg h1 h2 go
  · exact hp_aast X0.1 hR hS hlv hlj (x_C71 t) 4 rfl (ci := 5) (by rw [x_C40, h]) rfl (Or.inl (X0.2.nw q1733 rfl)) hi hdg h1 h2 go
theorem x_sto0 (X0 : xX p m c cc nL s args own D d) (hR : XR D d A ad X H) (hS : va_S A s.heap H locs) {t : Nat} (hlv : x_live X (71, t)) {i : Int32} (hi : vp_in i 2) (hdg : decode cc pc = .ok (.aastore, 1))
    (kk : ∀ (H : Heap) (locs : List Loc), XR D d A ad (xn X 4 (2 * t + i.toNatClampNeg) 0) H → va_S A s.heap H locs → W p l e R s m args below meth c H locs cells slots Q (F0 m (pc + 1) ls rest)) : W p l e R s m args below meth c H locs cells slots Q (F0 m pc ls (.null :: .int i :: .ref (ad (71, t)) :: rest)) :=
  hp_aastN X0.1 hR hS hlv (x_C71 t) 4 rfl hi hdg (x_Cown (d := d) (ad := ad) (X := X) (t := t) (n := 0) (vp_lt hi) rfl) (x_C4n (d := d) (ad := ad) (X := X) (t := t) (n := 0) (vp_lt hi)) fun H locs h1 h2 => kk H locs (h1.conv fun k hk => ⟨by rw [x_live4] at hk; exact hk, rfl⟩) h2
theorem x_ldoE (X0 : xX p m c cc nL s args own D d) (hR : XR D d A ad X H) {t : Nat} (hlv : x_live X (71, t)) {i : Int32} (hi : vp_in i 2) {n : Nat} (hn : X.2.2.2 4 (2 * t + i.toNatClampNeg) = n) (hj : ¬ n = 0) (hdg : decode cc pc = .ok (.aaload, 1))
    (kk : W p l e R s m args below meth c H locs cells slots Q (F0 m (pc + 1) ls (.ref (ad (40, n - 1)) :: rest))) : W p l e R s m args below meth c H locs cells slots Q (F0 m pc ls (.int i :: .ref (ad (71, t)) :: rest)) := by
  subst hn
  exact x_ldo X0 hR hlv hi hj hdg kk
theorem x_ldoBE (X0 : xX p m c cc nL s args own D d) (hR : XR D d A ad X H) {t : Nat} (hlv : x_live X (71, t)) {i : Int32} (hi : vp_in i 2) {n : Nat} (hn : X.2.2.2 4 (2 * t + i.toNatClampNeg) = n) (hdg : decode cc pc = .ok (.aaload, 1))
    (k0 : n = 0 → W p l e R s m args below meth c H locs cells slots Q (F0 m (pc + 1) ls (.null :: rest)))
    (k1 : ¬ n = 0 → W p l e R s m args below meth c H locs cells slots Q (F0 m (pc + 1) ls (.ref (ad (40, n - 1)) :: rest))) : W p l e R s m args below meth c H locs cells slots Q (F0 m pc ls (.int i :: .ref (ad (71, t)) :: rest)) := by
  subst hn
  exact x_ldoB X0 hR hlv hi hdg k0 k1
/-- the log moves up by an entry -/
def xcp (X : XS) (t : Nat) : XS := (X.1, X.2.1, fun s2 o2 => if s2 = 2 ∧ o2 = t then va_cpy (X.2.2.1 2 t) (X.2.2.1 2 t) 4 0 236 else X.2.2.1 s2 o2, X.2.2.2)
theorem xcp_ne {t s2 o2 : Nat} (h : ¬ (s2 = 2 ∧ o2 = t)) : (xcp X t).2.2.1 s2 o2 = X.2.2.1 s2 o2 := if_neg h
theorem xcp_self {t : Nat} : (xcp X t).2.2.1 2 t = va_cpy (X.2.2.1 2 t) (X.2.2.1 2 t) 4 0 236 := if_pos ⟨rfl, rfl⟩
theorem x_cpg (X0 : xX p m c cc nL s args own D d) (hR : XR D d A ad X H) (hS : va_S A s.heap H locs) {t : Nat} (hlv : x_live X (72, t)) {idx : Nat} (hq : Cond.methodLink own idx arraycopyName ∈ lw_all) (hRm : 1 ≤ R.frames ∧ (rest.map fun v => v.category).sum + (nativeFrameWords "java/lang/System" "arraycopy" 5 + 11) ≤ R.locals) (hl : ls.size = nL) (hdg : decode cc pc = .ok (.invokestatic idx, 3))
    (kk : ∀ (H : Heap) (locs : List Loc), XR D d A ad (xcp X t) H → va_S A s.heap H locs → W p l e R s m args below meth c H locs cells slots Q (F0 m (pc + 3) ls rest)) : W p l e R s m args below meth c H locs cells slots Q (F0 m pc ls (.int 236 :: .int 0 :: .ref (ad (72, t)) :: .int 4 :: .ref (ad (72, t)) :: rest)) := by
  obtain ⟨⟨⟨hx, hb, hml, hown, hts⟩, hK⟩, hE⟩ := X0
  obtain ⟨L, f, ⟨hP, hD⟩, hf, hi⟩ := hR
  obtain ⟨k0, e0⟩ := va_pl_get (X := []) (f := f) (hf _ hlv).1
  refine va_copyi hx hb (hml.trans hl.symm) hown (hts _ hq) (hts _ q345) (hts _ q344) (hts _ q68) hK hP hD hS k0 k0 0 0 (c0 := d 0) (c1 := d 0) (n0 := 240) (n1 := 240) (f := X.2.2.1 2 t) (g := X.2.2.1 2 t) (ty := .int) (by rw [e0, (hf _ hlv).2, x_C72]) (by rw [e0, (hf _ hlv).2, x_C72]) rfl rfl rfl (by decide) (by decide) (by decide) (by decide) (by decide) (fun i _ => rfl) hRm.1 hRm.2 hdg fun H1 locs1 hP1 hD1 hS1 => ?_
  rw [va_pl_set hD (hf _ hlv).1 e0] at hP1 hD1
  refine kk H1 locs1 (hp_R.upd ⟨hP1, hD1⟩ hf hi hlv ?_ fun k' hk' hne => ?_) hS1
  · rw [x_C72, xcp_self]; rfl
  · obtain ⟨a, b⟩ := k'
    by_cases h72 : a = 72
    · subst h72
      rw [x_C72, x_C72, xcp_ne]
      rintro ⟨-, rfl⟩
      exact hne rfl
    · have e30 : ∀ o, (xcp X t).2.2.1 3 o = X.2.2.1 3 o := fun o => xcp_ne (by omega)
      have e0' : ∀ o, (xcp X t).2.2.1 0 o = X.2.2.1 0 o := fun o => xcp_ne (by omega)
      have e1' : ∀ o, (xcp X t).2.2.1 1 o = X.2.2.1 1 o := fun o => xcp_ne (by omega)
      unfold x_C
      simp only [h72, if_false, e30, e0', e1']
      rfl
end XARR
