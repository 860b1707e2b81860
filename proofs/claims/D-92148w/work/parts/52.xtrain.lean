/-! THE CLASS: rows of trains and towers. -/
set_option maxRecDepth 100000
theorem tt3 : ∀ f, f < 10 → TT3 f = TT2 f := by decide +kernel
theorem tt4 : ∀ f, f < 10 → TT4 f = TT2 f := by decide +kernel
theorem tt5 : ∀ f, f < 10 → TT5 f = TT2 f := by decide +kernel
theorem tt53 : ∀ f, f < 12 → TT5 f = TT3 f := by decide +kernel
theorem x_C40 {d : Nat → ClassId} {ad : XK → Nat} {X : XS} (j : Nat) : x_C d ad X (40, j) = .inr (2 + X.2.2.2 0 j, x_tf X j ++ x_te ad X j) := rfl
theorem x_C70 {d : Nat → ClassId} {ad : XK → Nat} {X : XS} (t : Nat) : x_C d ad X (70, t) = .inr (6, x_tw ad X t) := rfl
theorem x_tf_at (ad : XK → Nat) (X : XS) (j : Nat) : ∀ f, f < 10 → (x_tf X j ++ x_te ad X j)[f]? = some (.int (X.1 (40 + f) j)) := by
  intro f hf
  match f, hf with
  | 0, _ => rfl
  | 1, _ => rfl
  | 2, _ => rfl
  | 3, _ => rfl
  | 4, _ => rfl
  | 5, _ => rfl
  | 6, _ => rfl
  | 7, _ => rfl
  | 8, _ => rfl
  | 9, _ => rfl
theorem x_te_xu {ad : XK → Nat} {X : XS} {j k i : Nat} {v : Int32} (h : k ≠ 50 ∧ k ≠ 51) : x_te ad (xu X k i v) j = x_te ad X j := by
  unfold x_te
  rw [xu_k X (Ne.symm h.1), xu_k X (Ne.symm h.2)]
  rfl
theorem x_tf_set (ad : XK → Nat) (X : XS) (j : Nat) (v : Int32) : ∀ f, f < 10 → x_tf (xu X (40 + f) j v) j ++ x_te ad (xu X (40 + f) j v) j = (x_tf X j ++ x_te ad X j).set f (.int v) := by
  intro f hf
  rw [x_te_xu ⟨by omega, by omega⟩, List.set_append_left _ _ (by show f < 10; exact hf)]
  congr 1
  match f, hf with
  | 0, _ => simp [x_tf, xu]
  | 1, _ => simp [x_tf, xu]
  | 2, _ => simp [x_tf, xu]
  | 3, _ => simp [x_tf, xu]
  | 4, _ => simp [x_tf, xu]
  | 5, _ => simp [x_tf, xu]
  | 6, _ => simp [x_tf, xu]
  | 7, _ => simp [x_tf, xu]
  | 8, _ => simp [x_tf, xu]
  | 9, _ => simp [x_tf, xu]
theorem x_kinds {n : Nat} (h : n ≤ 3) : n = 0 ∨ n = 1 ∨ n = 2 ∨ n = 3 := by omega
section XTR
variable {p : Program} {l : Launch} {e : Env} {R : Room} {s : State} {m : MethodId} {args : Array Value} {below : List Frame} {meth : Method} {c : Code} {H : Heap} {locs : List Loc} {cells slots : Nat} {Q : State → Prop}
variable {cc : ByteArray} {pc nL : Nat} {ls : Array Slot} {rest st0 : List Value} {D : va_G} {A : Nat → Prop} {d : Nat → ClassId} {own : String} {ad : XK → Nat} {X : XS}
/-- a field that every train has -/
theorem xgt (X0 : xX p m c cc nL s args own D d) (hR : XR D d A ad X H) {j : Nat} (hlv : x_live X (40, j)) (hkd : X.2.2.2 0 j ≤ 3) (f : Nat) (hf : f < 10) {idx : Nat} {ref : String} (hq : Cond.fieldLink own idx ref (TT2 f).2.1 (TT2 f).2.2.1 ∈ lw_all) (hs : xsame ref (TT2 f).1 (TT2 f).2.1 (TT2 f).2.2.1) {v : Int32} (hv : X.1 (40 + f) j = v) (hdg : decode cc pc = .ok (.getfield idx, 3))
    (kk : W p l e R s m args below meth c H locs cells slots Q (F0 m (pc + 3) ls (.int v :: rest))) : W p l e R s m args below meth c H locs cells slots Q (F0 m pc ls (.ref (ad (40, j)) :: rest)) := by
  subst hv
  have ha := x_tf_at ad X j f hf
  rcases x_kinds hkd with h | h | h | h
  · exact hp_getR X0.1 hR hlv (ci := 2) (by rw [x_C40, h]) rfl in_T2 f hf hq hs ha hdg kk
  · exact hp_getR X0.1 hR hlv (ci := 3) (by rw [x_C40, h]) rfl in_T3 f (by omega) (by rw [tt3 f hf]; exact hq) (by rw [tt3 f hf]; exact hs) ha hdg kk
  · exact hp_getR X0.1 hR hlv (ci := 4) (by rw [x_C40, h]) rfl in_T4 f (by omega) (by rw [tt4 f hf]; exact hq) (by rw [tt4 f hf]; exact hs) ha hdg kk
  · exact hp_getR X0.1 hR hlv (ci := 5) (by rw [x_C40, h]) rfl in_T5 f (by omega) (by rw [tt5 f hf]; exact hq) (by rw [tt5 f hf]; exact hs) ha hdg kk
/-- the other cells, where a train's number changes -/
theorem x_fr40 {k j : Nat} {v : Int32} (hk : 40 ≤ k ∧ k < 52) : ∀ q, x_live X q → q ≠ (40, j) → x_C d ad (xu X k j v) q = x_C d ad X q := by
  intro q hq hne
  refine x_C_xu hq (fun _ => Or.inr (by omega)) (fun a b e => by omega) (fun e w => hne (Prod.ext e w.2.2.symm)) (fun e w => by omega)
theorem x_fr60 {k j : Nat} {v : Int32} (hk : 60 ≤ k ∧ k < 70) : ∀ q, x_live X q → q ≠ (70, j) → x_C d ad (xu X k j v) q = x_C d ad X q := by
  intro q hq hne
  refine x_C_xu hq (fun _ => Or.inr (by omega)) (fun a b e => by omega) (fun e w => by omega) (fun e w => hne (Prod.ext e w.2.2.symm))
theorem xpt0 (X0 : xX p m c cc nL s args own D d) (hR : XR D d A ad X H) (hS : va_S A s.heap H locs) {j : Nat} (hlv : x_live X (40, j)) (hkd : X.2.2.2 0 j ≤ 3) (f : Nat) (hf : f < 10) {idx : Nat} {ref : String} (hq : Cond.fieldLink own idx ref (TT2 f).2.1 (TT2 f).2.2.1 ∈ lw_all) (hs : xsame ref (TT2 f).1 (TT2 f).2.1 (TT2 f).2.2.1) (hfin : (TT2 f).2.2.2 = false) {v : Int32} (hn : narrow (ty_TT 2 f) (.int v) = .int v) (hfit : fits (ty_TT 2 f) (.int v) = true) (hdg : decode cc pc = .ok (.putfield idx, 3))
    (kk : ∀ (H : Heap) (locs : List Loc), XR D d A ad (xu X (40 + f) j v) H → va_S A s.heap H locs → W p l e R s m args below meth c H locs cells slots Q (F0 m (pc + 3) ls rest)) : W p l e R s m args below meth c H locs cells slots Q (F0 m pc ls (.int v :: .ref (ad (40, j)) :: rest)) := by
  have hty : ∀ k, ty_TT k f = ty_TT 2 f := fun k => by
    match f, hf with
    | 0, _ => rfl
    | 1, _ => rfl
    | 2, _ => rfl
    | 3, _ => rfl
    | 4, _ => rfl
    | 5, _ => rfl
    | 6, _ => rfl
    | 7, _ => rfl
    | 8, _ => rfl
    | 9, _ => rfl
  have hl : f < (x_tf X j ++ x_te ad X j).length := by simp [x_tf]; omega
  have h1 : x_C d ad (xu X (40 + f) j v) (40, j) = .inr (2 + X.2.2.2 0 j, (x_tf X j ++ x_te ad X j).set f (.int v)) := by
    rw [x_C40, x_tf_set ad X j v f hf]
    rfl
  have h2 := x_fr40 (d := d) (ad := ad) (X := X) (k := 40 + f) (j := j) (v := v) ⟨by omega, by omega⟩
  rcases x_kinds hkd with h | h | h | h
  · exact hp_putR X0.1 hR hS hlv (ci := 2) (by rw [x_C40, h]) rfl in_T2 ty_T2 nm_T2 f hf hq hs hfin hn hfit hl hdg (by rw [h1, h]) h2 kk
  · exact hp_putR X0.1 hR hS hlv (ci := 3) (by rw [x_C40, h]) rfl in_T3 ty_T3 nm_T3 f (by omega) (by rw [tt3 f hf]; exact hq) (by rw [tt3 f hf]; exact hs) (by rw [tt3 f hf]; exact hfin) (by rw [hty]; exact hn) (by rw [hty]; exact hfit) hl hdg (by rw [h1, h]) h2 kk
  · exact hp_putR X0.1 hR hS hlv (ci := 4) (by rw [x_C40, h]) rfl in_T4 ty_T4 nm_T4 f (by omega) (by rw [tt4 f hf]; exact hq) (by rw [tt4 f hf]; exact hs) (by rw [tt4 f hf]; exact hfin) (by rw [hty]; exact hn) (by rw [hty]; exact hfit) hl hdg (by rw [h1, h]) h2 kk
  · exact hp_putR X0.1 hR hS hlv (ci := 5) (by rw [x_C40, h]) rfl in_T5 ty_T5 nm_T5 f (by omega) (by rw [tt5 f hf]; exact hq) (by rw [tt5 f hf]; exact hs) (by rw [tt5 f hf]; exact hfin) (by rw [hty]; exact hn) (by rw [hty]; exact hfit) hl hdg (by rw [h1, h]) h2 kk
theorem xpt (X0 : xX p m c cc nL s args own D d) (hR : XR D d A ad X H) (hS : va_S A s.heap H locs) {j : Nat} (hlv : x_live X (40, j)) (hkd : X.2.2.2 0 j ≤ 3) (f : Nat) (hf : f < 10) (ht : ty_TT 2 f = .int) {idx : Nat} {ref : String} (hq : Cond.fieldLink own idx ref (TT2 f).2.1 (TT2 f).2.2.1 ∈ lw_all) (hs : xsame ref (TT2 f).1 (TT2 f).2.1 (TT2 f).2.2.1) (hfin : (TT2 f).2.2.2 = false) {v : Int32} (hdg : decode cc pc = .ok (.putfield idx, 3))
    (kk : ∀ (H : Heap) (locs : List Loc), XR D d A ad (xu X (40 + f) j v) H → va_S A s.heap H locs → W p l e R s m args below meth c H locs cells slots Q (F0 m (pc + 3) ls rest)) : W p l e R s m args below meth c H locs cells slots Q (F0 m pc ls (.int v :: .ref (ad (40, j)) :: rest)) :=
  xpt0 X0 hR hS hlv hkd f hf hq hs hfin (by rw [ht]; rfl) (by rw [ht]; rfl) hdg kk
theorem xptz (X0 : xX p m c cc nL s args own D d) (hR : XR D d A ad X H) (hS : va_S A s.heap H locs) {j : Nat} (hlv : x_live X (40, j)) (hkd : X.2.2.2 0 j ≤ 3) (f : Nat) (hf : f < 10) (ht : ty_TT 2 f = .boolean) {idx : Nat} {ref : String} (hq : Cond.fieldLink own idx ref (TT2 f).2.1 (TT2 f).2.2.1 ∈ lw_all) (hs : xsame ref (TT2 f).1 (TT2 f).2.1 (TT2 f).2.2.1) (hfin : (TT2 f).2.2.2 = false) {v : Int32} (hz : v = 0 ∨ v = 1) (hdg : decode cc pc = .ok (.putfield idx, 3))
    (kk : ∀ (H : Heap) (locs : List Loc), XR D d A ad (xu X (40 + f) j v) H → va_S A s.heap H locs → W p l e R s m args below meth c H locs cells slots Q (F0 m (pc + 3) ls rest)) : W p l e R s m args below meth c H locs cells slots Q (F0 m pc ls (.int v :: .ref (ad (40, j)) :: rest)) :=
  xpt0 X0 hR hS hlv hkd f hf hq hs hfin (by rw [ht]; rcases hz with rfl | rfl <;> rfl) (by rw [ht]; rcases hz with rfl | rfl <;> rfl) hdg kk
/-- a plate's notches, its place -/
theorem xg_no (X0 : xX p m c cc nL s args own D d) (hR : XR D d A ad X H) {j : Nat} (hlv : x_live X (40, j)) (hkd : X.2.2.2 0 j = 1 ∨ X.2.2.2 0 j = 3) {idx : Nat} (hq : Cond.fieldLink own idx (TT3 10).1 (TT3 10).2.1 (TT3 10).2.2.1 ∈ lw_all) (hdg : decode cc pc = .ok (.getfield idx, 3))
    (kk : W p l e R s m args below meth c H locs cells slots Q (F0 m (pc + 3) ls (.ref (ad (41, j)) :: rest))) : W p l e R s m args below meth c H locs cells slots Q (F0 m pc ls (.ref (ad (40, j)) :: rest)) := by
  rcases hkd with h | h
  · exact hp_getR X0.1 hR hlv (ci := 3) (by rw [x_C40, h]) rfl in_T3 10 (by decide) hq (Or.inl rfl) (by simp [x_tf, x_te, h]) hdg kk
  · exact hp_getR X0.1 hR hlv (ci := 5) (by rw [x_C40, h]) rfl in_T5 10 (by decide) hq (Or.inl rfl) (by simp [x_tf, x_te, h]) hdg kk
theorem xg_at (X0 : xX p m c cc nL s args own D d) (hR : XR D d A ad X H) {j : Nat} (hlv : x_live X (40, j)) (hkd : X.2.2.2 0 j = 1 ∨ X.2.2.2 0 j = 3) {idx : Nat} (hq : Cond.fieldLink own idx (TT3 11).1 (TT3 11).2.1 (TT3 11).2.2.1 ∈ lw_all) {v : Int32} (hv : X.1 50 j = v) (hdg : decode cc pc = .ok (.getfield idx, 3))
    (kk : W p l e R s m args below meth c H locs cells slots Q (F0 m (pc + 3) ls (.int v :: rest))) : W p l e R s m args below meth c H locs cells slots Q (F0 m pc ls (.ref (ad (40, j)) :: rest)) := by
  subst hv
  rcases hkd with h | h
  · exact hp_getR X0.1 hR hlv (ci := 3) (by rw [x_C40, h]) rfl in_T3 11 (by decide) hq (Or.inl rfl) (by simp [x_tf, x_te, h]) hdg kk
  · exact hp_getR X0.1 hR hlv (ci := 5) (by rw [x_C40, h]) rfl in_T5 11 (by decide) hq (Or.inl rfl) (by simp [x_tf, x_te, h]) hdg kk
theorem x_tf_xu {k i j : Nat} {v : Int32} (h : 50 ≤ k) : x_tf (xu X k i v) j = x_tf X j := by
  unfold x_tf
  rw [xu_k X (by omega), xu_k X (by omega), xu_k X (by omega), xu_k X (by omega), xu_k X (by omega), xu_k X (by omega), xu_k X (by omega), xu_k X (by omega), xu_k X (by omega), xu_k X (by omega)]
theorem xp_at (X0 : xX p m c cc nL s args own D d) (hR : XR D d A ad X H) (hS : va_S A s.heap H locs) {j : Nat} (hlv : x_live X (40, j)) (hkd : X.2.2.2 0 j = 1 ∨ X.2.2.2 0 j = 3) {idx : Nat} (hq : Cond.fieldLink own idx (TT3 11).1 (TT3 11).2.1 (TT3 11).2.2.1 ∈ lw_all) {v : Int32} (hdg : decode cc pc = .ok (.putfield idx, 3))
    (kk : ∀ (H : Heap) (locs : List Loc), XR D d A ad (xu X 50 j v) H → va_S A s.heap H locs → W p l e R s m args below meth c H locs cells slots Q (F0 m (pc + 3) ls rest)) : W p l e R s m args below meth c H locs cells slots Q (F0 m pc ls (.int v :: .ref (ad (40, j)) :: rest)) := by
  have h2 := x_fr40 (d := d) (ad := ad) (X := X) (k := 50) (j := j) (v := v) ⟨by omega, by omega⟩
  rcases hkd with h | h
  · refine hp_putR X0.1 hR hS hlv (ci := 3) (by rw [x_C40, h]) rfl in_T3 ty_T3 nm_T3 11 (by decide) hq (Or.inl rfl) rfl rfl rfl (by simp [x_tf, x_te, h]) hdg ?_ h2 kk
    rw [x_C40, x_tf_xu (by decide), List.set_append_right _ _ (by simp [x_tf])]
    have e1 : (xu X 50 j v).2.2.2 0 j = 1 := h
    rw [e1]
    congr 3
    simp only [x_te, e1, h, x_tf, xu_self]
    rfl
  · refine hp_putR X0.1 hR hS hlv (ci := 5) (by rw [x_C40, h]) rfl in_T5 ty_T5 nm_T5 11 (by decide) hq (Or.inl rfl) rfl rfl rfl (by simp [x_tf, x_te, h]) hdg ?_ h2 kk
    rw [x_C40, x_tf_xu (by decide), List.set_append_right _ _ (by simp [x_tf])]
    have e1 : (xu X 50 j v).2.2.2 0 j = 3 := h
    rw [e1]
    congr 3
    simp only [x_te, e1, h, x_tf, xu_self, xu_k X (show 51 ≠ 50 by decide)]
    rfl
/-- a snail's steps -/
theorem xg_st (X0 : xX p m c cc nL s args own D d) (hR : XR D d A ad X H) {j : Nat} (hlv : x_live X (40, j)) (h : X.2.2.2 0 j = 2) {idx : Nat} (hq : Cond.fieldLink own idx (TT4 10).1 (TT4 10).2.1 (TT4 10).2.2.1 ∈ lw_all) (hdg : decode cc pc = .ok (.getfield idx, 3))
    (kk : W p l e R s m args below meth c H locs cells slots Q (F0 m (pc + 3) ls (.ref (ad (41, j)) :: rest))) : W p l e R s m args below meth c H locs cells slots Q (F0 m pc ls (.ref (ad (40, j)) :: rest)) :=
  hp_getR X0.1 hR hlv (ci := 4) (by rw [x_C40, h]) rfl in_T4 10 (by decide) hq (Or.inl rfl) (by simp [x_tf, x_te, h]) hdg kk
/-- a barrel's pins, its pin -/
theorem xg_pi (X0 : xX p m c cc nL s args own D d) (hR : XR D d A ad X H) {j : Nat} (hlv : x_live X (40, j)) (h : X.2.2.2 0 j = 3) {idx : Nat} (hq : Cond.fieldLink own idx (TT5 12).1 (TT5 12).2.1 (TT5 12).2.2.1 ∈ lw_all) (hdg : decode cc pc = .ok (.getfield idx, 3))
    (kk : W p l e R s m args below meth c H locs cells slots Q (F0 m (pc + 3) ls (.ref (ad (42, j)) :: rest))) : W p l e R s m args below meth c H locs cells slots Q (F0 m pc ls (.ref (ad (40, j)) :: rest)) :=
  hp_getR X0.1 hR hlv (ci := 5) (by rw [x_C40, h]) rfl in_T5 12 (by decide) hq (Or.inl rfl) (by simp [x_tf, x_te, h]) hdg kk
theorem xg_pn (X0 : xX p m c cc nL s args own D d) (hR : XR D d A ad X H) {j : Nat} (hlv : x_live X (40, j)) (h : X.2.2.2 0 j = 3) {idx : Nat} (hq : Cond.fieldLink own idx (TT5 13).1 (TT5 13).2.1 (TT5 13).2.2.1 ∈ lw_all) {v : Int32} (hv : X.1 51 j = v) (hdg : decode cc pc = .ok (.getfield idx, 3))
    (kk : W p l e R s m args below meth c H locs cells slots Q (F0 m (pc + 3) ls (.int v :: rest))) : W p l e R s m args below meth c H locs cells slots Q (F0 m pc ls (.ref (ad (40, j)) :: rest)) := by
  subst hv
  exact hp_getR X0.1 hR hlv (ci := 5) (by rw [x_C40, h]) rfl in_T5 13 (by decide) hq (Or.inl rfl) (by simp [x_tf, x_te, h]) hdg kk
theorem xp_pn (X0 : xX p m c cc nL s args own D d) (hR : XR D d A ad X H) (hS : va_S A s.heap H locs) {j : Nat} (hlv : x_live X (40, j)) (h : X.2.2.2 0 j = 3) {idx : Nat} (hq : Cond.fieldLink own idx (TT5 13).1 (TT5 13).2.1 (TT5 13).2.2.1 ∈ lw_all) {v : Int32} (hdg : decode cc pc = .ok (.putfield idx, 3))
    (kk : ∀ (H : Heap) (locs : List Loc), XR D d A ad (xu X 51 j v) H → va_S A s.heap H locs → W p l e R s m args below meth c H locs cells slots Q (F0 m (pc + 3) ls rest)) : W p l e R s m args below meth c H locs cells slots Q (F0 m pc ls (.int v :: .ref (ad (40, j)) :: rest)) := by
  have h2 := x_fr40 (d := d) (ad := ad) (X := X) (k := 51) (j := j) (v := v) ⟨by omega, by omega⟩
  refine hp_putR X0.1 hR hS hlv (ci := 5) (by rw [x_C40, h]) rfl in_T5 ty_T5 nm_T5 13 (by decide) hq (Or.inl rfl) rfl rfl rfl (by simp [x_tf, x_te, h]) hdg ?_ h2 kk
  rw [x_C40, x_tf_xu (by decide), List.set_append_right _ _ (by simp [x_tf])]
  have e1 : (xu X 51 j v).2.2.2 0 j = 3 := h
  rw [e1]
  congr 3
  simp only [x_te, e1, h, x_tf, xu_self, xu_k X (show 50 ≠ 51 by decide)]
  rfl
/-- a tower's fields -/
def x_twi (f : Nat) : Prop := f < 5 ∨ (5 < f ∧ f < 10)
theorem x_tw_at {t f : Nat} (hf : x_twi f) : (x_tw ad X t)[f]? = some (.int (X.1 (60 + f) t)) := by
  have : f < 10 := by rcases hf with h | h <;> omega
  match f, this, hf with
  | 0, _, _ => rfl
  | 1, _, _ => rfl
  | 2, _, _ => rfl
  | 3, _, _ => rfl
  | 4, _, _ => rfl
  | 5, _, h => exact absurd h (by unfold x_twi; omega)
  | 6, _, _ => rfl
  | 7, _, _ => rfl
  | 8, _, _ => rfl
  | 9, _, _ => rfl
theorem x_tw_set {t f : Nat} {v : Int32} (hf : x_twi f) : x_tw ad (xu X (60 + f) t v) t = (x_tw ad X t).set f (.int v) := by
  have : f < 10 := by rcases hf with h | h <;> omega
  match f, this, hf with
  | 0, _, _ => simp [x_tw, xu]
  | 1, _, _ => simp [x_tw, xu]
  | 2, _, _ => simp [x_tw, xu]
  | 3, _, _ => simp [x_tw, xu]
  | 4, _, _ => simp [x_tw, xu]
  | 5, _, h => exact absurd h (by unfold x_twi; omega)
  | 6, _, _ => simp [x_tw, xu]
  | 7, _, _ => simp [x_tw, xu]
  | 8, _, _ => simp [x_tw, xu]
  | 9, _, _ => simp [x_tw, xu]
/-- how a tower's field is come at: its own class, or its nest's host -/
def xlkW (own : String) (idx f : Nat) : Prop := Cond.fieldLink own idx (TX6 f).1 (TX6 f).2.1 (TX6 f).2.2.1 ∈ lw_all ∨ Cond.fieldLinkNest own idx (TX6 f).1 (TX6 f).2.1 (TX6 f).2.2.1 "HammerTowers" ∈ lw_tbl
theorem xgw0 (X0 : xX p m c cc nL s args own D d) (hR : XR D d A ad X H) {t : Nat} (hlv : x_live X (70, t)) (f : Nat) (hf : f < 12) {idx : Nat} (hq : xlkW own idx f) {v : Value} (hv : (x_tw ad X t)[f]? = some v) (hdg : decode cc pc = .ok (.getfield idx, 3))
    (kk : W p l e R s m args below meth c H locs cells slots Q (F0 m (pc + 3) ls (v :: rest))) : W p l e R s m args below meth c H locs cells slots Q (F0 m pc ls (.ref (ad (70, t)) :: rest)) := by
  rcases hq with hq | hq
  · exact hp_getR X0.1 hR hlv (ci := 6) (x_C70 t) rfl in_X6 f hf hq (Or.inl rfl) hv hdg kk
  · exact hp_getN X0 hR hlv (ci := 6) (x_C70 t) rfl in_X6 f hf hq hv hdg kk
theorem xgw (X0 : xX p m c cc nL s args own D d) (hR : XR D d A ad X H) {t : Nat} (hlv : x_live X (70, t)) (f : Nat) (hf : x_twi f) {idx : Nat} (hq : xlkW own idx f) {v : Int32} (hv : X.1 (60 + f) t = v) (hdg : decode cc pc = .ok (.getfield idx, 3))
    (kk : W p l e R s m args below meth c H locs cells slots Q (F0 m (pc + 3) ls (.int v :: rest))) : W p l e R s m args below meth c H locs cells slots Q (F0 m pc ls (.ref (ad (70, t)) :: rest)) := by
  subst hv
  exact xgw0 X0 hR hlv f (by rcases hf with h | h <;> omega) hq (x_tw_at hf) hdg kk
theorem xgwo (X0 : xX p m c cc nL s args own D d) (hR : XR D d A ad X H) {t : Nat} (hlv : x_live X (70, t)) {idx : Nat} (hq : xlkW own idx 5) (hdg : decode cc pc = .ok (.getfield idx, 3))
    (kk : W p l e R s m args below meth c H locs cells slots Q (F0 m (pc + 3) ls (.ref (ad (71, t)) :: rest))) : W p l e R s m args below meth c H locs cells slots Q (F0 m pc ls (.ref (ad (70, t)) :: rest)) :=
  xgw0 X0 hR hlv 5 (by decide) hq rfl hdg kk
theorem xgwl (X0 : xX p m c cc nL s args own D d) (hR : XR D d A ad X H) {t : Nat} (hlv : x_live X (70, t)) {idx : Nat} (hq : xlkW own idx 10) (hdg : decode cc pc = .ok (.getfield idx, 3))
    (kk : W p l e R s m args below meth c H locs cells slots Q (F0 m (pc + 3) ls (.ref (ad (72, t)) :: rest))) : W p l e R s m args below meth c H locs cells slots Q (F0 m pc ls (.ref (ad (70, t)) :: rest)) :=
  xgw0 X0 hR hlv 10 (by decide) hq rfl hdg kk
theorem xgwt (X0 : xX p m c cc nL s args own D d) (hR : XR D d A ad X H) {t : Nat} (hlv : x_live X (70, t)) {idx : Nat} (hq : xlkW own idx 11) (hdg : decode cc pc = .ok (.getfield idx, 3))
    (kk : W p l e R s m args below meth c H locs cells slots Q (F0 m (pc + 3) ls (.ref (ad (0, 0)) :: rest))) : W p l e R s m args below meth c H locs cells slots Q (F0 m pc ls (.ref (ad (70, t)) :: rest)) :=
  xgw0 X0 hR hlv 11 (by decide) hq rfl hdg kk
theorem xpw0 (X0 : xX p m c cc nL s args own D d) (hR : XR D d A ad X H) (hS : va_S A s.heap H locs) {t : Nat} (hlv : x_live X (70, t)) (f : Nat) (hf : x_twi f) {idx : Nat} (hq : xlkW own idx f) (hfin : (TX6 f).2.2.2 = false) {v : Int32} (hn : narrow (tyX6 f) (.int v) = .int v) (hfit : fits (tyX6 f) (.int v) = true) (hdg : decode cc pc = .ok (.putfield idx, 3))
    (kk : ∀ (H : Heap) (locs : List Loc), XR D d A ad (xu X (60 + f) t v) H → va_S A s.heap H locs → W p l e R s m args below meth c H locs cells slots Q (F0 m (pc + 3) ls rest)) : W p l e R s m args below meth c H locs cells slots Q (F0 m pc ls (.int v :: .ref (ad (70, t)) :: rest)) := by
  have hl : f < (x_tw ad X t).length := by rcases hf with h | h <;> simp [x_tw] <;> omega
  have h1 : x_C d ad (xu X (60 + f) t v) (70, t) = .inr (6, (x_tw ad X t).set f (.int v)) := by rw [x_C70, x_tw_set hf]
  have h2 := x_fr60 (d := d) (ad := ad) (X := X) (k := 60 + f) (j := t) (v := v) (by rcases hf with h | h <;> omega)
  rcases hq with hq | hq
  · exact hp_putR X0.1 hR hS hlv (ci := 6) (x_C70 t) rfl in_X6 tyX6_ok nmX6 f (by rcases hf with h | h <;> omega) hq (Or.inl rfl) hfin hn hfit hl hdg h1 h2 kk
  · exact hp_putN X0 hR hS hlv (ci := 6) (x_C70 t) rfl in_X6 tyX6_ok nmX6 f (by rcases hf with h | h <;> omega) hq hfin hn hfit hl hdg h1 h2 kk
theorem xpw (X0 : xX p m c cc nL s args own D d) (hR : XR D d A ad X H) (hS : va_S A s.heap H locs) {t : Nat} (hlv : x_live X (70, t)) (f : Nat) (hf : x_twi f) (ht : tyX6 f = .int) {idx : Nat} (hq : xlkW own idx f) (hfin : (TX6 f).2.2.2 = false) {v : Int32} (hdg : decode cc pc = .ok (.putfield idx, 3))
    (kk : ∀ (H : Heap) (locs : List Loc), XR D d A ad (xu X (60 + f) t v) H → va_S A s.heap H locs → W p l e R s m args below meth c H locs cells slots Q (F0 m (pc + 3) ls rest)) : W p l e R s m args below meth c H locs cells slots Q (F0 m pc ls (.int v :: .ref (ad (70, t)) :: rest)) :=
  xpw0 X0 hR hS hlv f hf hq hfin (by rw [ht]; rfl) (by rw [ht]; rfl) hdg kk
theorem xpwz (X0 : xX p m c cc nL s args own D d) (hR : XR D d A ad X H) (hS : va_S A s.heap H locs) {t : Nat} (hlv : x_live X (70, t)) (f : Nat) (hf : x_twi f) (ht : tyX6 f = .boolean) {idx : Nat} (hq : xlkW own idx f) (hfin : (TX6 f).2.2.2 = false) {v : Int32} (hz : v = 0 ∨ v = 1) (hdg : decode cc pc = .ok (.putfield idx, 3))
    (kk : ∀ (H : Heap) (locs : List Loc), XR D d A ad (xu X (60 + f) t v) H → va_S A s.heap H locs → W p l e R s m args below meth c H locs cells slots Q (F0 m (pc + 3) ls rest)) : W p l e R s m args below meth c H locs cells slots Q (F0 m pc ls (.int v :: .ref (ad (70, t)) :: rest)) :=
  xpw0 X0 hR hS hlv f hf hq hfin (by rw [ht]; rcases hz with rfl | rfl <;> rfl) (by rw [ht]; rcases hz with rfl | rfl <;> rfl) hdg kk
/-- the hour of the towers, read out of a tower -/
theorem xg_now (X0 : xX p m c cc nL s args own D d) (hR : XR D d A ad X H) {idx : Nat} (hq : Cond.fieldLinkNest own idx (TX0 6).1 (TX0 6).2.1 (TX0 6).2.2.1 "HammerTowers" ∈ lw_tbl) {v : Int32} (hv : X.1 6 0 = v) (hdg : decode cc pc = .ok (.getfield idx, 3))
    (kk : W p l e R s m args below meth c H locs cells slots Q (F0 m (pc + 3) ls (.int v :: rest))) : W p l e R s m args below meth c H locs cells slots Q (F0 m pc ls (.ref (ad (0, 0)) :: rest)) := by
  subst hv
  exact hp_getN X0 hR (k := (0, 0)) x_lv0 (ci := 0) (fs := x_fs ad X) rfl rfl in_X0 6 (by decide) hq (by rw [x_fs_at ad X (by decide)]; rfl) hdg kk
end XTR
