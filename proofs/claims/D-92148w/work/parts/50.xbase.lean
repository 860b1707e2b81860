/-! THE CLASS: its pure state and its rows. -/
set_option maxRecDepth 100000
/-- ints (X.1), longs (X.2.1), contents by sort, object, place (X.2.2.1: 0 notches, 1 pins, 2 log, 3 rows), numbers (X.2.2.2: 0 kind, 1 notches' length, 2 pins' length, 3 a row's length + 1 or 0, 4 own of 2t+k: train + 1 or 0, 5 tower there, 7 how many trains; 8, 9, 10: whether the next train, its notches, its pins are there already) -/
abbrev XS : Type := (Nat → Nat → Int32) × (Nat → Int64) × (Nat → Nat → Nat → Int32) × (Nat → Nat → Nat)
def xu (X : XS) (k i : Nat) (v : Int32) : XS := (fun k2 i2 => if k2 = k ∧ i2 = i then v else X.1 k2 i2, X.2)
def xl (X : XS) (k : Nat) (v : Int64) : XS := (X.1, fun k2 => if k2 = k then v else X.2.1 k2, X.2.2)
def xb (X : XS) (s o i : Nat) (v : Int32) : XS := (X.1, X.2.1, fun s2 o2 i2 => if s2 = s ∧ o2 = o ∧ i2 = i then v else X.2.2.1 s2 o2 i2, X.2.2.2)
def xn (X : XS) (k i n : Nat) : XS := (X.1, X.2.1, X.2.2.1, fun k2 i2 => if k2 = k ∧ i2 = i then n else X.2.2.2 k2 i2)
/-- 0 int, 1 long, 2 int[], 3 an array of references -/
def x_kd : Nat → Nat := fun k => match k with
  | 1 => 2
  | 3 => 3
  | 4 => 3
  | 7 => 3
  | 8 => 2
  | 10 => 2
  | 18 => 1
  | 19 => 1
  | 21 => 2
  | 23 => 2
  | 24 => 2
  | 25 => 1
  | 26 => 1
  | 27 => 1
  | 28 => 1
  | _ => 0
def x_sz : Nat → Nat := fun k => match k with
  | 1 => 6
  | 8 => 144
  | 10 => 48
  | 21 => 12
  | _ => 4
abbrev XK : Type := Nat × Nat
def x_fv (ad : XK → Nat) (X : XS) (k : Nat) : Value := if x_kd k = 0 then .int (X.1 k 0) else if x_kd k = 1 then .long (X.2.1 k) else .ref (ad (k, 0))
def x_fs (ad : XK → Nat) (X : XS) : List Value := (List.range 29).map (x_fv ad X)
def x_tf (X : XS) (j : Nat) : List Value := [.int (X.1 40 j), .int (X.1 41 j), .int (X.1 42 j), .int (X.1 43 j), .int (X.1 44 j), .int (X.1 45 j), .int (X.1 46 j), .int (X.1 47 j), .int (X.1 48 j), .int (X.1 49 j)]
def x_te (ad : XK → Nat) (X : XS) (j : Nat) : List Value := match X.2.2.2 0 j with
  | 0 => []
  | 1 => [.ref (ad (41, j)), .int (X.1 50 j)]
  | 2 => [.ref (ad (41, j))]
  | _ => [.ref (ad (41, j)), .int (X.1 50 j), .ref (ad (42, j)), .int (X.1 51 j)]
def x_tw (ad : XK → Nat) (X : XS) (t : Nat) : List Value := [.int (X.1 60 t), .int (X.1 61 t), .int (X.1 62 t), .int (X.1 63 t), .int (X.1 64 t), .ref (ad (71, t)), .int (X.1 66 t), .int (X.1 67 t), .int (X.1 68 t), .int (X.1 69 t), .ref (ad (72, t)), .ref (ad (0, 0))]
/-- the train that stands at a place: a number + 1, or none -/
def x_own (ad : XK → Nat) (X : XS) (p : Nat) : Option Nat := match X.2.2.2 4 p with
  | 0 => none
  | n + 1 => some (ad (40, n))
def x_live (X : XS) (k : XK) : Prop :=
  (k.1 < 29 ∧ k.2 = 0 ∧ (k.1 = 0 ∨ 2 ≤ x_kd k.1)) ∨ (k.1 = 30 ∧ k.2 < 8 ∧ X.2.2.2 3 k.2 ≠ 0) ∨ (k.1 = 40 ∧ (k.2 < X.2.2.2 7 0 ∨ (k.2 = X.2.2.2 7 0 ∧ X.2.2.2 8 0 ≠ 0))) ∨ (k.1 = 41 ∧ ((k.2 < X.2.2.2 7 0 ∧ X.2.2.2 0 k.2 ≠ 0) ∨ (k.2 = X.2.2.2 7 0 ∧ X.2.2.2 9 0 ≠ 0))) ∨ (k.1 = 42 ∧ ((k.2 < X.2.2.2 7 0 ∧ X.2.2.2 0 k.2 = 3) ∨ (k.2 = X.2.2.2 7 0 ∧ X.2.2.2 10 0 ≠ 0))) ∨ ((k.1 = 70 ∨ k.1 = 71 ∨ k.1 = 72) ∧ k.2 < 4 ∧ X.2.2.2 5 k.2 ≠ 0)
def x_C (d : Nat → ClassId) (ad : XK → Nat) (X : XS) (k : XK) : va_E :=
  if k.1 = 0 then .inr (0, x_fs ad X)
  else if k.1 = 3 then .inl (d 3, 8, .inr (.inr (.inr (.inr (fun r => if X.2.2.2 3 r = 0 then none else some (ad (30, r)))))))
  else if k.1 = 4 then .inl (d 4, 16, .inr (.inr (.inr (.inr (fun j => if j < X.2.2.2 7 0 then some (ad (40, j)) else none)))))
  else if k.1 = 7 then .inl (d 5, 4, .inr (.inr (.inr (.inr (fun t => if X.2.2.2 5 t = 0 then none else some (ad (70, t)))))))
  else if k.1 = 30 then .inl (d 2, X.2.2.2 3 k.2 - 1, .inl (X.2.2.1 3 k.2))
  else if k.1 = 40 then .inr (2 + X.2.2.2 0 k.2, x_tf X k.2 ++ x_te ad X k.2)
  else if k.1 = 41 then .inl (d 0, X.2.2.2 1 k.2, .inl (X.2.2.1 0 k.2))
  else if k.1 = 42 then .inl (d 0, X.2.2.2 2 k.2, .inl (X.2.2.1 1 k.2))
  else if k.1 = 70 then .inr (6, x_tw ad X k.2)
  else if k.1 = 71 then .inl (d 4, 2, .inr (.inr (.inr (.inr (fun q => if q < 2 then x_own ad X (2 * k.2 + q) else none)))))
  else if k.1 = 72 then .inl (d 0, 240, .inl (X.2.2.1 2 k.2))
  else .inl (d 0, x_sz k.1, .inl (X.1 k.1))
def XR (D : va_G) (d : Nat → ClassId) (A : Nat → Prop) (ad : XK → Nat) (X : XS) (H : Heap) : Prop := hp_R D A (x_live X) ad (x_C d ad X) H
theorem xu_self (X : XS) (k i : Nat) (v : Int32) : (xu X k i v).1 k i = v := by simp [xu]
theorem xu_k (X : XS) {k k' : Nat} (h : k' ≠ k) (i j : Nat) (v : Int32) : (xu X k i v).1 k' j = X.1 k' j := by simp [xu, h]
theorem xu_i (X : XS) (k : Nat) {i j : Nat} (h : j ≠ i) (v : Int32) : (xu X k i v).1 k j = X.1 k j := by simp [xu, h]
theorem xu_kf (X : XS) {k k' : Nat} (h : k' ≠ k) (i : Nat) (v : Int32) : (xu X k i v).1 k' = X.1 k' := by
  funext j
  exact xu_k X h i j v
theorem xu_kk (X : XS) (k i : Nat) (v : Int32) : (xu X k i v).1 k = upd (X.1 k) i v := by
  funext j
  simp [xu, upd]
theorem xb_self (X : XS) (s o i : Nat) (v : Int32) : (xb X s o i v).2.2.1 s o i = v := by simp [xb]
theorem xb_s (X : XS) {s s' : Nat} (h : s' ≠ s) (o i o' i' : Nat) (v : Int32) : (xb X s o i v).2.2.1 s' o' i' = X.2.2.1 s' o' i' := by simp [xb, h]
theorem xb_so (X : XS) (s o i : Nat) (v : Int32) : (xb X s o i v).2.2.1 s o = upd (X.2.2.1 s o) i v := by
  funext j
  simp [xb, upd]
theorem xb_ne (X : XS) {s o s' o' : Nat} (h : ¬ (s' = s ∧ o' = o)) (i : Nat) (v : Int32) : (xb X s o i v).2.2.1 s' o' = X.2.2.1 s' o' := by
  funext j
  simp only [xb]
  rw [if_neg]
  intro q
  exact h ⟨q.1, q.2.1⟩
/-- the sorts of the live keys -/
theorem x_sorts {X : XS} {k : XK} (h : x_live X k) : (k.1 < 29 ∧ k.2 = 0) ∨ k.1 = 30 ∨ k.1 = 40 ∨ k.1 = 41 ∨ k.1 = 42 ∨ k.1 = 70 ∨ k.1 = 71 ∨ k.1 = 72 := by
  rcases h with h | h | h | h | h | h
  · exact Or.inl ⟨h.1, h.2.1⟩
  · exact Or.inr (Or.inl h.1)
  · exact Or.inr (Or.inr (Or.inl h.1))
  · exact Or.inr (Or.inr (Or.inr (Or.inl h.1)))
  · exact Or.inr (Or.inr (Or.inr (Or.inr (Or.inl h.1))))
  · rcases h.1 with q | q | q
    · exact Or.inr (Or.inr (Or.inr (Or.inr (Or.inr (Or.inl q)))))
    · exact Or.inr (Or.inr (Or.inr (Or.inr (Or.inr (Or.inr (Or.inl q))))))
    · exact Or.inr (Or.inr (Or.inr (Or.inr (Or.inr (Or.inr (Or.inr q))))))
theorem x_fs_at (ad : XK → Nat) (X : XS) {k : Nat} (hk : k < 29) : (x_fs ad X)[k]? = some (x_fv ad X k) := by
  simp [x_fs, hk]
theorem x_fs_set {ad : XK → Nat} {X X' : XS} {k : Nat} {v : Value} (h1 : x_fv ad X' k = v) (h2 : ∀ j, j ≠ k → x_fv ad X' j = x_fv ad X j) : x_fs ad X' = (x_fs ad X).set k v := by
  apply List.ext_getElem?
  intro i
  by_cases hi : i < 29
  · by_cases h : i = k
    · subst h
      rw [x_fs_at ad X' hi, List.getElem?_set_self (by simp [x_fs, hi]), h1]
    · rw [x_fs_at ad X' hi, List.getElem?_set_ne (Ne.symm h), x_fs_at ad X hi, h2 i h]
  · rw [List.getElem?_eq_none (by simp [x_fs]; omega), List.getElem?_eq_none (by simp [x_fs]; omega)]
theorem x_fs_eq {ad : XK → Nat} {X X' : XS} (h2 : ∀ j, j < 29 → x_fv ad X' j = x_fv ad X j) : x_fs ad X' = x_fs ad X := by
  unfold x_fs
  exact List.map_congr_left fun j hj => h2 j (List.mem_range.mp hj)
/-- what a cell of another key is made of is unchanged, where the ints of its own sort are -/
theorem x_C_xu {d : Nat → ClassId} {ad : XK → Nat} {X : XS} {k i : Nat} {v : Int32} {q : XK} (hq : x_live X q)
    (h0 : q.1 = 0 → x_kd k ≠ 0 ∨ 29 ≤ k) (h1 : q.1 < 29 → q.1 ≠ 0 → q.1 ≠ k) (h40 : q.1 = 40 → ¬ (40 ≤ k ∧ k < 52 ∧ i = q.2)) (h70 : q.1 = 70 → ¬ (60 ≤ k ∧ k < 70 ∧ i = q.2)) : x_C d ad (xu X k i v) q = x_C d ad X q := by
  obtain ⟨s, o⟩ := q
  dsimp only at h0 h1 h40 h70
  rcases x_sorts hq with ⟨hs, ho⟩ | hs | hs | hs | hs | hs | hs | hs
  · dsimp only at hs ho
    subst ho
    by_cases e0 : s = 0
    · subst e0
      show (Sum.inr (0, x_fs ad (xu X k i v)) : va_E) = Sum.inr (0, x_fs ad X)
      rw [x_fs_eq]
      intro j hj
      unfold x_fv
      by_cases hk : x_kd j = 0
      · rw [if_pos hk, if_pos hk, xu_k X]
        rintro rfl
        rcases h0 rfl with q | q
        · exact q hk
        · omega
      · rw [if_neg hk, if_neg hk]
        rfl
    · have e := xu_kf X (h1 hs e0) i v
      unfold x_C
      dsimp only
      simp only [if_neg e0, if_neg (show ¬ s = 30 by omega), if_neg (show ¬ s = 40 by omega), if_neg (show ¬ s = 41 by omega), if_neg (show ¬ s = 42 by omega), if_neg (show ¬ s = 70 by omega), if_neg (show ¬ s = 71 by omega), if_neg (show ¬ s = 72 by omega), e]
      rfl
  all_goals (dsimp only at hs; subst hs)
  · rfl
  · have e : ∀ m, 40 ≤ m → m < 52 → (xu X k i v).1 m o = X.1 m o := fun m a b => by
      have := h40 rfl
      by_cases hm : m = k
      · subst hm
        rw [xu_i]
        intro q
        exact this ⟨a, b, q.symm⟩
      · rw [xu_k X hm]
    show (Sum.inr (2 + X.2.2.2 0 o, x_tf (xu X k i v) o ++ x_te ad (xu X k i v) o) : va_E) = Sum.inr (2 + X.2.2.2 0 o, x_tf X o ++ x_te ad X o)
    have e1 : x_tf (xu X k i v) o = x_tf X o := by
      unfold x_tf
      rw [e 40 (by decide) (by decide), e 41 (by decide) (by decide), e 42 (by decide) (by decide), e 43 (by decide) (by decide), e 44 (by decide) (by decide), e 45 (by decide) (by decide), e 46 (by decide) (by decide), e 47 (by decide) (by decide), e 48 (by decide) (by decide), e 49 (by decide) (by decide)]
    have e2 : x_te ad (xu X k i v) o = x_te ad X o := by
      unfold x_te
      rw [e 50 (by decide) (by decide), e 51 (by decide) (by decide)]
      rfl
    rw [e1, e2]
  · rfl
  · rfl
  · have e : ∀ m, 60 ≤ m → m < 70 → (xu X k i v).1 m o = X.1 m o := fun m a b => by
      have := h70 rfl
      by_cases hm : m = k
      · subst hm
        rw [xu_i]
        intro q
        exact this ⟨a, b, q.symm⟩
      · rw [xu_k X hm]
    show (Sum.inr (6, x_tw ad (xu X k i v) o) : va_E) = Sum.inr (6, x_tw ad X o)
    have e1 : x_tw ad (xu X k i v) o = x_tw ad X o := by
      unfold x_tw
      rw [e 60 (by decide) (by decide), e 61 (by decide) (by decide), e 62 (by decide) (by decide), e 63 (by decide) (by decide), e 64 (by decide) (by decide), e 66 (by decide) (by decide), e 67 (by decide) (by decide), e 68 (by decide) (by decide), e 69 (by decide) (by decide)]
    rw [e1]
  · rfl
  · rfl
theorem x_C_xl {d : Nat → ClassId} {ad : XK → Nat} {X : XS} {k : Nat} {v : Int64} {q : XK} (h0 : q.1 ≠ 0) : x_C d ad (xl X k v) q = x_C d ad X q := by
  unfold x_C
  rw [if_neg h0, if_neg h0]
  rfl
theorem x_C_xb {d : Nat → ClassId} {ad : XK → Nat} {X : XS} {s o i : Nat} {v : Int32} {q : XK} (h30 : q.1 = 30 → ¬ (3 = s ∧ q.2 = o)) (h41 : q.1 = 41 → ¬ (0 = s ∧ q.2 = o)) (h42 : q.1 = 42 → ¬ (1 = s ∧ q.2 = o)) (h72 : q.1 = 72 → ¬ (2 = s ∧ q.2 = o)) : x_C d ad (xb X s o i v) q = x_C d ad X q := by
  by_cases a : q.1 = 30
  · unfold x_C; simp only [a]; rw [xb_ne X (h30 a)]; rfl
  · by_cases b : q.1 = 41
    · unfold x_C; simp only [b]; rw [xb_ne X (h41 b)]; rfl
    · by_cases c : q.1 = 42
      · unfold x_C; simp only [c]; rw [xb_ne X (h42 c)]; rfl
      · by_cases e : q.1 = 72
        · unfold x_C; simp only [e]; rw [xb_ne X (h72 e)]; rfl
        · unfold x_C
          rw [if_neg a, if_neg a, if_neg b, if_neg b, if_neg c, if_neg c, if_neg e, if_neg e]
          rfl
section XROWS
variable {p : Program} {l : Launch} {e : Env} {R : Room} {s : State} {m : MethodId} {args : Array Value} {below : List Frame} {meth : Method} {c : Code} {H : Heap} {locs : List Loc} {cells slots : Nat} {Q : State → Prop}
variable {cc : ByteArray} {pc nL : Nat} {ls : Array Slot} {rest st0 : List Value} {D : va_G} {A : Nat → Prop} {d : Nat → ClassId} {own : String} {ad : XK → Nat} {X : XS}
theorem x_lv0 : x_live X (0, 0) := Or.inl ⟨by decide, rfl, Or.inl rfl⟩
theorem x_lva {k : Nat} (hk : k < 29 ∧ 2 ≤ x_kd k) : x_live X (k, 0) := Or.inl ⟨hk.1, rfl, Or.inr hk.2⟩
theorem x_lvr {r : Nat} (hr : r < 8) (h : X.2.2.2 3 r ≠ 0) : x_live X (30, r) := Or.inr (Or.inl ⟨rfl, hr, h⟩)
theorem x_lvt {j : Nat} (h : j < X.2.2.2 7 0) : x_live X (40, j) := Or.inr (Or.inr (Or.inl ⟨rfl, Or.inl h⟩))
theorem x_lvn {j : Nat} (h : j < X.2.2.2 7 0) (h2 : X.2.2.2 0 j ≠ 0) : x_live X (41, j) := Or.inr (Or.inr (Or.inr (Or.inl ⟨rfl, Or.inl ⟨h, h2⟩⟩)))
theorem x_lvp {j : Nat} (h : j < X.2.2.2 7 0) (h2 : X.2.2.2 0 j = 3) : x_live X (42, j) := Or.inr (Or.inr (Or.inr (Or.inr (Or.inl ⟨rfl, Or.inl ⟨h, h2⟩⟩))))
theorem x_lvw {t : Nat} (h : t < 4) (h2 : X.2.2.2 5 t ≠ 0) : x_live X (70, t) := Or.inr (Or.inr (Or.inr (Or.inr (Or.inr ⟨Or.inl rfl, h, h2⟩))))
theorem x_lvo {t : Nat} (h : t < 4) (h2 : X.2.2.2 5 t ≠ 0) : x_live X (71, t) := Or.inr (Or.inr (Or.inr (Or.inr (Or.inr ⟨Or.inr (Or.inl rfl), h, h2⟩))))
theorem x_lvl {t : Nat} (h : t < 4) (h2 : X.2.2.2 5 t ≠ 0) : x_live X (72, t) := Or.inr (Or.inr (Or.inr (Or.inr (Or.inr ⟨Or.inr (Or.inr rfl), h, h2⟩))))
theorem xg_i (X0 : hp_X p m c cc nL s args RX0 D d) (hR : XR D d A ad X H) (k : Nat) (hk : k < 29) (h0 : x_kd k = 0) {idx : Nat} (hq : Cond.fieldLink RX0 idx (TX0 k).1 (TX0 k).2.1 (TX0 k).2.2.1 ∈ lw_all) {v : Int32} (hv : X.1 k 0 = v) (hdg : decode cc pc = .ok (.getfield idx, 3))
    (kk : W p l e R s m args below meth c H locs cells slots Q (F0 m (pc + 3) ls (.int v :: rest))) : W p l e R s m args below meth c H locs cells slots Q (F0 m pc ls (.ref (ad (0, 0)) :: rest)) := by
  subst hv
  exact hp_get X0 hR (k := (0, 0)) x_lv0 (ci := 0) (fs := x_fs ad X) rfl rfl in_X0 k hk hq (by rw [x_fs_at ad X hk, x_fv, if_pos h0]) hdg kk
theorem xg_l (X0 : hp_X p m c cc nL s args RX0 D d) (hR : XR D d A ad X H) (k : Nat) (hk : k < 29) (h0 : x_kd k = 1) {idx : Nat} (hq : Cond.fieldLink RX0 idx (TX0 k).1 (TX0 k).2.1 (TX0 k).2.2.1 ∈ lw_all) {v : Int64} (hv : X.2.1 k = v) (hdg : decode cc pc = .ok (.getfield idx, 3))
    (kk : W p l e R s m args below meth c H locs cells slots Q (F0 m (pc + 3) ls (.long v :: rest))) : W p l e R s m args below meth c H locs cells slots Q (F0 m pc ls (.ref (ad (0, 0)) :: rest)) := by
  subst hv
  exact hp_get X0 hR (k := (0, 0)) x_lv0 (ci := 0) (fs := x_fs ad X) rfl rfl in_X0 k hk hq (by rw [x_fs_at ad X hk, x_fv, if_neg (by omega), if_pos h0]) hdg kk
theorem xg_a (X0 : hp_X p m c cc nL s args RX0 D d) (hR : XR D d A ad X H) (k : Nat) (hk : k < 29) (h0 : 2 ≤ x_kd k) {idx : Nat} (hq : Cond.fieldLink RX0 idx (TX0 k).1 (TX0 k).2.1 (TX0 k).2.2.1 ∈ lw_all) (hdg : decode cc pc = .ok (.getfield idx, 3))
    (kk : W p l e R s m args below meth c H locs cells slots Q (F0 m (pc + 3) ls (.ref (ad (k, 0)) :: rest))) : W p l e R s m args below meth c H locs cells slots Q (F0 m pc ls (.ref (ad (0, 0)) :: rest)) :=
  hp_get X0 hR (k := (0, 0)) x_lv0 (ci := 0) (fs := x_fs ad X) rfl rfl in_X0 k hk hq (by rw [x_fs_at ad X hk, x_fv, if_neg (by omega), if_neg (by omega)]) hdg kk
theorem x_C_int {k : Nat} {v : Int32} (hk : k < 29) (h0 : x_kd k = 0) : x_C d ad (xu X k 0 v) (0, 0) = .inr (0, (x_fs ad X).set k (.int v)) := by
  show (Sum.inr (0, x_fs ad (xu X k 0 v)) : va_E) = _
  rw [x_fs_set (X := X) (k := k) (v := .int v)]
  · unfold x_fv
    rw [if_pos h0, xu_self]
  · intro j hj
    unfold x_fv
    rw [xu_k X hj]
    rfl
theorem x_C_long {k : Nat} {v : Int64} (h0 : x_kd k = 1) : x_C d ad (xl X k v) (0, 0) = .inr (0, (x_fs ad X).set k (.long v)) := by
  show (Sum.inr (0, x_fs ad (xl X k v)) : va_E) = _
  rw [x_fs_set (X := X) (k := k) (v := .long v)]
  · simp [x_fv, h0, xl]
  · intro j hj
    simp [x_fv, xl, hj]
theorem xp_i (X0 : hp_X p m c cc nL s args RX0 D d) (hR : XR D d A ad X H) (hS : va_S A s.heap H locs) (k : Nat) (hk : k < 29) (h0 : x_kd k = 0) (ht : tyX0 k = .int) (hfin : (TX0 k).2.2.2 = false) {idx : Nat} (hq : Cond.fieldLink RX0 idx (TX0 k).1 (TX0 k).2.1 (TX0 k).2.2.1 ∈ lw_all) {v : Int32} (hdg : decode cc pc = .ok (.putfield idx, 3))
    (kk : ∀ (H : Heap) (locs : List Loc), XR D d A ad (xu X k 0 v) H → va_S A s.heap H locs → W p l e R s m args below meth c H locs cells slots Q (F0 m (pc + 3) ls rest)) : W p l e R s m args below meth c H locs cells slots Q (F0 m pc ls (.int v :: .ref (ad (0, 0)) :: rest)) :=
  hp_put X0 hR hS (k := (0, 0)) x_lv0 (ci := 0) (fs := x_fs ad X) (C' := x_C d ad (xu X k 0 v)) rfl rfl in_X0 tyX0_ok nmX0 k hk hq hfin (by rw [ht]; rfl) (by rw [ht]; rfl) (by simp [x_fs, hk]) hdg (x_C_int hk h0)
    (fun q hq2 hne => x_C_xu hq2 (fun e => absurd (by
      rcases x_sorts hq2 with a | a | a | a | a | a | a | a
      · exact Prod.ext e a.2
      all_goals omega) hne) (fun a b e => by
        rcases hq2 with h | h | h | h | h | h
        · rcases h.2.2 with w | w
          · exact b w
          · rw [e] at w; omega
        all_goals omega) (fun e => by omega) (fun e => by omega)) kk
theorem xp_l (X0 : hp_X p m c cc nL s args RX0 D d) (hR : XR D d A ad X H) (hS : va_S A s.heap H locs) (k : Nat) (hk : k < 29) (h0 : x_kd k = 1) (ht : tyX0 k = .long) (hfin : (TX0 k).2.2.2 = false) {idx : Nat} (hq : Cond.fieldLink RX0 idx (TX0 k).1 (TX0 k).2.1 (TX0 k).2.2.1 ∈ lw_all) {v : Int64} (hdg : decode cc pc = .ok (.putfield idx, 3))
    (kk : ∀ (H : Heap) (locs : List Loc), XR D d A ad (xl X k v) H → va_S A s.heap H locs → W p l e R s m args below meth c H locs cells slots Q (F0 m (pc + 3) ls rest)) : W p l e R s m args below meth c H locs cells slots Q (F0 m pc ls (.long v :: .ref (ad (0, 0)) :: rest)) :=
  hp_put X0 hR hS (k := (0, 0)) x_lv0 (ci := 0) (fs := x_fs ad X) (C' := x_C d ad (xl X k v)) rfl rfl in_X0 tyX0_ok nmX0 k hk hq hfin (by rw [ht]; rfl) (by rw [ht]; rfl) (by simp [x_fs, hk]) hdg (x_C_long h0)
    (fun q hq2 hne => x_C_xl (fun e => absurd (by
      rcases x_sorts hq2 with a | a | a | a | a | a | a | a
      · exact Prod.ext e a.2
      all_goals omega) hne)) kk
/-- the int array k of the class -/
theorem x_C_arr {k : Nat} (hk : k < 29 ∧ x_kd k = 2) : x_C d ad X (k, 0) = .inl (d 0, x_sz k, .inl (X.1 k)) := by
  have a0 : k ≠ 0 := by rintro rfl; exact absurd hk.2 (by decide)
  have a3 : k ≠ 3 := by rintro rfl; exact absurd hk.2 (by decide)
  have a4 : k ≠ 4 := by rintro rfl; exact absurd hk.2 (by decide)
  have a7 : k ≠ 7 := by rintro rfl; exact absurd hk.2 (by decide)
  unfold x_C
  dsimp only
  rw [if_neg a0, if_neg a3, if_neg a4, if_neg a7, if_neg (by omega), if_neg (by omega), if_neg (by omega), if_neg (by omega), if_neg (by omega), if_neg (by omega), if_neg (by omega)]
theorem x_ld (X0 : hp_X p m c cc nL s args own D d) (hR : XR D d A ad X H) {k : Nat} (hk : k < 29 ∧ x_kd k = 2) {i v : Int32} (hi : vp_in i (x_sz k)) (hv : X.1 k i.toNatClampNeg = v) (hdg : decode cc pc = .ok (.iaload, 1))
    (kk : W p l e R s m args below meth c H locs cells slots Q (F0 m (pc + 1) ls (.int v :: rest))) : W p l e R s m args below meth c H locs cells slots Q (F0 m pc ls (.int i :: .ref (ad (k, 0)) :: rest)) :=
  hp_ald X0 hR (k := (k, 0)) (x_lva ⟨hk.1, by omega⟩) (n := x_sz k) (f := X.1 k) (x_C_arr hk) hi hv hdg kk
theorem x_st (X0 : hp_X p m c cc nL s args own D d) (hR : XR D d A ad X H) (hS : va_S A s.heap H locs) {k : Nat} (hk : k < 29 ∧ x_kd k = 2) {i v : Int32} (hi : vp_in i (x_sz k)) (hdg : decode cc pc = .ok (.iastore, 1))
    (kk : ∀ (H : Heap) (locs : List Loc), XR D d A ad (xu X k i.toNatClampNeg v) H → va_S A s.heap H locs → W p l e R s m args below meth c H locs cells slots Q (F0 m (pc + 1) ls rest)) : W p l e R s m args below meth c H locs cells slots Q (F0 m pc ls (.int v :: .int i :: .ref (ad (k, 0)) :: rest)) :=
  hp_ast X0 hR hS (k := (k, 0)) (x_lva ⟨hk.1, by omega⟩) (n := x_sz k) (f := X.1 k) (C' := x_C d ad (xu X k i.toNatClampNeg v)) (x_C_arr hk) hi hdg (by rw [x_C_arr hk, xu_kk])
    (fun q hq2 hne => x_C_xu hq2 (fun e => Or.inl (by omega)) (fun a b e => by
      rcases x_sorts hq2 with w | w | w | w | w | w | w | w
      · exact hne (Prod.ext e w.2)
      all_goals omega) (fun e => by omega) (fun e => by omega)) kk
end XROWS
