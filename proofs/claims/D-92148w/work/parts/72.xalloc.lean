/-! THE CLASS: methods that make cells. -/
set_option maxRecDepth 100000
theorem x_C_cong {d : Nat → ClassId} {ad ad' : XK → Nat} {X X' : XS} {k : XK} (hlv : x_live X k)
    (h0 : k.1 = 0 → x_fs ad' X' = x_fs ad X)
    (h3 : k.1 = 3 → ∀ r, (if X'.2.2.2 3 r = 0 then none else some (ad' (30, r))) = (if X.2.2.2 3 r = 0 then none else some (ad (30, r))))
    (h4 : k.1 = 4 → ∀ j, (if j < X'.2.2.2 7 0 then some (ad' (40, j)) else none) = (if j < X.2.2.2 7 0 then some (ad (40, j)) else none))
    (h7 : k.1 = 7 → ∀ t, (if X'.2.2.2 5 t = 0 then none else some (ad' (70, t))) = (if X.2.2.2 5 t = 0 then none else some (ad (70, t))))
    (h30 : k.1 = 30 → X'.2.2.2 3 k.2 = X.2.2.2 3 k.2 ∧ X'.2.2.1 3 k.2 = X.2.2.1 3 k.2)
    (h40 : k.1 = 40 → X'.2.2.2 0 k.2 = X.2.2.2 0 k.2 ∧ x_tf X' k.2 = x_tf X k.2 ∧ x_te ad' X' k.2 = x_te ad X k.2)
    (h41 : k.1 = 41 → X'.2.2.2 1 k.2 = X.2.2.2 1 k.2 ∧ X'.2.2.1 0 k.2 = X.2.2.1 0 k.2)
    (h42 : k.1 = 42 → X'.2.2.2 2 k.2 = X.2.2.2 2 k.2 ∧ X'.2.2.1 1 k.2 = X.2.2.1 1 k.2)
    (h70 : k.1 = 70 → x_tw ad' X' k.2 = x_tw ad X k.2)
    (h71 : k.1 = 71 → ∀ q, q < 2 → x_own ad' X' (2 * k.2 + q) = x_own ad X (2 * k.2 + q))
    (h72 : k.1 = 72 → X'.2.2.1 2 k.2 = X.2.2.1 2 k.2)
    (hz : k.1 < 29 → k.1 ≠ 0 → X'.1 k.1 = X.1 k.1) : x_C d ad' X' k = x_C d ad X k := by
  unfold x_C
  by_cases a0 : k.1 = 0
  · rw [if_pos a0, if_pos a0, h0 a0]
  rw [if_neg a0, if_neg a0]
  by_cases a3 : k.1 = 3
  · rw [if_pos a3, if_pos a3, funext (h3 a3)]
  rw [if_neg a3, if_neg a3]
  by_cases a4 : k.1 = 4
  · rw [if_pos a4, if_pos a4, funext (h4 a4)]
  rw [if_neg a4, if_neg a4]
  by_cases a7 : k.1 = 7
  · rw [if_pos a7, if_pos a7, funext (h7 a7)]
  rw [if_neg a7, if_neg a7]
  by_cases a30 : k.1 = 30
  · rw [if_pos a30, if_pos a30, (h30 a30).1, (h30 a30).2]
  rw [if_neg a30, if_neg a30]
  by_cases a40 : k.1 = 40
  · rw [if_pos a40, if_pos a40, (h40 a40).1, (h40 a40).2.1, (h40 a40).2.2]
  rw [if_neg a40, if_neg a40]
  by_cases a41 : k.1 = 41
  · rw [if_pos a41, if_pos a41, (h41 a41).1, (h41 a41).2]
  rw [if_neg a41, if_neg a41]
  by_cases a42 : k.1 = 42
  · rw [if_pos a42, if_pos a42, (h42 a42).1, (h42 a42).2]
  rw [if_neg a42, if_neg a42]
  by_cases a70 : k.1 = 70
  · rw [if_pos a70, if_pos a70, h70 a70]
  rw [if_neg a70, if_neg a70]
  by_cases a71 : k.1 = 71
  · rw [if_pos a71, if_pos a71]
    have : (fun q => if q < 2 then x_own ad' X' (2 * k.2 + q) else none) = (fun q => if q < 2 then x_own ad X (2 * k.2 + q) else none) := by
      funext q
      by_cases hq : q < 2
      · rw [if_pos hq, if_pos hq, h71 a71 q hq]
      · rw [if_neg hq, if_neg hq]
    rw [this]
  rw [if_neg a71, if_neg a71]
  by_cases a72 : k.1 = 72
  · rw [if_pos a72, if_pos a72, h72 a72]
  rw [if_neg a72, if_neg a72]
  have : k.1 < 29 := by
    rcases x_sorts hlv with h | h | h | h | h | h | h | h
    · exact h.1
    all_goals (exact absurd h (by assumption))
  rw [hz this a0]
def adU (ad : XK → Nat) (k0 : XK) (q : Nat) : XK → Nat := fun k => if k = k0 then q else ad k
theorem adU_self (ad : XK → Nat) (k0 : XK) (q : Nat) : adU ad k0 q k0 = q := if_pos rfl
theorem adU_ne (ad : XK → Nat) {k0 k : XK} (q : Nat) (h : k ≠ k0) : adU ad k0 q k = ad k := if_neg h
theorem adU_s (ad : XK → Nat) {a b a' b' : Nat} (q : Nat) (h : a' ≠ a) : adU ad (a, b) q (a', b') = ad (a', b') := if_neg fun e => h (congrArg Prod.fst e)
theorem adU_i (ad : XK → Nat) {a b b' : Nat} (q : Nat) (h : b' ≠ b) : adU ad (a, b) q (a, b') = ad (a, b') := if_neg fun e => h (congrArg Prod.snd e)
/-- the world with one new cell -/
theorem XR.add {D : va_G} {d : Nat → ClassId} {A : Nat → Prop} {ad : XK → Nat} {X X' : XS} {H H1 : Heap} (h : XR D d A ad X H) (k0 : XK) {q : Nat} (hq : H.size ≤ q) (hA : A q) (hk : ∀ x, x < H.size → H1[x]? = H[x]?)
    (hlive : ∀ k, x_live X' k → k = k0 ∨ (x_live X k ∧ k ≠ k0)) (hC : ∀ k, x_live X k → k ≠ k0 → x_C d (adU ad k0 q) X' k = x_C d ad X k) (hN : va_at D vwCl (q, x_C d (adU ad k0 q) X' k0) H1) : XR D d A (adU ad k0 q) X' H1 := by
  refine XR.grow h (fun k hl => ?_) (fun k hl => ?_) (fun k k' a b c e => ?_)
  · rcases hlive k hl with rfl | ⟨h1, h2⟩
    · rw [adU_self]; exact Or.inr ⟨hq, hA⟩
    · exact Or.inl ⟨h1, adU_ne _ _ h2⟩
  · rcases hlive k hl with rfl | ⟨h1, h2⟩
    · rw [adU_self]; exact hN
    · rw [adU_ne _ _ h2, hC k h1 h2]
      exact (hp_R.at h h1).kept (hk _ (hp_R.lt h h1))
  · have fr : ∀ x, x_live X' x → H.size ≤ adU ad k0 q x → x = k0 := by
      intro x hx hz
      rcases hlive x hx with r | ⟨h1, h2⟩
      · exact r
      · rw [adU_ne _ _ h2] at hz
        exact absurd (hp_R.lt h h1) (Nat.not_lt.mpr hz)
    rw [fr k a c, fr k' b (by rw [← e]; exact c)]
/-- the next train's notches are there -/
def xsn (X : XS) (len : Nat) (f : Nat → Int32) : XS := (X.1, X.2.1, fun s o i => if s = 0 ∧ o = X.2.2.2 7 0 then f i else X.2.2.1 s o i, fun k i => if k = 9 ∧ i = 0 then 1 else if k = 1 ∧ i = X.2.2.2 7 0 then len else X.2.2.2 k i)
theorem xsn_N (X : XS) (len : Nat) (f : Nat → Int32) {k : Nat} (h9 : k ≠ 9) (h1 : k ≠ 1) (i : Nat) : (xsn X len f).2.2.2 k i = X.2.2.2 k i := by simp [xsn, h9, h1]
theorem xsn_9 (X : XS) (len : Nat) (f : Nat → Int32) : (xsn X len f).2.2.2 9 0 = 1 := by simp [xsn]
theorem xsn_1 (X : XS) (len : Nat) (f : Nat → Int32) : (xsn X len f).2.2.2 1 (X.2.2.2 7 0) = len := by simp [xsn]
theorem xsn_1n (X : XS) (len : Nat) (f : Nat → Int32) {j : Nat} (h : j ≠ X.2.2.2 7 0) : (xsn X len f).2.2.2 1 j = X.2.2.2 1 j := by simp [xsn, h]
theorem xsn_B (X : XS) (len : Nat) (f : Nat → Int32) {s : Nat} (h : s ≠ 0) (o : Nat) : (xsn X len f).2.2.1 s o = X.2.2.1 s o := by funext i; simp [xsn, h]
theorem xsn_B0 (X : XS) (len : Nat) (f : Nat → Int32) : (xsn X len f).2.2.1 0 (X.2.2.2 7 0) = f := by funext i; simp [xsn]
theorem xsn_Bn (X : XS) (len : Nat) (f : Nat → Int32) {o : Nat} (h : o ≠ X.2.2.2 7 0) : (xsn X len f).2.2.1 0 o = X.2.2.1 0 o := by funext i; simp [xsn, h]
theorem x_own_eq {ad ad' : XK → Nat} {X X' : XS} {p : Nat} (hN : X'.2.2.2 4 p = X.2.2.2 4 p) (ha : ∀ n, X.2.2.2 4 p = n + 1 → ad' (40, n) = ad (40, n)) : x_own ad' X' p = x_own ad X p := by
  unfold x_own
  rw [hN]
  cases h : X.2.2.2 4 p with
  | zero => rfl
  | succ n => exact congrArg some (ha n h)
theorem x_fs_ad {ad ad' : XK → Nat} {X X' : XS} (h1 : X'.1 = X.1) (h2 : X'.2.1 = X.2.1) (ha : ∀ k, k < 29 → ad' (k, 0) = ad (k, 0)) : x_fs ad' X' = x_fs ad X := by
  unfold x_fs
  refine List.map_congr_left fun j hj => ?_
  unfold x_fv
  rw [h1, h2, ha j (List.mem_range.mp hj)]
theorem x_te_eq {ad ad' : XK → Nat} {X X' : XS} {j : Nat} (h0 : X'.2.2.2 0 j = X.2.2.2 0 j) (h50 : X'.1 50 j = X.1 50 j) (h51 : X'.1 51 j = X.1 51 j) (h1 : ad' (41, j) = ad (41, j)) (h2 : ad' (42, j) = ad (42, j)) : x_te ad' X' j = x_te ad X j := by
  unfold x_te
  rw [h0, h50, h51, h1, h2]
theorem XR_sn {D : va_G} {d : Nat → ClassId} {A : Nat → Prop} {ad : XK → Nat} {X : XS} {H H1 : Heap} {len : Nat} {f : Nat → Int32} (h : XR D d A ad X H) (h8 : X.2.2.2 8 0 = 0) (h9 : X.2.2.2 9 0 = 0) {q : Nat} (hq : H.size ≤ q) (hA : A q) (hk : ∀ x, x < H.size → H1[x]? = H[x]?) (hc : H1[q]? = some (vp_cell (d 0) (len, .inl f))) : XR D d A (adU ad (41, X.2.2.2 7 0) q) (xsn X len f) H1 := by
  refine XR.add h (41, X.2.2.2 7 0) hq hA hk (fun k hl => ?_) (fun k hl hne => ?_) ?_
  · obtain ⟨a, b⟩ := k
    unfold x_live at hl ⊢
    simp only [xsn_N X len f (k := 3) (by decide) (by decide), xsn_N X len f (k := 7) (by decide) (by decide), xsn_N X len f (k := 8) (by decide) (by decide), xsn_N X len f (k := 0) (by decide) (by decide), xsn_N X len f (k := 10) (by decide) (by decide), xsn_N X len f (k := 5) (by decide) (by decide), xsn_9] at hl
    rcases hl with r | r | r | r | r | r
    · exact Or.inr ⟨Or.inl r, fun e => by cases e; exact absurd r.1 (by decide)⟩
    · exact Or.inr ⟨Or.inr (Or.inl r), fun e => by cases e; exact absurd r.1 (by decide)⟩
    · exact Or.inr ⟨Or.inr (Or.inr (Or.inl r)), fun e => by cases e; exact absurd r.1 (by decide)⟩
    · rcases r with ⟨r1, r2 | r2⟩
      · exact Or.inr ⟨Or.inr (Or.inr (Or.inr (Or.inl ⟨r1, Or.inl r2⟩))), fun e => by
          have e2 : b = X.2.2.2 7 0 := congrArg Prod.snd e
          have := r2.1
          omega⟩
      · exact Or.inl (Prod.ext r1 r2.1)
    · exact Or.inr ⟨Or.inr (Or.inr (Or.inr (Or.inr (Or.inl r)))), fun e => by cases e; exact absurd r.1 (by decide)⟩
    · exact Or.inr ⟨Or.inr (Or.inr (Or.inr (Or.inr (Or.inr r)))), fun e => by cases e; exact absurd r.1 (by decide)⟩
  · obtain ⟨a, b⟩ := k
    refine x_C_cong hl (fun _ => x_fs_ad rfl rfl fun k hk => adU_s _ _ (by omega)) (fun _ r => ?_) (fun _ j => ?_) (fun _ t => ?_) (fun e => ?_) (fun e => ?_) (fun e => ?_) (fun e => ?_) (fun e => ?_) (fun e q hq => ?_) (fun e => ?_) (fun _ _ => rfl)
    · rw [xsn_N X len f (by decide) (by decide), adU_s _ _ (by decide)]
    · rw [xsn_N X len f (by decide) (by decide), adU_s _ _ (by decide)]
    · rw [xsn_N X len f (by decide) (by decide), adU_s _ _ (by decide)]
    · exact ⟨xsn_N X len f (by decide) (by decide) _, xsn_B X len f (by decide) _⟩
    · have hb : b ≠ X.2.2.2 7 0 := by
        dsimp only at e
        subst e
        rcases hl with r | r | r | r | r | r
        · exact absurd (show (40 : Nat) < 29 from r.1) (by decide)
        · exact absurd (show (40 : Nat) = 30 from r.1) (by decide)
        · rcases r.2 with r2 | r2
          · exact Nat.ne_of_lt r2
          · exact absurd h8 r2.2
        · exact absurd (show (40 : Nat) = 41 from r.1) (by decide)
        · exact absurd (show (40 : Nat) = 42 from r.1) (by decide)
        · rcases r.1 with r1 | r1 | r1
          · exact absurd (show (40 : Nat) = 70 from r1) (by decide)
          · exact absurd (show (40 : Nat) = 71 from r1) (by decide)
          · exact absurd (show (40 : Nat) = 72 from r1) (by decide)
      exact ⟨xsn_N X len f (by decide) (by decide) _, rfl, x_te_eq (xsn_N X len f (by decide) (by decide) _) rfl rfl (adU_i _ _ hb) (adU_s _ _ (by decide))⟩
    · dsimp only at e
      subst e
      have hb : b ≠ X.2.2.2 7 0 := fun e => hne (by rw [e])
      exact ⟨xsn_1n X len f hb, xsn_Bn X len f hb⟩
    · exact ⟨xsn_N X len f (by decide) (by decide) _, xsn_B X len f (by decide) _⟩
    · unfold x_tw
      rw [adU_s _ _ (by decide), adU_s _ _ (by decide), adU_s _ _ (by decide)]
      rfl
    · exact x_own_eq (xsn_N X len f (by decide) (by decide) _) fun n _ => adU_s _ _ (by decide)
    · exact xsn_B X len f (by decide) _
  · show H1[q]? = some (vp_cell (d 0) ((xsn X len f).2.2.2 1 (X.2.2.2 7 0), .inl ((xsn X len f).2.2.1 0 (X.2.2.2 7 0))))
    rw [xsn_1, xsn_B0]
    exact hc
/-- the next train's pins are there -/
def xsp (X : XS) (len : Nat) (f : Nat → Int32) : XS := (X.1, X.2.1, fun s o i => if s = 1 ∧ o = X.2.2.2 7 0 then f i else X.2.2.1 s o i, fun k i => if k = 10 ∧ i = 0 then 1 else if k = 2 ∧ i = X.2.2.2 7 0 then len else X.2.2.2 k i)
theorem xsp_N (X : XS) (len : Nat) (f : Nat → Int32) {k : Nat} (h9 : k ≠ 10) (h1 : k ≠ 2) (i : Nat) : (xsp X len f).2.2.2 k i = X.2.2.2 k i := by simp [xsp, h9, h1]
theorem xsp_9 (X : XS) (len : Nat) (f : Nat → Int32) : (xsp X len f).2.2.2 10 0 = 1 := by simp [xsp]
theorem xsp_1 (X : XS) (len : Nat) (f : Nat → Int32) : (xsp X len f).2.2.2 2 (X.2.2.2 7 0) = len := by simp [xsp]
theorem xsp_1n (X : XS) (len : Nat) (f : Nat → Int32) {j : Nat} (h : j ≠ X.2.2.2 7 0) : (xsp X len f).2.2.2 2 j = X.2.2.2 2 j := by simp [xsp, h]
theorem xsp_B (X : XS) (len : Nat) (f : Nat → Int32) {s : Nat} (h : s ≠ 1) (o : Nat) : (xsp X len f).2.2.1 s o = X.2.2.1 s o := by funext i; simp [xsp, h]
theorem xsp_B0 (X : XS) (len : Nat) (f : Nat → Int32) : (xsp X len f).2.2.1 1 (X.2.2.2 7 0) = f := by funext i; simp [xsp]
theorem xsp_Bn (X : XS) (len : Nat) (f : Nat → Int32) {o : Nat} (h : o ≠ X.2.2.2 7 0) : (xsp X len f).2.2.1 1 o = X.2.2.1 1 o := by funext i; simp [xsp, h]
theorem XR_sp {D : va_G} {d : Nat → ClassId} {A : Nat → Prop} {ad : XK → Nat} {X : XS} {H H1 : Heap} {len : Nat} {f : Nat → Int32} (h : XR D d A ad X H) (h8 : X.2.2.2 8 0 = 0) (h9 : X.2.2.2 10 0 = 0) {q : Nat} (hq : H.size ≤ q) (hA : A q) (hk : ∀ x, x < H.size → H1[x]? = H[x]?) (hc : H1[q]? = some (vp_cell (d 0) (len, .inl f))) : XR D d A (adU ad (42, X.2.2.2 7 0) q) (xsp X len f) H1 := by
  refine XR.add h (42, X.2.2.2 7 0) hq hA hk (fun k hl => ?_) (fun k hl hne => ?_) ?_
  · obtain ⟨a, b⟩ := k
    unfold x_live at hl ⊢
    simp only [xsp_N X len f (k := 3) (by decide) (by decide), xsp_N X len f (k := 7) (by decide) (by decide), xsp_N X len f (k := 8) (by decide) (by decide), xsp_N X len f (k := 0) (by decide) (by decide), xsp_N X len f (k := 9) (by decide) (by decide), xsp_N X len f (k := 5) (by decide) (by decide), xsp_9] at hl
    rcases hl with r | r | r | r | r | r
    · exact Or.inr ⟨Or.inl r, fun e => by cases e; exact absurd r.1 (by decide)⟩
    · exact Or.inr ⟨Or.inr (Or.inl r), fun e => by cases e; exact absurd r.1 (by decide)⟩
    · exact Or.inr ⟨Or.inr (Or.inr (Or.inl r)), fun e => by cases e; exact absurd r.1 (by decide)⟩
    · exact Or.inr ⟨Or.inr (Or.inr (Or.inr (Or.inl r))), fun e => by cases e; exact absurd r.1 (by decide)⟩
    · rcases r with ⟨r1, r2 | r2⟩
      · exact Or.inr ⟨Or.inr (Or.inr (Or.inr (Or.inr (Or.inl ⟨r1, Or.inl r2⟩)))), fun e => by
          have e2 : b = X.2.2.2 7 0 := congrArg Prod.snd e
          have := r2.1
          omega⟩
      · exact Or.inl (Prod.ext r1 r2.1)
    · exact Or.inr ⟨Or.inr (Or.inr (Or.inr (Or.inr (Or.inr r)))), fun e => by cases e; exact absurd r.1 (by decide)⟩
  · obtain ⟨a, b⟩ := k
    refine x_C_cong hl (fun _ => x_fs_ad rfl rfl fun k hk => adU_s _ _ (by omega)) (fun _ r => ?_) (fun _ j => ?_) (fun _ t => ?_) (fun e => ?_) (fun e => ?_) (fun e => ?_) (fun e => ?_) (fun e => ?_) (fun e q hq => ?_) (fun e => ?_) (fun _ _ => rfl)
    · rw [xsp_N X len f (by decide) (by decide), adU_s _ _ (by decide)]
    · rw [xsp_N X len f (by decide) (by decide), adU_s _ _ (by decide)]
    · rw [xsp_N X len f (by decide) (by decide), adU_s _ _ (by decide)]
    · exact ⟨xsp_N X len f (by decide) (by decide) _, xsp_B X len f (by decide) _⟩
    · have hb : b ≠ X.2.2.2 7 0 := by
        dsimp only at e
        subst e
        rcases hl with r | r | r | r | r | r
        · exact absurd (show (40 : Nat) < 29 from r.1) (by decide)
        · exact absurd (show (40 : Nat) = 30 from r.1) (by decide)
        · rcases r.2 with r2 | r2
          · exact Nat.ne_of_lt r2
          · exact absurd h8 r2.2
        · exact absurd (show (40 : Nat) = 41 from r.1) (by decide)
        · exact absurd (show (40 : Nat) = 42 from r.1) (by decide)
        · rcases r.1 with r1 | r1 | r1
          · exact absurd (show (40 : Nat) = 70 from r1) (by decide)
          · exact absurd (show (40 : Nat) = 71 from r1) (by decide)
          · exact absurd (show (40 : Nat) = 72 from r1) (by decide)
      exact ⟨xsp_N X len f (by decide) (by decide) _, rfl, x_te_eq (xsp_N X len f (by decide) (by decide) _) rfl rfl (adU_s _ _ (by decide)) (adU_i _ _ hb)⟩
    · exact ⟨xsp_N X len f (by decide) (by decide) _, xsp_B X len f (by decide) _⟩
    · dsimp only at e
      subst e
      have hb : b ≠ X.2.2.2 7 0 := fun e => hne (by rw [e])
      exact ⟨xsp_1n X len f hb, xsp_Bn X len f hb⟩
    · unfold x_tw
      rw [adU_s _ _ (by decide), adU_s _ _ (by decide), adU_s _ _ (by decide)]
      rfl
    · exact x_own_eq (xsp_N X len f (by decide) (by decide) _) fun n _ => adU_s _ _ (by decide)
    · exact xsp_B X len f (by decide) _
  · show H1[q]? = some (vp_cell (d 0) ((xsp X len f).2.2.2 2 (X.2.2.2 7 0), .inl ((xsp X len f).2.2.1 1 (X.2.2.2 7 0))))
    rw [xsp_1, xsp_B0]
    exact hc
/-- the next train is there: its kind and its number -/
def xtr (X : XS) (kd : Nat) (n : Int32) : XS := (fun k i => if i = X.2.2.2 7 0 ∧ 40 ≤ k ∧ k < 52 then (if k = 40 then n else if k = 41 then 30 else if k = 42 then 1000 else if k = 43 then 1000 else if k = 47 then -9 else 0) else X.1 k i, X.2.1, X.2.2.1, fun k i => if k = 8 ∧ i = 0 then 1 else if k = 0 ∧ i = X.2.2.2 7 0 then kd else X.2.2.2 k i)
theorem xtr_N (X : XS) (kd : Nat) (n : Int32) {k : Nat} (h8 : k ≠ 8) (h0 : k ≠ 0) (i : Nat) : (xtr X kd n).2.2.2 k i = X.2.2.2 k i := by simp [xtr, h8, h0]
theorem xtr_8 (X : XS) (kd : Nat) (n : Int32) : (xtr X kd n).2.2.2 8 0 = 1 := by simp [xtr]
theorem xtr_0 (X : XS) (kd : Nat) (n : Int32) : (xtr X kd n).2.2.2 0 (X.2.2.2 7 0) = kd := by simp [xtr]
theorem xtr_0n (X : XS) (kd : Nat) (n : Int32) {j : Nat} (h : j ≠ X.2.2.2 7 0) : (xtr X kd n).2.2.2 0 j = X.2.2.2 0 j := by simp [xtr, h]
theorem xtr_i (X : XS) (kd : Nat) (n : Int32) {k : Nat} (h : ¬ (40 ≤ k ∧ k < 52)) (i : Nat) : (xtr X kd n).1 k i = X.1 k i := if_neg fun q => h q.2
theorem xtr_if (X : XS) (kd : Nat) (n : Int32) {k : Nat} (h : ¬ (40 ≤ k ∧ k < 52)) : (xtr X kd n).1 k = X.1 k := funext fun i => xtr_i X kd n h i
theorem xtr_in (X : XS) (kd : Nat) (n : Int32) (k : Nat) {i : Nat} (h : i ≠ X.2.2.2 7 0) : (xtr X kd n).1 k i = X.1 k i := if_neg fun q => h q.1
theorem xtr_tf (X : XS) (kd : Nat) (n : Int32) : x_tf (xtr X kd n) (X.2.2.2 7 0) = [.int n, .int 30, .int 1000, .int 1000, .int 0, .int 0, .int 0, .int (-9), .int 0, .int 0] := by
  simp [x_tf, xtr]
theorem xtr_at (X : XS) (kd : Nat) (n : Int32) : (xtr X kd n).1 50 (X.2.2.2 7 0) = 0 ∧ (xtr X kd n).1 51 (X.2.2.2 7 0) = 0 := by
  simp [xtr]
theorem XR_tr {D : va_G} {d : Nat → ClassId} {A : Nat → Prop} {ad : XK → Nat} {X : XS} {H H1 : Heap} {kd : Nat} {n : Int32} (h : XR D d A ad X H) (h8 : X.2.2.2 8 0 = 0) (ho : ∀ p, p < 8 → X.2.2.2 4 p ≤ X.2.2.2 7 0) {q : Nat} (hq : H.size ≤ q) (hA : A q) (hk : ∀ x, x < H.size → H1[x]? = H[x]?) (hc : va_at D vwCl (q, .inr (2 + kd, x_tf (xtr X kd n) (X.2.2.2 7 0) ++ x_te (adU ad (40, X.2.2.2 7 0) q) (xtr X kd n) (X.2.2.2 7 0))) H1) : XR D d A (adU ad (40, X.2.2.2 7 0) q) (xtr X kd n) H1 := by
  refine XR.add h (40, X.2.2.2 7 0) hq hA hk (fun k hl => ?_) (fun k hl hne => ?_) ?_
  · obtain ⟨a, b⟩ := k
    unfold x_live at hl ⊢
    simp only [xtr_N X kd n (k := 3) (by decide) (by decide), xtr_N X kd n (k := 7) (by decide) (by decide), xtr_N X kd n (k := 9) (by decide) (by decide), xtr_N X kd n (k := 10) (by decide) (by decide), xtr_N X kd n (k := 5) (by decide) (by decide), xtr_8] at hl
    rcases hl with r | r | r | r | r | r
    · exact Or.inr ⟨Or.inl r, fun e => by cases e; exact absurd r.1 (by decide)⟩
    · exact Or.inr ⟨Or.inr (Or.inl r), fun e => by cases e; exact absurd r.1 (by decide)⟩
    · rcases r with ⟨r1, r2 | r2⟩
      · exact Or.inr ⟨Or.inr (Or.inr (Or.inl ⟨r1, Or.inl r2⟩)), fun e => by
          have e2 : b = X.2.2.2 7 0 := congrArg Prod.snd e
          omega⟩
      · exact Or.inl (Prod.ext r1 r2.1)
    · refine Or.inr ⟨Or.inr (Or.inr (Or.inr (Or.inl ⟨r.1, ?_⟩))), fun e => by cases e; exact absurd r.1 (by decide)⟩
      rcases r.2 with r2 | r2
      · refine Or.inl ⟨r2.1, ?_⟩
        have := r2.2
        rw [xtr_0n X kd n (Nat.ne_of_lt r2.1)] at this
        exact this
      · exact Or.inr r2
    · refine Or.inr ⟨Or.inr (Or.inr (Or.inr (Or.inr (Or.inl ⟨r.1, ?_⟩)))), fun e => by cases e; exact absurd r.1 (by decide)⟩
      rcases r.2 with r2 | r2
      · refine Or.inl ⟨r2.1, ?_⟩
        have := r2.2
        rw [xtr_0n X kd n (Nat.ne_of_lt r2.1)] at this
        exact this
      · exact Or.inr r2
    · exact Or.inr ⟨Or.inr (Or.inr (Or.inr (Or.inr (Or.inr r)))), fun e => by
        rcases r.1 with r1 | r1 | r1 <;> (have := congrArg Prod.fst e; dsimp only at this r1; omega)⟩
  · obtain ⟨a, b⟩ := k
    refine x_C_cong hl (fun _ => ?_) (fun _ r => ?_) (fun _ j => ?_) (fun _ t => ?_) (fun e => ?_) (fun e => ?_) (fun e => ?_) (fun e => ?_) (fun e => ?_) (fun e q hq => ?_) (fun e => ?_) (fun h1 h2 => ?_)
    · unfold x_fs
      refine List.map_congr_left fun j hj => ?_
      have hj := List.mem_range.mp hj
      unfold x_fv
      rw [xtr_i X kd n (by omega), adU_s _ _ (by omega)]
      rfl
    · rw [xtr_N X kd n (by decide) (by decide), adU_s _ _ (by decide)]
    · rw [xtr_N X kd n (by decide) (by decide)]
      by_cases hj : j < X.2.2.2 7 0
      · rw [if_pos hj, if_pos hj, adU_i _ _ (Nat.ne_of_lt hj)]
      · rw [if_neg hj, if_neg hj]
    · rw [xtr_N X kd n (by decide) (by decide), adU_s _ _ (by decide)]
    · exact ⟨xtr_N X kd n (by decide) (by decide) _, rfl⟩
    · dsimp only at e
      subst e
      have hb : b ≠ X.2.2.2 7 0 := fun e => hne (by rw [e])
      refine ⟨xtr_0n X kd n hb, ?_, x_te_eq (xtr_0n X kd n hb) (xtr_in X kd n _ hb) (xtr_in X kd n _ hb) (adU_s _ _ (by decide)) (adU_s _ _ (by decide))⟩
      unfold x_tf
      simp only [xtr_in X kd n _ hb]
    · exact ⟨xtr_N X kd n (by decide) (by decide) _, rfl⟩
    · exact ⟨xtr_N X kd n (by decide) (by decide) _, rfl⟩
    · unfold x_tw
      rw [adU_s _ _ (by decide), adU_s _ _ (by decide), adU_s _ _ (by decide)]
      simp only [xtr_i X kd n (k := 60) (by decide), xtr_i X kd n (k := 61) (by decide), xtr_i X kd n (k := 62) (by decide), xtr_i X kd n (k := 63) (by decide), xtr_i X kd n (k := 64) (by decide), xtr_i X kd n (k := 66) (by decide), xtr_i X kd n (k := 67) (by decide), xtr_i X kd n (k := 68) (by decide), xtr_i X kd n (k := 69) (by decide)]
    · refine x_own_eq (xtr_N X kd n (by decide) (by decide) _) fun n' hn' => adU_i _ _ ?_
      dsimp only at e
      subst e
      have hb : b < 4 := by
        rcases hl with r | r | r | r | r | r
        · exact absurd (show (71 : Nat) < 29 from r.1) (by decide)
        · exact absurd (show (71 : Nat) = 30 from r.1) (by decide)
        · exact absurd (show (71 : Nat) = 40 from r.1) (by decide)
        · exact absurd (show (71 : Nat) = 41 from r.1) (by decide)
        · exact absurd (show (71 : Nat) = 42 from r.1) (by decide)
        · exact r.2.1
      have := ho (2 * b + q) (by omega)
      dsimp only at hn'
      omega
    · rfl
    · exact xtr_if X kd n (by dsimp only at h1 ⊢; omega)
  · show va_at D vwCl (q, .inr (2 + (xtr X kd n).2.2.2 0 (X.2.2.2 7 0), _)) H1
    rw [xtr_0]
    exact hc
