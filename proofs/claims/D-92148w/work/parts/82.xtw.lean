/-! THE CLASS: a tower is put up anew. -/
set_option maxRecDepth 100000
def xtw (X : XS) (t : Nat) : XS := (fun k i => if i = t ∧ 60 ≤ k ∧ k < 70 then (if k = 63 then 20000 else if k = 64 then 1 else 0) else X.1 k i, X.2.1, fun s o i => if s = 2 ∧ o = t then 0 else X.2.2.1 s o i, fun k i => if k = 5 ∧ i = t then 1 else if k = 4 ∧ (i = 2 * t ∨ i = 2 * t + 1) then 0 else X.2.2.2 k i)
theorem xtw_N (X : XS) (t : Nat) {k : Nat} (h5 : k ≠ 5) (h4 : k ≠ 4) (i : Nat) : (xtw X t).2.2.2 k i = X.2.2.2 k i := by simp [xtw, h5, h4]
theorem xtw_5 (X : XS) (t : Nat) : (xtw X t).2.2.2 5 t = 1 := by simp [xtw]
theorem xtw_5n (X : XS) (t : Nat) {u : Nat} (h : u ≠ t) : (xtw X t).2.2.2 5 u = X.2.2.2 5 u := by simp [xtw, h]
theorem xtw_4 (X : XS) (t : Nat) {k : Nat} (hk : k < 2) : (xtw X t).2.2.2 4 (2 * t + k) = 0 := by
  have : k = 0 ∨ k = 1 := by omega
  rcases this with rfl | rfl <;> simp [xtw]
theorem xtw_4n (X : XS) (t : Nat) {u : Nat} (h : u ≠ 2 * t ∧ u ≠ 2 * t + 1) : (xtw X t).2.2.2 4 u = X.2.2.2 4 u := by simp [xtw, h.1, h.2]
theorem xtw_i (X : XS) (t : Nat) {k : Nat} (h : ¬ (60 ≤ k ∧ k < 70)) (i : Nat) : (xtw X t).1 k i = X.1 k i := if_neg fun q => h q.2
theorem xtw_if (X : XS) (t : Nat) {k : Nat} (h : ¬ (60 ≤ k ∧ k < 70)) : (xtw X t).1 k = X.1 k := funext fun i => xtw_i X t h i
theorem xtw_in (X : XS) (t : Nat) (k : Nat) {i : Nat} (h : i ≠ t) : (xtw X t).1 k i = X.1 k i := if_neg fun q => h q.1
theorem xtw_B (X : XS) (t : Nat) {s : Nat} (h : s ≠ 2) (o : Nat) : (xtw X t).2.2.1 s o = X.2.2.1 s o := by funext i; simp [xtw, h]
theorem xtw_B2 (X : XS) (t : Nat) : (xtw X t).2.2.1 2 t = fun _ => 0 := by funext i; simp [xtw]
theorem xtw_Bn (X : XS) (t : Nat) {o : Nat} (h : o ≠ t) : (xtw X t).2.2.1 2 o = X.2.2.1 2 o := by funext i; simp [xtw, h]
theorem pne {a b a' b' : Nat} (h : a ≠ a') : ¬ ((a, b) : XK) = (a', b') := fun e => h (congrArg Prod.fst e)
/-- where the new tower's keys come from -/
def tkF (t : Nat) (k : XK) : XK := if k = (70, t) then (90, 0) else if k = (71, t) then (91, 0) else if k = (72, t) then (92, 0) else k
def tkA (ad : XK → Nat) (q q1 q2 : Nat) (k : XK) : Nat := if k = (90, 0) then q else if k = (91, 0) then q1 else if k = (92, 0) then q2 else ad k
def tkL (X : XS) (k : XK) : Prop := x_live X k ∨ k = (90, 0) ∨ k = (91, 0) ∨ k = (92, 0)
def tkC (d : Nat → ClassId) (ad : XK → Nat) (X : XS) (q1 q2 : Nat) (k : XK) : va_E := if k = (90, 0) then .inr (6, twF q1 q2 (ad (0, 0))) else if k = (91, 0) then .inl (d 4, 2, .inr (.inr (.inr (.inr (fun _ => none))))) else if k = (92, 0) then .inl (d 0, 240, .inl (fun _ => 0)) else x_C d ad X k
def twA (ad : XK → Nat) (t q q1 q2 : Nat) (k : XK) : Nat := if k = (70, t) then q else if k = (71, t) then q1 else if k = (72, t) then q2 else ad k
theorem tk_lt {X : XS} {k : XK} (h : x_live X k) : k.1 < 73 := by
  rcases x_sorts h with r | r | r | r | r | r | r | r <;> omega
theorem tk_n {X : XS} {k : XK} (h : x_live X k) : k ≠ (90, 0) ∧ k ≠ (91, 0) ∧ k ≠ (92, 0) := by
  have := tk_lt h
  refine ⟨?_, ?_, ?_⟩ <;> (rintro rfl; exact absurd this (by decide))
theorem tk_world {D : va_G} {d : Nat → ClassId} {A : Nat → Prop} {ad : XK → Nat} {X : XS} {H H1 : Heap} {q q1 q2 : Nat} (h : XR D d A ad X H) (hk : ∀ x, x < H.size → H1[x]? = H[x]?) (hq : H.size ≤ q) (hq1 : H.size ≤ q1) (hq2 : H.size ≤ q2) (n01 : q ≠ q1) (n02 : q ≠ q2) (n12 : q1 ≠ q2) (hA : ∀ x, H.size ≤ x → A x) (hP : va_P D vwCl (twW d q (ad (0, 0)) (q1, q2)) H1) : hp_R D A (tkL X) (tkA ad q q1 q2) (tkC d ad X q1 q2) H1 := by
  have a0 : tkA ad q q1 q2 (90, 0) = q := if_pos rfl
  have a1 : tkA ad q q1 q2 (91, 0) = q1 := rfl
  have a2 : tkA ad q q1 q2 (92, 0) = q2 := rfl
  have ao : ∀ k, x_live X k → tkA ad q q1 q2 k = ad k := fun k hk => by
    obtain ⟨b0, b1, b2⟩ := tk_n hk
    unfold tkA
    rw [if_neg b0, if_neg b1, if_neg b2]
  have lt : ∀ k, x_live X k → tkA ad q q1 q2 k < H.size := fun k hk => by rw [ao k hk]; exact hp_R.lt h hk
  refine hp_R.of ([(90, 0), (91, 0), (92, 0)] ++ x_keys X) (fun k hl => ?_) (fun k k' hl hl' e => ?_) (fun k hl => ?_)
  · rcases hl with r | r | r | r
    · exact List.mem_append.mpr (Or.inr (x_keys_in r))
    all_goals (subst r; exact List.mem_append.mpr (Or.inl (by decide)))
  · rcases hl with r | r | r | r <;> rcases hl' with r' | r' | r' | r'
    · exact hp_R.inj h r r' (by rw [← ao k r, ← ao k' r']; exact e)
    · subst r'; have := lt k r; rw [e, a0] at this; omega
    · subst r'; have := lt k r; rw [e, a1] at this; omega
    · subst r'; have := lt k r; rw [e, a2] at this; omega
    · subst r; have := lt k' r'; rw [← e, a0] at this; omega
    · rw [r, r']
    · subst r; subst r'; rw [a0, a1] at e; exact absurd e n01
    · subst r; subst r'; rw [a0, a2] at e; exact absurd e n02
    · subst r; have := lt k' r'; rw [← e, a1] at this; omega
    · subst r; subst r'; rw [a0, a1] at e; exact absurd e.symm n01
    · rw [r, r']
    · subst r; subst r'; rw [a1, a2] at e; exact absurd e n12
    · subst r; have := lt k' r'; rw [← e, a2] at this; omega
    · subst r; subst r'; rw [a0, a2] at e; exact absurd e.symm n02
    · subst r; subst r'; rw [a1, a2] at e; exact absurd e.symm n12
    · rw [r, r']
  · rcases hl with r | r | r | r
    · rw [ao k r]
      obtain ⟨b0, b1, b2⟩ := tk_n r
      unfold tkC
      rw [if_neg b0, if_neg b1, if_neg b2]
      exact ⟨(hp_R.at h r).kept (hk _ (hp_R.lt h r)), hp_R.in_A h r⟩
    · subst r; exact ⟨hP 0 _ rfl, hA _ hq⟩
    · subst r; exact ⟨hP 1 _ rfl, hA _ hq1⟩
    · subst r; exact ⟨hP 2 _ rfl, hA _ hq2⟩
/-- the towers' array with the new one -/
def tkC' (d : Nat → ClassId) (ad : XK → Nat) (X : XS) (t q q1 q2 : Nat) (k : XK) : va_E := if k = (7, 0) then .inl (d 5, 4, .inr (.inr (.inr (.inr (va_up (fun t => if X.2.2.2 5 t = 0 then none else some (ad (70, t))) t (some q)))))) else tkC d ad X q1 q2 k
theorem tw_key {d : Nat → ClassId} {ad : XK → Nat} {X : XS} {t q q1 q2 : Nat} {k : XK} (hl : x_live (xtw X t) k) : tkL X (tkF t k) ∧ twA ad t q q1 q2 k = tkA ad q q1 q2 (tkF t k) ∧ x_C d (twA ad t q q1 q2) (xtw X t) k = tkC' d ad X t q q1 q2 (tkF t k) := by
  by_cases k0 : k = (70, t)
  · subst k0
    have e : tkF t (70, t) = (90, 0) := if_pos rfl
    have ea : twA ad t q q1 q2 (70, t) = q := if_pos rfl
    have e1 : twA ad t q q1 q2 (71, t) = q1 := by unfold twA; rw [if_neg (pne (by decide)), if_pos rfl]
    have e2 : twA ad t q q1 q2 (72, t) = q2 := by unfold twA; rw [if_neg (pne (by decide)), if_neg (pne (by decide)), if_pos rfl]
    have e00 : twA ad t q q1 q2 (0, 0) = ad (0, 0) := by unfold twA; rw [if_neg (pne (by decide)), if_neg (pne (by decide)), if_neg (pne (by decide))]
    rw [e]
    refine ⟨Or.inr (Or.inl rfl), ea, ?_⟩
    show (Sum.inr (6, x_tw (twA ad t q q1 q2) (xtw X t) t) : va_E) = Sum.inr (6, twF q1 q2 (ad (0, 0)))
    unfold x_tw twF
    rw [e1, e2, e00]
    simp [xtw]
  by_cases k1 : k = (71, t)
  · subst k1
    have e : tkF t (71, t) = (91, 0) := by unfold tkF; rw [if_neg k0, if_pos rfl]
    have ea : twA ad t q q1 q2 (71, t) = q1 := by unfold twA; rw [if_neg k0, if_pos rfl]
    rw [e, ea]
    refine ⟨Or.inr (Or.inr (Or.inl rfl)), rfl, ?_⟩
    show (Sum.inl (d 4, 2, .inr (.inr (.inr (.inr (fun j => if j < 2 then x_own (twA ad t q q1 q2) (xtw X t) (2 * t + j) else none))))) : va_E) = Sum.inl (d 4, 2, .inr (.inr (.inr (.inr (fun _ => none)))))
    have : (fun j => if j < 2 then x_own (twA ad t q q1 q2) (xtw X t) (2 * t + j) else none) = (fun _ => none) := by
      funext j
      by_cases hj : j < 2
      · rw [if_pos hj]
        unfold x_own
        rw [xtw_4 X t hj]
      · rw [if_neg hj]
    rw [this]
  by_cases k2 : k = (72, t)
  · subst k2
    have e : tkF t (72, t) = (92, 0) := by unfold tkF; rw [if_neg k0, if_neg k1, if_pos rfl]
    have ea : twA ad t q q1 q2 (72, t) = q2 := by unfold twA; rw [if_neg k0, if_neg k1, if_pos rfl]
    rw [e, ea]
    refine ⟨Or.inr (Or.inr (Or.inr rfl)), rfl, ?_⟩
    show (Sum.inl (d 0, 240, .inl ((xtw X t).2.2.1 2 t)) : va_E) = Sum.inl (d 0, 240, .inl (fun _ => 0))
    rw [xtw_B2]
  have e : tkF t k = k := by unfold tkF; rw [if_neg k0, if_neg k1, if_neg k2]
  have ea : twA ad t q q1 q2 k = ad k := by unfold twA; rw [if_neg k0, if_neg k1, if_neg k2]
  have es : ∀ a b, a ≠ 70 → a ≠ 71 → a ≠ 72 → twA ad t q q1 q2 (a, b) = ad (a, b) := fun a b h0 h1 h2 => by
    unfold twA
    rw [if_neg (fun h => h0 (congrArg Prod.fst h)), if_neg (fun h => h1 (congrArg Prod.fst h)), if_neg (fun h => h2 (congrArg Prod.fst h))]
  have hlX : x_live X k := by
    obtain ⟨a, b⟩ := k
    unfold x_live at hl ⊢
    simp only [xtw_N X t (k := 3) (by decide) (by decide), xtw_N X t (k := 7) (by decide) (by decide), xtw_N X t (k := 8) (by decide) (by decide), xtw_N X t (k := 0) (by decide) (by decide), xtw_N X t (k := 10) (by decide) (by decide), xtw_N X t (k := 9) (by decide) (by decide)] at hl
    rcases hl with r | r | r | r | r | r
    · exact Or.inl r
    · exact Or.inr (Or.inl r)
    · exact Or.inr (Or.inr (Or.inl r))
    · exact Or.inr (Or.inr (Or.inr (Or.inl r)))
    · exact Or.inr (Or.inr (Or.inr (Or.inr (Or.inl r))))
    · refine Or.inr (Or.inr (Or.inr (Or.inr (Or.inr ⟨r.1, r.2.1, ?_⟩))))
      have hb : b ≠ t := by
        rintro rfl
        rcases r.1 with r1 | r1 | r1
        · exact k0 (Prod.ext r1 rfl)
        · exact k1 (Prod.ext r1 rfl)
        · exact k2 (Prod.ext r1 rfl)
      have := r.2.2
      rw [xtw_5n X t hb] at this
      exact this
  obtain ⟨b0, b1, b2⟩ := tk_n hlX
  rw [e, ea]
  refine ⟨Or.inl hlX, by unfold tkA; rw [if_neg b0, if_neg b1, if_neg b2], ?_⟩
  unfold tkC'
  by_cases k7 : k = (7, 0)
  · subst k7
    rw [if_pos rfl]
    show (Sum.inl (d 5, 4, .inr (.inr (.inr (.inr (fun u => if (xtw X t).2.2.2 5 u = 0 then none else some (twA ad t q q1 q2 (70, u))))))) : va_E) = _
    have : (fun u => if (xtw X t).2.2.2 5 u = 0 then none else some (twA ad t q q1 q2 (70, u))) = va_up (fun t => if X.2.2.2 5 t = 0 then none else some (ad (70, t))) t (some q) := by
      funext u
      by_cases hu : u = t
      · subst hu
        rw [va_up_self, xtw_5, if_neg (by decide)]
        exact congrArg some (if_pos rfl)
      · rw [va_up_ne _ _ hu, xtw_5n X t hu]
        have : twA ad t q q1 q2 (70, u) = ad (70, u) := by
          unfold twA
          rw [if_neg (fun h => hu (congrArg Prod.snd h)), if_neg (pne (by decide)), if_neg (pne (by decide))]
        rw [this]
    rw [this]
  rw [if_neg k7]
  unfold tkC
  rw [if_neg b0, if_neg b1, if_neg b2]
  have hne : ∀ a, k.1 = a → (a = 70 ∨ a = 71 ∨ a = 72) → k.2 ≠ t := fun a h1 h2 h3 => by
    rcases h2 with r | r | r
    · exact k0 (Prod.ext (h1.trans r) h3)
    · exact k1 (Prod.ext (h1.trans r) h3)
    · exact k2 (Prod.ext (h1.trans r) h3)
  refine x_C_cong hlX (fun _ => ?_) (fun _ r => ?_) (fun _ j => ?_) (fun e7 => ?_) (fun _ => ⟨xtw_N X t (by decide) (by decide) _, xtw_B X t (by decide) _⟩) (fun _ => ⟨xtw_N X t (by decide) (by decide) _, ?_, x_te_eq (xtw_N X t (by decide) (by decide) _) (xtw_i X t (by decide) _) (xtw_i X t (by decide) _) (es _ _ (by decide) (by decide) (by decide)) (es _ _ (by decide) (by decide) (by decide))⟩) (fun _ => ⟨xtw_N X t (by decide) (by decide) _, xtw_B X t (by decide) _⟩) (fun _ => ⟨xtw_N X t (by decide) (by decide) _, xtw_B X t (by decide) _⟩) (fun e70 => ?_) (fun e71 j hj => ?_) (fun e72 => xtw_Bn X t (hne 72 e72 (by decide))) (fun h1 _ => xtw_if X t (by omega))
  · unfold x_fs
    refine List.map_congr_left fun j hj => ?_
    have hj := List.mem_range.mp hj
    unfold x_fv
    rw [xtw_i X t (by omega), es j 0 (by omega) (by omega) (by omega)]
    rfl
  · rw [xtw_N X t (by decide) (by decide), es _ _ (by decide) (by decide) (by decide)]
  · rw [xtw_N X t (by decide) (by decide), es _ _ (by decide) (by decide) (by decide)]
  · refine absurd (Prod.ext e7 ?_) k7
    rcases x_sorts hlX with r | r | r | r | r | r | r | r
    · exact r.2
    all_goals (rw [e7] at r; exact absurd r (by decide))
  · unfold x_tf
    simp only [xtw_i X t (k := 40) (by decide), xtw_i X t (k := 41) (by decide), xtw_i X t (k := 42) (by decide), xtw_i X t (k := 43) (by decide), xtw_i X t (k := 44) (by decide), xtw_i X t (k := 45) (by decide), xtw_i X t (k := 46) (by decide), xtw_i X t (k := 47) (by decide), xtw_i X t (k := 48) (by decide), xtw_i X t (k := 49) (by decide)]
  · have hn := hne 70 e70 (by decide)
    unfold x_tw
    have f1 : twA ad t q q1 q2 (71, k.2) = ad (71, k.2) := by
      unfold twA
      rw [if_neg (pne (by decide)), if_neg (fun h => hn (congrArg Prod.snd h)), if_neg (pne (by decide))]
    have f2 : twA ad t q q1 q2 (72, k.2) = ad (72, k.2) := by
      unfold twA
      rw [if_neg (pne (by decide)), if_neg (pne (by decide)), if_neg (fun h => hn (congrArg Prod.snd h))]
    rw [f1, f2, es 0 0 (by decide) (by decide) (by decide)]
    simp only [xtw_in X t _ hn]
  · have hn := hne 71 e71 (by decide)
    exact x_own_eq (xtw_4n X t ⟨by omega, by omega⟩) fun n _ => es _ _ (by decide) (by decide) (by decide)
theorem tkF_inj {X : XS} {t : Nat} {k k' : XK} (hl : x_live X k) (hl' : x_live X k') (e : tkF t k = tkF t k') : k = k' := by
  obtain ⟨b0, b1, b2⟩ := tk_n hl
  obtain ⟨d0, d1, d2⟩ := tk_n hl'
  unfold tkF at e
  by_cases k0 : k = (70, t) <;> by_cases k1 : k = (71, t) <;> by_cases k2 : k = (72, t) <;> by_cases m0 : k' = (70, t) <;> by_cases m1 : k' = (71, t) <;> by_cases m2 : k' = (72, t) <;> simp_all
theorem XR_tw {D : va_G} {d : Nat → ClassId} {A : Nat → Prop} {ad : XK → Nat} {X : XS} {H : Heap} {t q q1 q2 : Nat} (h : hp_R D A (tkL X) (tkA ad q q1 q2) (tkC' d ad X t q q1 q2) H) : XR D d A (twA ad t q q1 q2) (xtw X t) H := by
  refine XR.of (fun k k' a b e => ?_) fun k hk => ?_
  · have h1 := tw_key (d := d) (ad := ad) (q := q) (q1 := q1) (q2 := q2) a
    have h2 := tw_key (d := d) (ad := ad) (q := q) (q1 := q1) (q2 := q2) b
    exact tkF_inj a b (hp_R.inj h h1.1 h2.1 (by rw [← h1.2.1, ← h2.2.1]; exact e))
  · have h1 := tw_key (d := d) (ad := ad) (q := q) (q1 := q1) (q2 := q2) hk
    rw [h1.2.1, h1.2.2]
    exact ⟨hp_R.at h h1.1, hp_R.in_A h h1.1⟩
