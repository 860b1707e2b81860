/-! THE CLASS: a train comes; contracts of methods that make cells; new arrays. -/
set_option maxRecDepth 100000
/-- the next train has come -/
def xcm (X : XS) : XS := (X.1, X.2.1, X.2.2.1, fun k i => if k = 7 ∧ i = 0 then X.2.2.2 7 0 + 1 else if (k = 8 ∨ k = 9 ∨ k = 10) ∧ i = 0 then 0 else X.2.2.2 k i)
theorem xcm_N (X : XS) {k : Nat} (h7 : k ≠ 7) (h8 : k ≠ 8) (h9 : k ≠ 9) (h10 : k ≠ 10) (i : Nat) : (xcm X).2.2.2 k i = X.2.2.2 k i := by simp [xcm, h7, h8, h9, h10]
theorem xcm_7 (X : XS) : (xcm X).2.2.2 7 0 = X.2.2.2 7 0 + 1 := by simp [xcm]
theorem xcm_8 (X : XS) : (xcm X).2.2.2 8 0 = 0 := by simp [xcm]
theorem xcm_9 (X : XS) : (xcm X).2.2.2 9 0 = 0 := by simp [xcm]
theorem xcm_10 (X : XS) : (xcm X).2.2.2 10 0 = 0 := by simp [xcm]
theorem x_lvtP {X : XS} (h : X.2.2.2 8 0 ≠ 0) : x_live X (40, X.2.2.2 7 0) := Or.inr (Or.inr (Or.inl ⟨rfl, Or.inr ⟨rfl, h⟩⟩))
theorem x_lvnP {X : XS} (h : X.2.2.2 9 0 ≠ 0) : x_live X (41, X.2.2.2 7 0) := Or.inr (Or.inr (Or.inr (Or.inl ⟨rfl, Or.inr ⟨rfl, h⟩⟩)))
theorem x_lvpP {X : XS} (h : X.2.2.2 10 0 ≠ 0) : x_live X (42, X.2.2.2 7 0) := Or.inr (Or.inr (Or.inr (Or.inr (Or.inl ⟨rfl, Or.inr ⟨rfl, h⟩⟩))))
theorem xcm_live {X : XS} (h8 : X.2.2.2 8 0 ≠ 0) (h9 : ¬ X.2.2.2 0 (X.2.2.2 7 0) = 0 → X.2.2.2 9 0 ≠ 0) (h10 : X.2.2.2 0 (X.2.2.2 7 0) = 3 → X.2.2.2 10 0 ≠ 0) {k : XK} (hl : x_live (xcm X) k) : x_live X k := by
  obtain ⟨a, b⟩ := k
  unfold x_live at hl
  simp only [xcm_N X (k := 3) (by decide) (by decide) (by decide) (by decide), xcm_N X (k := 0) (by decide) (by decide) (by decide) (by decide), xcm_N X (k := 5) (by decide) (by decide) (by decide) (by decide), xcm_7, xcm_8, xcm_9, xcm_10] at hl
  rcases hl with r | r | r | r | r | r
  · exact Or.inl r
  · exact Or.inr (Or.inl r)
  · refine Or.inr (Or.inr (Or.inl ⟨r.1, ?_⟩))
    rcases r.2 with r2 | r2
    · rcases Nat.lt_succ_iff_lt_or_eq.mp r2 with r3 | r3
      · exact Or.inl r3
      · exact Or.inr ⟨r3, h8⟩
    · exact absurd rfl r2.2
  · refine Or.inr (Or.inr (Or.inr (Or.inl ⟨r.1, ?_⟩)))
    rcases r.2 with r2 | r2
    · rcases Nat.lt_succ_iff_lt_or_eq.mp r2.1 with r3 | r3
      · exact Or.inl ⟨r3, r2.2⟩
      · subst r3
        exact Or.inr ⟨rfl, h9 r2.2⟩
    · exact absurd rfl r2.2
  · refine Or.inr (Or.inr (Or.inr (Or.inr (Or.inl ⟨r.1, ?_⟩))))
    rcases r.2 with r2 | r2
    · rcases Nat.lt_succ_iff_lt_or_eq.mp r2.1 with r3 | r3
      · exact Or.inl ⟨r3, r2.2⟩
      · subst r3
        exact Or.inr ⟨rfl, h10 r2.2⟩
    · exact absurd rfl r2.2
  · exact Or.inr (Or.inr (Or.inr (Or.inr (Or.inr r))))
section XCOME
variable {p : Program} {l : Launch} {e : Env} {R : Room} {s : State} {m : MethodId} {args : Array Value} {below : List Frame} {meth : Method} {c : Code} {H : Heap} {locs : List Loc} {cells slots : Nat} {Q : State → Prop}
variable {cc : ByteArray} {pc nL : Nat} {ls : Array Slot} {rest st0 : List Value} {D : va_G} {A : Nat → Prop} {d : Nat → ClassId} {own : String} {ad : XK → Nat} {X : XS}
theorem x_stT (X0 : xX p m c cc nL s args own D d) (hR : XR D d A ad X H) (hS : va_S A s.heap H locs) (h8 : X.2.2.2 8 0 ≠ 0) (h9 : ¬ X.2.2.2 0 (X.2.2.2 7 0) = 0 → X.2.2.2 9 0 ≠ 0) (h10 : X.2.2.2 0 (X.2.2.2 7 0) = 3 → X.2.2.2 10 0 ≠ 0) (hkd : X.2.2.2 0 (X.2.2.2 7 0) ≤ 3) {i : Int32} (hi : vp_in i 16) (hin : i.toNatClampNeg = X.2.2.2 7 0) (hdg : decode cc pc = .ok (.aastore, 1))
    (kk : ∀ (H : Heap) (locs : List Loc), XR D d A ad (xcm X) H → va_S A s.heap H locs → W p l e R s m args below meth c H locs cells slots Q (F0 m (pc + 1) ls rest)) : W p l e R s m args below meth c H locs cells slots Q (F0 m pc ls (.ref (ad (40, X.2.2.2 7 0)) :: .int i :: .ref (ad (4, 0)) :: rest)) := by
  have hlv : x_live X (4, 0) := x_lva ⟨by decide, by decide⟩
  have hlj := x_lvtP h8
  have go : ∀ (H : Heap) (locs : List Loc), hp_R D A (x_live X) ad (x_C d ad (xcm X)) H → va_S A s.heap H locs → W p l e R s m args below meth c H locs cells slots Q (F0 m (pc + 1) ls rest) := fun H locs h1 h2 => kk H locs (h1.conv fun k hk => ⟨xcm_live h8 h9 h10 hk, rfl⟩) h2
  have hC4 : x_C d ad X (4, 0) = .inl (d 4, 16, .inr (.inr (.inr (.inr (fun j => if j < X.2.2.2 7 0 then some (ad (40, j)) else none))))) := rfl
  have h1 : x_C d ad (xcm X) (4, 0) = .inl (d 4, 16, .inr (.inr (.inr (.inr (va_up (fun j => if j < X.2.2.2 7 0 then some (ad (40, j)) else none) i.toNatClampNeg (some (ad (40, X.2.2.2 7 0)))))))) := by
    show (Sum.inl (d 4, 16, .inr (.inr (.inr (.inr (fun j => if j < (xcm X).2.2.2 7 0 then some (ad (40, j)) else none))))) : va_E) = _
    have : (fun j => if j < (xcm X).2.2.2 7 0 then some (ad (40, j)) else none) = va_up (fun j => if j < X.2.2.2 7 0 then some (ad (40, j)) else none) i.toNatClampNeg (some (ad (40, X.2.2.2 7 0))) := by
      funext j
      rw [hin, xcm_7]
      by_cases hj : j = X.2.2.2 7 0
      · subst hj
        rw [va_up_self, if_pos (Nat.lt_succ_self _)]
      · rw [va_up_ne _ _ hj]
        by_cases h2 : j < X.2.2.2 7 0
        · rw [if_pos h2, if_pos (by omega)]
        · rw [if_neg h2, if_neg (by omega)]
    rw [this]
  have h2 : ∀ k', x_live X k' → k' ≠ (4, 0) → x_C d ad (xcm X) k' = x_C d ad X k' := by
    intro k' hk' hne
    have n0 : ∀ i, (xcm X).2.2.2 0 i = X.2.2.2 0 i := xcm_N X (by decide) (by decide) (by decide) (by decide)
    have n3 : ∀ i, (xcm X).2.2.2 3 i = X.2.2.2 3 i := xcm_N X (by decide) (by decide) (by decide) (by decide)
    have n5 : ∀ i, (xcm X).2.2.2 5 i = X.2.2.2 5 i := xcm_N X (by decide) (by decide) (by decide) (by decide)
    refine x_C_cong hk' (fun _ => rfl) (fun _ r => by rw [n3]) (fun e4 => ?_) (fun _ t => by rw [n5]) (fun _ => ⟨n3 _, rfl⟩) (fun _ => ⟨n0 _, rfl, x_te_eq (n0 _) rfl rfl rfl rfl⟩) (fun _ => ⟨xcm_N X (by decide) (by decide) (by decide) (by decide) _, rfl⟩) (fun _ => ⟨xcm_N X (by decide) (by decide) (by decide) (by decide) _, rfl⟩) (fun _ => rfl) (fun _ q _ => x_own_eq (xcm_N X (by decide) (by decide) (by decide) (by decide) _) fun _ _ => rfl) (fun _ => rfl) (fun _ _ => rfl)
    refine absurd (Prod.ext e4 ?_) hne
    rcases x_sorts hk' with r | r | r | r | r | r | r | r
    · exact r.2
    all_goals (rw [e4] at r; exact absurd r (by decide))
  rcases x_kinds hkd with h | h | h | h
  · exact hp_aast X0.1 hR hS hlv hlj hC4 4 rfl (ci := 2) (by rw [x_C40, h]) rfl (Or.inr rfl) hi hdg h1 h2 go
  · exact hp_aast X0.1 hR hS hlv hlj hC4 4 rfl (ci := 3) (by rw [x_C40, h]) rfl (Or.inl (X0.2.nw q1731 rfl)) hi hdg h1 h2 go
  · exact hp_aast X0.1 hR hS hlv hlj hC4 4 rfl (ci := 4) (by rw [x_C40, h]) rfl (Or.inl (X0.2.nw q1732 rfl)) hi hdg h1 h2 go
  · exact hp_aast X0.1 hR hS hlv hlj hC4 4 rfl (ci := 5) (by rw [x_C40, h]) rfl (Or.inl (X0.2.nw q1733 rfl)) hi hdg h1 h2 go
def x_comes (S : XS) : Int32 × XS := ((S.1 5 0 + 1) - 1, xu (xcm S) 5 0 (S.1 5 0 + 1))
set_option maxHeartbeats 4000000 in
theorem xt_comes (l : Launch) (D : va_G) (d : Nat → ClassId) (A : Nat → Prop) (ad : XK → Nat) (S : XS) (h5 : S.1 5 0 = nI (S.2.2.2 7 0)) (hm : S.2.2.2 7 0 < 16) (h8 : S.2.2.2 8 0 ≠ 0) (h9 : ¬ S.2.2.2 0 (S.2.2.2 7 0) = 0 → S.2.2.2 9 0 ≠ 0) (h10 : S.2.2.2 0 (S.2.2.2 7 0) = 3 → S.2.2.2 10 0 ≠ 0) (hkd : S.2.2.2 0 (S.2.2.2 7 0) ≤ 3) : XI l yX0_comes cX0_comes 2 .int (rm_ 0) D d A ad S [.ref (ad (0, 0)), .ref (ad (40, S.2.2.2 7 0))] (x_comes S) := by
  refine x_startI RX0 rfl (by decide) (Nat.le_of_ble_eq_true rfl) ?_
  intro p e s m av below meth c ls Q X hrt hlk hl hR hQ
  have hx := X.1.1.1
  have hb := X.1.1.2.1
  have hown := X.1.1.2.2.2.1
  have hts := X.1.1.2.2.2.2
  have hS : va_S A s.heap s.heap [] := va_S.rf
  have hl : lv_has ls 2 [(0, .ref (ad (0, 0))), (1, .ref (ad (40, S.2.2.2 7 0)))] := hl
  have hin : (S.1 5 0).toNatClampNeg = S.2.2.2 7 0 := by rw [h5]; exact nI_clamp (by omega)
  have hvi : vp_in (S.1 5 0) 16 := by
    rw [h5]
    exact ix_ (by decide) ⟨nI_le (a := 0) (Nat.zero_le _) (by omega), nI_lt hm (by decide)⟩
  refine lv_aload_n hx hb dX0_comes_0 rfl (lv_at hl 0 rfl) ?_
  refine xg_a X.1 hR 4 (by decide) (by decide) q100 dX0_comes_1 ?_
  refine lv_aload_n hx hb dX0_comes_4 rfl (lv_at hl 0 rfl) ?_
  refine xg_i X.1 hR 5 (by decide) rfl q101 rfl dX0_comes_5 ?_
  refine lv_aload_n hx hb dX0_comes_8 rfl (lv_at hl 1 rfl) ?_
  refine x_stT X hR hS h8 h9 h10 hkd hvi hin dX0_comes_9 (fun H locs hR hS => ?_)
  refine lv_aload_n hx hb dX0_comes_10 rfl (lv_at hl 0 rfl) ?_
  refine lv_dup hx hb dX0_comes_11 rfl ?_
  refine xg_i X.1 hR 5 (by decide) rfl q101 rfl dX0_comes_12 ?_
  refine lv_iconst (v := 1) hx hb dX0_comes_15 (by decide) ?_
  refine lv_iadd hx hb dX0_comes_16 ?_
  refine xp_i X.1 hR hS 5 (by decide) rfl rfl rfl q101 dX0_comes_17 (fun H locs hR hS => ?_)
  refine lv_aload_n hx hb dX0_comes_20 rfl (lv_at hl 0 rfl) ?_
  refine xg_i X.1 hR 5 (by decide) rfl q101 (xu_self _ _ _ _) dX0_comes_21 ?_
  refine lv_iconst (v := 1) hx hb dX0_comes_24 (by decide) ?_
  refine lv_isub hx hb dX0_comes_25 ?_
  exact x_ri hx hb hrt (rfl) hlk hR hS hQ rfl dX0_comes_26
end XCOME
