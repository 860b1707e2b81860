/-! PRINTED by gen/run_x17.py -/
set_option maxRecDepth 100000
/-- the notches that no train took fall away -/
theorem XR_drop {D : va_G} {d : Nat → ClassId} {A : Nat → Prop} {ad : XK → Nat} {X : XS} {H : Heap} {len q : Nat} {f : Nat → Int32} (h8 : X.2.2.2 8 0 = 0) (h9 : X.2.2.2 9 0 = 0) (h : XR D d A (adU ad (41, X.2.2.2 7 0) q) (xsn X len f) H) : XR D d A ad X H := by
  have hne : ∀ k, x_live X k → k ≠ (41, X.2.2.2 7 0) := by
    rintro k hk rfl
    rcases hk with r | r | r | r | r | r
    · exact absurd (show (41 : Nat) < 29 from r.1) (by decide)
    · exact absurd (show (41 : Nat) = 30 from r.1) (by decide)
    · exact absurd (show (41 : Nat) = 40 from r.1) (by decide)
    · rcases r.2 with r2 | r2
      · exact absurd r2.1 (Nat.lt_irrefl _)
      · exact r2.2 h9
    · exact absurd (show (41 : Nat) = 42 from r.1) (by decide)
    · rcases r.1 with r1 | r1 | r1
      · exact absurd (show (41 : Nat) = 70 from r1) (by decide)
      · exact absurd (show (41 : Nat) = 71 from r1) (by decide)
      · exact absurd (show (41 : Nat) = 72 from r1) (by decide)
  have hlv : ∀ k, x_live X k → x_live (xsn X len f) k := by
    intro k hk
    have hn := hne k hk
    obtain ⟨a, b⟩ := k
    unfold x_live
    simp only [xsn_N X len f (k := 3) (by decide) (by decide), xsn_N X len f (k := 7) (by decide) (by decide), xsn_N X len f (k := 8) (by decide) (by decide), xsn_N X len f (k := 0) (by decide) (by decide), xsn_N X len f (k := 10) (by decide) (by decide), xsn_N X len f (k := 5) (by decide) (by decide), xsn_9]
    rcases hk with r | r | r | r | r | r
    · exact Or.inl r
    · exact Or.inr (Or.inl r)
    · exact Or.inr (Or.inr (Or.inl r))
    · refine Or.inr (Or.inr (Or.inr (Or.inl ⟨r.1, ?_⟩)))
      rcases r.2 with r2 | r2
      · exact Or.inl r2
      · exact absurd h9 r2.2
    · exact Or.inr (Or.inr (Or.inr (Or.inr (Or.inl r))))
    · exact Or.inr (Or.inr (Or.inr (Or.inr (Or.inr r))))
  have hC : ∀ k, x_live X k → x_C d ad X k = x_C d (adU ad (41, X.2.2.2 7 0) q) (xsn X len f) k := by
    intro k hl
    have hne := hne k hl
    obtain ⟨a, b⟩ := k
    refine Eq.symm (x_C_cong hl (fun _ => x_fs_ad rfl rfl fun k hk => adU_s _ _ (by omega)) (fun _ r => ?_) (fun _ j => ?_) (fun _ t => ?_) (fun e => ?_) (fun e => ?_) (fun e => ?_) (fun e => ?_) (fun e => ?_) (fun e q hq => ?_) (fun e => ?_) (fun _ _ => rfl))
    · rw [xsn_N X len f (by decide) (by decide), adU_s _ _ (by decide)]
    · rw [xsn_N X len f (by decide) (by decide), adU_s _ _ (by decide)]
    · rw [xsn_N X len f (by decide) (by decide), adU_s _ _ (by decide)]
    · exact ⟨xsn_N X len f (by decide) (by decide) _, xsn_B X len f (by decide) _⟩
    · have hb : b ≠ X.2.2.2 7 0 := by
        dsimp only at e
        subst e
        rcases hl with r | r | r | r | r | r
        · exact absurd (show (40 : Nat) < 29 from r.1) (by decide)
        · exact absurd (show (40 : Nat) = 30 from r.1) (by decide)
        · rcases r.2 with r2 | r2
          · exact Nat.ne_of_lt r2
          · exact absurd h8 r2.2
        · exact absurd (show (40 : Nat) = 41 from r.1) (by decide)
        · exact absurd (show (40 : Nat) = 42 from r.1) (by decide)
        · rcases r.1 with r1 | r1 | r1
          · exact absurd (show (40 : Nat) = 70 from r1) (by decide)
          · exact absurd (show (40 : Nat) = 71 from r1) (by decide)
          · exact absurd (show (40 : Nat) = 72 from r1) (by decide)
      exact ⟨xsn_N X len f (by decide) (by decide) _, rfl, x_te_eq (xsn_N X len f (by decide) (by decide) _) rfl rfl (adU_i _ _ hb) (adU_s _ _ (by decide))⟩
    · dsimp only at e
      subst e
      have hb : b ≠ X.2.2.2 7 0 := fun e => hne (by rw [e])
      exact ⟨xsn_1n X len f hb, xsn_Bn X len f hb⟩
    · exact ⟨xsn_N X len f (by decide) (by decide) _, xsn_B X len f (by decide) _⟩
    · unfold x_tw
      rw [adU_s _ _ (by decide), adU_s _ _ (by decide), adU_s _ _ (by decide)]
      rfl
    · exact x_own_eq (xsn_N X len f (by decide) (by decide) _) fun n _ => adU_s _ _ (by decide)
    · exact xsn_B X len f (by decide) _
  refine XR.of (fun k k' a b e => ?_) fun k hk => ⟨?_, ?_⟩
  · refine hp_R.inj h (hlv k a) (hlv k' b) ?_
    rw [adU_ne _ _ (hne k a), adU_ne _ _ (hne k' b)]
    exact e
  · have := hp_R.at h (hlv k hk)
    rw [adU_ne _ _ (hne k hk)] at this
    rw [hC k hk]
    exact this
  · have := hp_R.in_A h (hlv k hk)
    rw [adU_ne _ _ (hne k hk)] at this
    exact this
def pfl (S : XS) (r k : Nat) : Nat → Int32 := fun i => if i < k then S.2.2.1 3 r i &&& 255 else 0
theorem pfl_s (S : XS) (r k : Nat) : upd (pfl S r k) k (S.2.2.1 3 r k &&& 255) = pfl S r (k + 1) := by
  funext i
  unfold upd pfl
  by_cases h : i = k
  · subst h
    rw [if_pos rfl, if_pos (Nat.lt_succ_self _)]
  · rw [if_neg h]
    by_cases h2 : i < k
    · rw [if_pos h2, if_pos (by omega)]
    · rw [if_neg h2, if_neg (by omega)]
theorem pfl_0 (S : XS) (r : Nat) : pfl S r 0 = fun _ => 0 := by
  funext i
  exact if_neg (Nat.not_lt_zero i)
theorem xb_xsp (X : XS) (len : Nat) (f : Nat → Int32) (i : Nat) (v : Int32) : xb (xsp X len f) 1 (X.2.2.2 7 0) i v = xsp X len (upd f i v) := by
  unfold xb xsp
  refine Prod.ext rfl (Prod.ext rfl (Prod.ext ?_ rfl))
  funext s o j
  dsimp only
  by_cases h : s = 1 ∧ o = X.2.2.2 7 0
  · rw [if_pos h]
    unfold upd
    by_cases hj : j = i
    · rw [if_pos ⟨h.1, h.2, hj⟩, if_pos hj, if_pos h]
    · rw [if_neg (fun q => hj q.2.2), if_neg hj, if_pos h]
  · rw [if_neg h, if_neg (fun q => h ⟨q.1, q.2.1⟩), if_neg h]
/-- the notches of r, the pins of r2 are there -/
def x_pinned (S : XS) (r r2 : Nat) : XS := xsp (x_strokes S r) (S.2.2.2 3 r2 - 1) (pfl S r2 (S.2.2.2 3 r2 - 1))
def x_barrel (S : XS) (x1 x2 : Int32) : Int32 × XS := if x_isRow x1 = 0 then (-1, S) else if x_isRow x2 = 0 then (-1, S) else if S.1 5 0 = 16 then (-2, S) else if S.2.2.2 3 (Int32.toNatClampNeg x1) = 0 then x_found S 1 else if S.2.2.2 3 (Int32.toNatClampNeg x2) = 0 then x_found S 1 else if x_good S (Int32.toNatClampNeg x1) = 0 then x_found S 5 else if nI (S.2.2.2 3 (Int32.toNatClampNeg x2) - 1) = 0 then x_found S 5 else x_comes (xtr (x_pinned S (Int32.toNatClampNeg x1) (Int32.toNatClampNeg x2)) 3 (S.1 5 0))
set_option maxHeartbeats 4000000 in
theorem xt_barrel (l : Launch) (D : va_G) (d : Nat → ClassId) (A : Nat → Prop) (ad : XK → Nat) (S : XS) (x1 x2 : Int32) (hI : XInv S) (hq : XQ S) : XIa l yX0_barrel cX0_barrel 6 .int (rmc_ 6 3 114) D d A ad S [.ref (ad (0, 0)), .int x1, .int x2] (x_barrel S x1 x2) 3 114 := by
  refine x_startIa RX0 rfl (by decide) (Nat.le_of_ble_eq_true rfl) ?_
  intro p e s m av below meth c ls Q X hrt hlk hl hR hA hQ
  have hx := X.1.1.1
  have hb := X.1.1.2.1
  have hown := X.1.1.2.2.2.1
  have hts := X.1.1.2.2.2.2
  have hS : va_S A s.heap s.heap [] := va_S.rf
  have hl : lv_has ls 6 [(0, .ref (ad (0, 0))), (1, .int x1), (2, .int x2)] := hl
  refine lv_iload_n hx hb dX0_barrel_0 rfl (lv_at hl 1 rfl) ?_
  refine s_ci X.1.1 (st_x_isRow l x1) 1 (lw_S q277 q278 q58 q279) ⟨rfl, rfl⟩ (by decide +kernel) ⟨by decide, by decide⟩ ⟨by decide, by decide⟩ rfl hl.1 rfl (Nat.le_of_ble_eq_true rfl) dX0_barrel_1 ?_
  refine lv_if_eq (tgt := 14) hx hb dX0_barrel_4 (by decide) (fun c1 => ?_) (fun c1 => ?_)
  · refine lv_iconst (v := (-1)) hx hb dX0_barrel_14 (by decide) ?_
    exact x_riA hx hb hrt rfl hlk hR rfl hS hQ (if_pos c1) ⟨by decide, by decide⟩ dX0_barrel_15
  · refine lv_iload_n hx hb dX0_barrel_7 rfl (lv_at hl 2 rfl) ?_
    refine s_ci X.1.1 (st_x_isRow l x2) 1 (lw_S q277 q278 q58 q279) ⟨rfl, rfl⟩ (by decide +kernel) ⟨by decide, by decide⟩ ⟨by decide, by decide⟩ rfl hl.1 rfl (Nat.le_of_ble_eq_true rfl) dX0_barrel_8 ?_
    refine lv_if_ne (tgt := 16) hx hb dX0_barrel_11 (by decide) (fun c2 => ?_) (fun c2 => ?_)
    · refine lv_aload_n hx hb dX0_barrel_16 rfl (lv_at hl 0 rfl) ?_
      refine xg_i X.1 hR 5 (by decide) rfl q101 rfl dX0_barrel_17 ?_
      refine lv_bipush (v := 16) hx hb dX0_barrel_20 (by decide) ?_
      refine lv_icmp_ne (tgt := 28) hx hb dX0_barrel_22 (by decide) (fun c3 => ?_) (fun c3 => ?_)
      · refine lv_aload_n hx hb dX0_barrel_28 rfl (lv_at hl 0 rfl) ?_
        refine xg_a X.1 hR 3 (by decide) (by decide) q99 dX0_barrel_29 ?_
        refine lv_iload_n hx hb dX0_barrel_32 rfl (lv_at hl 1 rfl) ?_
        refine x_ldRB X hR (ixl 8 8 (by decide) rfl (x_row8 c1)) dX0_barrel_33 (fun c4 => ?_) (fun c4 => ?_)
        · refine lv_ifnullN (tgt := 46) hx hb dX0_barrel_34 (by decide) ?_
          refine lv_aload_n hx hb dX0_barrel_46 rfl (lv_at hl 0 rfl) ?_
          refine lv_iconst (v := 1) hx hb dX0_barrel_47 (by decide) ?_
          refine x_bi hS (xr_V X hR x_lv0 (ci := 0) (fs := x_fs ad S) rfl rfl (xt_found l D d A ad S 1 (by decide)) 1 (lw_V q283 q285 qs2 q58 q286) ⟨rfl, rfl⟩ (by decide +kernel) ⟨by decide, by decide⟩ ⟨by decide, by decide⟩ rfl hl.1 rfl (Nat.le_of_ble_eq_true rfl) dX0_barrel_48) (fun H locs hR hS => ?_)
          exact x_riA hx hb hrt rfl hlk hR rfl hS hQ ((if_neg c1).trans ((if_neg c2).trans ((if_neg c3).trans (if_pos c4)))) ⟨by decide, by decide⟩ dX0_barrel_51
        · refine lv_ifnull hx hb dX0_barrel_34 ?_
          refine lv_aload_n hx hb dX0_barrel_37 rfl (lv_at hl 0 rfl) ?_
          refine xg_a X.1 hR 3 (by decide) (by decide) q99 dX0_barrel_38 ?_
          refine lv_iload_n hx hb dX0_barrel_41 rfl (lv_at hl 2 rfl) ?_
          refine x_ldRB X hR (ixl 8 8 (by decide) rfl (x_row8 c2)) dX0_barrel_42 (fun c5 => ?_) (fun c5 => ?_)
          · refine lv_ifnonnullN hx hb dX0_barrel_43 ?_
            refine lv_aload_n hx hb dX0_barrel_46 rfl (lv_at hl 0 rfl) ?_
            refine lv_iconst (v := 1) hx hb dX0_barrel_47 (by decide) ?_
            refine x_bi hS (xr_V X hR x_lv0 (ci := 0) (fs := x_fs ad S) rfl rfl (xt_found l D d A ad S 1 (by decide)) 1 (lw_V q283 q285 qs2 q58 q286) ⟨rfl, rfl⟩ (by decide +kernel) ⟨by decide, by decide⟩ ⟨by decide, by decide⟩ rfl hl.1 rfl (Nat.le_of_ble_eq_true rfl) dX0_barrel_48) (fun H locs hR hS => ?_)
            exact x_riA hx hb hrt rfl hlk hR rfl hS hQ ((if_neg c1).trans ((if_neg c2).trans ((if_neg c3).trans ((if_neg c4).trans (if_pos c5))))) ⟨by decide, by decide⟩ dX0_barrel_51
          · refine lv_ifnonnull (tgt := 52) hx hb dX0_barrel_43 (by decide) ?_
            refine lv_aload_n hx hb dX0_barrel_52 rfl (lv_at hl 0 rfl) ?_
            refine xg_a X.1 hR 3 (by decide) (by decide) q99 dX0_barrel_53 ?_
            refine lv_iload_n hx hb dX0_barrel_56 rfl (lv_at hl 1 rfl) ?_
            refine x_ldR X hR (ixl 8 8 (by decide) rfl (x_row8 c1)) c4 dX0_barrel_57 ?_
            refine va_callq (va_runS (As := [.ref (ad (30, (Int32.toNatClampNeg x1)))]) (rest := []) X.1.1 (xt_strokes l D d A ad S (Int32.toNatClampNeg x1) hI (tn8 (x_row8 c1)) c4 hq.1 hq.2.1) (va_cwS 1 hts (lw_S q420 q421 q58 q422) rfl rfl rfl (by decide +kernel) ⟨by decide, by decide⟩) (xa_preS X.1.2 X.2 hR (fun x h => hA x (Nat.le_trans hS.1 h))) rfl rfl hl.1 rfl (lv_room (Nat.le_of_ble_eq_true rfl)) dX0_barrel_58 ⟨by decide, by decide⟩) hS (fun _ _ h => h) (fun _ h => h) fun o1 u t H1 locs1 ht hvm hw hB hz hk1 hS => ?_
            by_cases c6 : x_good S (Int32.toNatClampNeg x1) = 0
            · obtain ⟨rfl, rfl⟩ := hw.1 c6
              have hR : XR D d A ad S H1 := by rw [← ht]; exact hB
              refine lv_astore_nN (lv' := [(3, .null), (0, .ref (ad (0, 0))), (1, .int x1), (2, .int x2)]) hx hb dX0_barrel_61 rfl hl (by decide) rfl (fun ls hl => ?_)
              refine lv_aload_nN hx hb dX0_barrel_62 rfl (lv_at hl 0 rfl) ?_
              refine lv_ifnullN (tgt := 76) hx hb dX0_barrel_63 (by decide) ?_
              refine lv_aload_n hx hb dX0_barrel_76 rfl (lv_at hl 1 rfl) ?_
              refine lv_iconst (v := 5) hx hb dX0_barrel_77 (by decide) ?_
              refine x_bi hS (xr_V X hR x_lv0 (ci := 0) (fs := x_fs ad S) rfl rfl (xt_found l D d A ad S 5 (by decide)) 1 (lw_V q283 q285 qs2 q58 q286) ⟨rfl, rfl⟩ (by decide +kernel) ⟨by decide, by decide⟩ ⟨by decide, by decide⟩ rfl hl.1 rfl (Nat.le_of_ble_eq_true rfl) dX0_barrel_78) (fun H locs hR hS => ?_)
              exact x_riA hx hb hrt rfl hlk hR rfl hS hQ ((if_neg c1).trans ((if_neg c2).trans ((if_neg c3).trans ((if_neg c4).trans ((if_neg c5).trans (if_pos c6)))))) ⟨by decide, by decide⟩ dX0_barrel_81
            · obtain ⟨q1, rfl, rfl⟩ := hw.2 c6
              have hR : XR D d A (adU ad (41, S.2.2.2 7 0) q1) (x_strokes S (Int32.toNatClampNeg x1)) H1 := by rw [← ht]; exact hB
              obtain ⟨ad1, had⟩ : ∃ ad1, ad1 = adU ad (41, S.2.2.2 7 0) q1 := ⟨_, rfl⟩
              have e1 : q1 = ad1 (41, S.2.2.2 7 0) := by rw [had, adU_self]
              have e2 : ad (0, 0) = ad1 (0, 0) := by rw [had, adU_s _ _ (by decide)]
              rw [← had] at hR
              rw [e2] at hl
              refine lv_astore_n (lv' := [(3, .ref q1), (0, .ref (ad1 (0, 0))), (1, .int x1), (2, .int x2)]) hx hb dX0_barrel_61 rfl hl (by decide) rfl (fun ls hl => ?_)
              rw [e1] at hl
              refine lv_aload_n hx hb dX0_barrel_62 rfl (lv_at hl 0 rfl) ?_
              refine lv_ifnull hx hb dX0_barrel_63 ?_
              refine lv_aload_n hx hb dX0_barrel_66 rfl (lv_at hl 1 rfl) ?_
              refine xg_a X.1 hR 3 (by decide) (by decide) q99 dX0_barrel_67 ?_
              refine lv_iload_n hx hb dX0_barrel_70 rfl (lv_at hl 3 rfl) ?_
              refine x_ldR X hR (ixl 8 8 (by decide) rfl (x_row8 c2)) c5 dX0_barrel_71 ?_
              obtain ⟨L, hL⟩ : ∃ L, L = S.2.2.2 3 (Int32.toNatClampNeg x2) - 1 := ⟨_, rfl⟩
              have hL48 : L ≤ 48 := by have := hI.1.2.2.2 (Int32.toNatClampNeg x2) (tn8 (x_row8 c2)); omega
              have hix : ∀ k, k < L → vp_in (nI k) L := fun k hk => ix_ (by omega) ⟨nI_pos' (by omega), nI_lt hk (by omega)⟩
              refine x_lnr X hR (x_lvr (X := x_strokes S (Int32.toNatClampNeg x1)) (tn8 (x_row8 c2)) c5) (v := nI (S.2.2.2 3 (Int32.toNatClampNeg x2) - 1)) rfl dX0_barrel_72 ?_
              refine lv_if_ne (tgt := 82) hx hb dX0_barrel_73 (by decide) (fun c7 => ?_) (fun c7 => ?_)
              · refine lv_aload_n hx hb dX0_barrel_82 rfl (lv_at hl 1 rfl) ?_
                refine xg_a X.1 hR 3 (by decide) (by decide) q99 dX0_barrel_83 ?_
                refine lv_iload_n hx hb dX0_barrel_86 rfl (lv_at hl 3 rfl) ?_
                refine x_ldR X hR (ixl 8 8 (by decide) rfl (x_row8 c2)) c5 dX0_barrel_87 ?_
                refine x_lnr X hR (x_lvr (X := x_strokes S (Int32.toNatClampNeg x1)) (tn8 (x_row8 c2)) c5) (v := nI L) (by rw [hL]; rfl) dX0_barrel_88 ?_
                refine x_newI X hS hA (N := L) (nI_pos (by omega)) (nI_clamp (by omega)) (by omega) ⟨by decide, by show 0 + 48 + L ≤ 114; omega⟩ dX0_barrel_89 fun q2 H hqz hAq hk hc hS => ?_
                have hR := XR_sp (f := fun _ => 0) hR (show (x_strokes S (Int32.toNatClampNeg x1)).2.2.2 8 0 = 0 from hq.1) (show (x_strokes S (Int32.toNatClampNeg x1)).2.2.2 10 0 = 0 from hq.2.2) hqz hAq hk hc
                obtain ⟨ad2, had2⟩ : ∃ ad2, ad2 = adU ad1 (42, (x_strokes S (Int32.toNatClampNeg x1)).2.2.2 7 0) q2 := ⟨_, rfl⟩
                have e4 : q2 = ad2 (42, S.2.2.2 7 0) := by rw [had2]; exact (adU_self _ _ _).symm
                have e3 : ad1 (0, 0) = ad2 (0, 0) := by rw [had2, adU_s _ _ (by decide)]
                have e5 : ad1 (41, S.2.2.2 7 0) = ad2 (41, S.2.2.2 7 0) := by rw [had2, adU_s _ _ (by decide)]
                rw [← had2, ← pfl_0 S (Int32.toNatClampNeg x2)] at hR
                rw [e3, e5] at hl
                refine lv_astore (lv' := [(4, .ref q2), (3, .ref (ad2 (41, S.2.2.2 7 0))), (0, .ref (ad2 (0, 0))), (1, .int x1), (2, .int x2)]) hx hb dX0_barrel_91 hl (by decide) rfl (fun ls hl => ?_)
                rw [e4] at hl
                refine lv_iconst (v := 0) hx hb dX0_barrel_93 (by decide) ?_
                refine lv_istore (lv' := [(5, .int (nI 0)), (4, .ref (ad2 (42, S.2.2.2 7 0))), (3, .ref (ad2 (41, S.2.2.2 7 0))), (0, .ref (ad2 (0, 0))), (1, .int x1), (2, .int x2)]) hx hb dX0_barrel_94 hl (by decide) rfl (fun ls hl => ?_)
                have n3 : ∀ k, ((xsp (x_strokes S (Int32.toNatClampNeg x1)) L (pfl S (Int32.toNatClampNeg x2) k))).2.2.2 3 (Int32.toNatClampNeg x2) = S.2.2.2 3 (Int32.toNatClampNeg x2) := fun k => rfl
                have hn3 : ∀ k, ¬ ((xsp (x_strokes S (Int32.toNatClampNeg x1)) L (pfl S (Int32.toNatClampNeg x2) k))).2.2.2 3 (Int32.toNatClampNeg x2) = 0 := fun k => c5
                have hlp : ∀ k, x_live (xsp (x_strokes S (Int32.toNatClampNeg x1)) L (pfl S (Int32.toNatClampNeg x2) k)) (42, S.2.2.2 7 0) := fun k => x_lvpP (X := (xsp (x_strokes S (Int32.toNatClampNeg x1)) L (pfl S (Int32.toNatClampNeg x2) k))) (by rw [xsp_9]; decide)
                have lp2 : ∀ (m2 k : Nat) (ls : Array Slot) (H : Heap) (locs : List Loc), k + m2 = L → XR D d A ad2 (xsp (x_strokes S (Int32.toNatClampNeg x1)) L (pfl S (Int32.toNatClampNeg x2) k)) H → va_S A s.heap H locs → lv_has ls 6 [(5, .int (nI k)), (4, .ref (ad2 (42, S.2.2.2 7 0))), (3, .ref (ad2 (41, S.2.2.2 7 0))), (0, .ref (ad2 (0, 0))), (1, .int x1), (2, .int x2)] → W p l e (rmc_ 6 3 114) s m av below meth c H locs (0 + 1 + 1) (0 + 48 + L) Q (F0 m 96 ls []) := by
                  intro m2
                  induction m2 with
                  | zero =>
                    intro k ls H locs hk hRz hSz hlz
                    have hk : k = L := by omega
                    subst hk
                    refine lv_iload hx hb dX0_barrel_96 (lv_at hlz 0 rfl) ?_
                    refine lv_aload hx hb dX0_barrel_98 (lv_at hlz 1 rfl) ?_
                    refine x_lnp X hRz (hlp _) (v := nI k) (congrArg nI (xsp_1 _ _ _)) dX0_barrel_100 ?_
                    refine lv_icmp_ge (tgt := 128) hx hb dX0_barrel_101 (by decide) (fun c8 => ?_) (fun c8 => absurd (Int32.le_refl _) c8)
                    have hR := hRz
                    have hS := hSz
                    have hl := hlz
                    have hpd : xsp (x_strokes S (Int32.toNatClampNeg x1)) k (pfl S (Int32.toNatClampNeg x2) k) = x_pinned S (Int32.toNatClampNeg x1) (Int32.toNatClampNeg x2) := by unfold x_pinned; rw [← hL]
                    rw [hpd] at hR
                    have h8 : (x_pinned S (Int32.toNatClampNeg x1) (Int32.toNatClampNeg x2)).2.2.2 8 0 = 0 := hq.1
                    have ho : ∀ p, p < 8 → (x_pinned S (Int32.toNatClampNeg x1) (Int32.toNatClampNeg x2)).2.2.2 4 p ≤ (x_pinned S (Int32.toNatClampNeg x1) (Int32.toNatClampNeg x2)).2.2.2 7 0 := hI.1.2.2.1
                    have h5 : (x_pinned S (Int32.toNatClampNeg x1) (Int32.toNatClampNeg x2)).1 5 0 = nI ((x_pinned S (Int32.toNatClampNeg x1) (Int32.toNatClampNeg x2)).2.2.2 7 0) := hI.2.1
                    have hm : (x_pinned S (Int32.toNatClampNeg x1) (Int32.toNatClampNeg x2)).2.2.2 7 0 < 16 := x_m16 (X := S) hI c3
                    have h10 : (x_pinned S (Int32.toNatClampNeg x1) (Int32.toNatClampNeg x2)).2.2.2 10 0 ≠ 0 := by unfold x_pinned; rw [xsp_9]; decide
                    refine lv_aload_n hx hb dX0_barrel_128 rfl (lv_at hl 3 rfl) ?_
                    refine x_new X hS hA (ci := 5) (CN := RX5) (T := TT5) (N := 14) rfl in_T5 ty_T5 q483 q484 q72 [.int 0, .int 0, .int 0, .int 0, .int 0, .int 0, .int 0, .int 0, .int 0, .int 0, .null, .int 0, .null, .int 0] (by decide +kernel) ⟨by show 2 + 1 ≤ 3; decide, by show 48 + k + 17 ≤ 114; omega⟩ dX0_barrel_129 fun q H1 hqz hAq hk hqo hS => ?_
                    have hR1 := hR.beside hk
                    refine lv_dup hx hb dX0_barrel_132 rfl ?_
                    refine lv_aload_n hx hb dX0_barrel_133 rfl (lv_at hl 3 rfl) ?_
                    refine lv_aload_n hx hb dX0_barrel_134 rfl (lv_at hl 3 rfl) ?_
                    refine xg_i X.1 hR1 5 (by decide) rfl q101 rfl dX0_barrel_135 ?_
                    refine lv_aload_n hx hb dX0_barrel_138 rfl (lv_at hl 2 rfl) ?_
                    refine lv_aload hx hb dX0_barrel_139 (lv_at hl 1 rfl) ?_
                    refine x_ctor X hR h8 (ho) (kd := 3) (n := S.1 5 0) hqz hAq hk hqo hS (As := [.ref (ad2 (0, 0)), .int (S.1 5 0), .ref (ad2 (41, S.2.2.2 7 0)), .ref (ad2 (42, S.2.2.2 7 0))]) (o_barrel5 l D d q (ad2 (0, 0)) (S.1 5 0) (ad2 (41, S.2.2.2 7 0)) (ad2 (42, S.2.2.2 7 0)) [.int 0, .int 0, .int 0, .int 0, .int 0, .int 0, .int 0, .int 0, .int 0, .int 0, .null, .int 0, .null, .int 0] (by decide)) rfl (by rw [xtr_tf, x_te3, adU_s _ _ (by decide), adU_s _ _ (by decide)]; rfl) 4 q485 q486 q72 q487 ⟨rfl, rfl⟩ rfl ⟨by decide, by decide, rfl⟩ ⟨by decide, by decide⟩ ⟨by show 3 + 0 ≤ 3; decide, by show 48 + k + 17 + 0 ≤ 114; omega⟩ rfl hl.1 rfl (Nat.le_of_ble_eq_true rfl) dX0_barrel_141 fun H locs hR hS => ?_
                    exact x_tail X hR hS (e3.symm.trans e2.symm) h5 hm (by decide) (fun _ => xstr_9 S (Int32.toNatClampNeg x1)) (fun _ => h10) hrt hlk hQ ((if_neg c1).trans ((if_neg c2).trans ((if_neg c3).trans ((if_neg c4).trans ((if_neg c5).trans ((if_neg c6).trans (if_neg c7))))))) ⟨by show 3 ≤ 3; decide, by show 48 + k + 17 ≤ 114; omega⟩ ⟨by show 3 ≤ 3; decide, by show 48 + k + 17 ≤ 114; omega⟩ ⟨by decide, by decide⟩ hl.1 dX0_barrel_144 dX0_barrel_147
                  | succ m2 ih =>
                    intro k ls H locs hk hR hS hl
                    have hkL : k < L := by omega
                    refine lv_iload hx hb dX0_barrel_96 (lv_at hl 0 rfl) ?_
                    refine lv_aload hx hb dX0_barrel_98 (lv_at hl 1 rfl) ?_
                    refine x_lnp X hR (hlp _) (v := nI L) (congrArg nI (xsp_1 _ _ _)) dX0_barrel_100 ?_
                    refine lv_icmp_ge (tgt := 128) hx hb dX0_barrel_101 (by decide) (fun c8 => absurd c8 (Int32.not_le.mpr (nI_lt hkL (by omega)))) (fun c8 => ?_)
                    refine lv_aload hx hb dX0_barrel_104 (lv_at hl 1 rfl) ?_
                    refine lv_iload hx hb dX0_barrel_106 (lv_at hl 0 rfl) ?_
                    refine lv_aload_n hx hb dX0_barrel_108 rfl (lv_at hl 3 rfl) ?_
                    refine xg_a X.1 hR 3 (by decide) (by decide) q99 dX0_barrel_109 ?_
                    refine lv_iload_n hx hb dX0_barrel_112 rfl (lv_at hl 5 rfl) ?_
                    refine x_ldR X hR (ixl 8 8 (by decide) rfl (x_row8 c2)) (hn3 _) dX0_barrel_113 ?_
                    refine lv_iload hx hb dX0_barrel_114 (lv_at hl 0 rfl) ?_
                    refine x_ldr X hR (x_lvr (tn8 (x_row8 c2)) (hn3 _)) (by rw [n3, ← hL]; exact hix k hkL) (v := S.2.2.1 3 (Int32.toNatClampNeg x2) k) (by rw [nI_clamp (by omega)]; rfl) dX0_barrel_116 ?_
                    refine lv_sipush (v := 255) hx hb dX0_barrel_117 (by decide) ?_
                    refine lv_iand hx hb dX0_barrel_120 ?_
                    refine x_stp X hR hS (hlp _) (by show vp_in _ ((xsp _ _ _).2.2.2 2 ((x_strokes S (Int32.toNatClampNeg x1)).2.2.2 7 0)); rw [xsp_1]; exact hix k hkL) dX0_barrel_121 (fun H locs hR hS => ?_)
                    have hR : XR D d A ad2 (xsp (x_strokes S (Int32.toNatClampNeg x1)) L (pfl S (Int32.toNatClampNeg x2) (k + 1))) H := by
                      have h := hR
                      rw [nI_clamp (by omega)] at h
                      rw [← pfl_s, ← xb_xsp]
                      exact h
                    refine lv_iinc (v := nI k + 1) (lv' := [(5, .int (nI k + 1)), (4, .ref (ad2 (42, S.2.2.2 7 0))), (3, .ref (ad2 (41, S.2.2.2 7 0))), (0, .ref (ad2 (0, 0))), (1, .int x1), (2, .int x2)]) hx hb dX0_barrel_122 hl (k := 0) rfl rfl (by decide) rfl (fun ls hl => ?_)
                    refine lv_goto (tgt := 96) hx hb dX0_barrel_125 (by decide) ?_
                    rw [nI_s] at hl
                    exact ih (k + 1) ls H locs (by omega) hR hS hl
                exact lp2 L 0 ls H _ (by omega) hR hS hl
              · have hR : XR D d A ad S H1 := XR_drop hq.1 hq.2.1 (by rw [had] at hR; exact hR)
                rw [← e2] at hl
                refine lv_aload_n hx hb dX0_barrel_76 rfl (lv_at hl 1 rfl) ?_
                refine lv_iconst (v := 5) hx hb dX0_barrel_77 (by decide) ?_
                refine x_bi hS (xr_V X hR x_lv0 (ci := 0) (fs := x_fs ad S) rfl rfl (xt_found l D d A ad S 5 (by decide)) 1 (lw_V q283 q285 qs2 q58 q286) ⟨rfl, rfl⟩ (by decide +kernel) ⟨by decide, by decide⟩ ⟨by decide, by decide⟩ rfl hl.1 rfl (Nat.le_of_ble_eq_true rfl) dX0_barrel_78) (fun H locs hR hS => ?_)
                exact x_riA hx hb hrt rfl hlk hR rfl hS hQ ((if_neg c1).trans ((if_neg c2).trans ((if_neg c3).trans ((if_neg c4).trans ((if_neg c5).trans ((if_neg c6).trans (if_pos c7))))))) ⟨by decide, by decide⟩ dX0_barrel_81
      · refine lv_bipush (v := (-2)) hx hb dX0_barrel_25 (by decide) ?_
        exact x_riA hx hb hrt rfl hlk hR rfl hS hQ ((if_neg c1).trans ((if_neg c2).trans (if_pos c3))) ⟨by decide, by decide⟩ dX0_barrel_27
    · refine lv_iconst (v := (-1)) hx hb dX0_barrel_14 (by decide) ?_
      exact x_riA hx hb hrt rfl hlk hR rfl hS hQ ((if_neg c1).trans (if_pos c2)) ⟨by decide, by decide⟩ dX0_barrel_15
