/-! PRINTED by gen/run_x5.py -/
set_option maxRecDepth 100000
def x_isP (X : XS) (j : Nat) : Int32 := if X.2.2.2 0 j = 1 ∨ X.2.2.2 0 j = 3 then 1 else 0
def x_isB (X : XS) (j : Nat) : Int32 := if X.2.2.2 0 j = 3 then 1 else 0
theorem x_isP_k {X : XS} {j : Nat} (h : ¬ x_isP X j = 0) : X.2.2.2 0 j = 1 ∨ X.2.2.2 0 j = 3 := by
  unfold x_isP at h
  split at h
  · assumption
  · exact absurd rfl h
theorem x_isB_k {X : XS} {j : Nat} (h : ¬ x_isB X j = 0) : X.2.2.2 0 j = 3 := by
  unfold x_isB at h
  split at h
  · assumption
  · exact absurd rfl h
section XCAST
variable {p : Program} {l : Launch} {e : Env} {R : Room} {s : State} {m : MethodId} {args : Array Value} {below : List Frame} {meth : Method} {c : Code} {H : Heap} {locs : List Loc} {cells slots : Nat} {Q : State → Prop}
variable {cc : ByteArray} {pc nL : Nat} {ls : Array Slot} {rest st0 : List Value} {D : va_G} {A : Nat → Prop} {d : Nat → ClassId} {own : String} {ad : XK → Nat} {X : XS}
theorem x_rcv (X0 : xX p m c cc nL s args own D d) (hR : XR D d A ad X H) {j : Nat} (hlv : x_live X (40, j)) {n : Nat} (h : X.2.2.2 0 j = n) {q : vw_C} (hc : vwCl[2 + n]? = some q) : ∃ cell : Cell, H[ad (40, j)]? = some cell ∧ cell.vm.isStatics = false ∧ s.vm.findClass q.1 = some cell.cls := by
  have hP := hR.one hlv
  rw [x_C40, h] at hP
  exact va_recv X0.1.2 hP hc (q0 := 0) rfl
theorem x_instP (X0 : xX p m c cc nL s args own D d) (hR : XR D d A ad X H) {j : Nat} (hlv : x_live X (40, j)) (hkd : X.2.2.2 0 j ≤ 3) {idx : Nat} (hq : Cond.classLink own idx "HammerTowers$Plate" ∈ lw_all) (hdg : decode cc pc = .ok (.instanceof idx, 3))
    (kk : W p l e R s m args below meth c H locs cells slots Q (F0 m (pc + 3) ls (.int (x_isP X j) :: rest))) : W p l e R s m args below meth c H locs cells slots Q (F0 m pc ls (.ref (ad (40, j)) :: rest)) := by
  obtain ⟨⟨⟨hx, hb, hml, hown, hts⟩, hK⟩, hE⟩ := id X0
  rcases x_kinds hkd with h | h | h | h
  · have e : x_isP X j = 0 := by simp [x_isP, h]
    rw [e] at kk
    exact va_instNo hx hb hown (hts _ hq) (hE.2.1 (RX2, "HammerTowers$Plate") (by simp [nc_list, RX2])) (x_rcv X0 hR hlv h rfl) hdg kk
  · have e : x_isP X j = 1 := by simp [x_isP, h]
    rw [e] at kk
    exact va_instS hx hb hown (hts _ hq) (hK.1 3 _ rfl).2 (x_rcv X0 hR hlv h rfl) hdg kk
  · have e : x_isP X j = 0 := by simp [x_isP, h]
    rw [e] at kk
    exact va_instNo hx hb hown (hts _ hq) (hE.2.1 (RX4, "HammerTowers$Plate") (by simp [nc_list, RX4])) (x_rcv X0 hR hlv h rfl) hdg kk
  · have e : x_isP X j = 1 := by simp [x_isP, h]
    rw [e] at kk
    exact va_instY hx hb hown (hts _ hq) (hE.nw q1730 rfl) (x_rcv X0 hR hlv h rfl) hdg kk
theorem x_instB (X0 : xX p m c cc nL s args own D d) (hR : XR D d A ad X H) {j : Nat} (hlv : x_live X (40, j)) (hkd : X.2.2.2 0 j ≤ 3) {idx : Nat} (hq : Cond.classLink own idx "HammerTowers$Barrel" ∈ lw_all) (hdg : decode cc pc = .ok (.instanceof idx, 3))
    (kk : W p l e R s m args below meth c H locs cells slots Q (F0 m (pc + 3) ls (.int (x_isB X j) :: rest))) : W p l e R s m args below meth c H locs cells slots Q (F0 m pc ls (.ref (ad (40, j)) :: rest)) := by
  obtain ⟨⟨⟨hx, hb, hml, hown, hts⟩, hK⟩, hE⟩ := id X0
  rcases x_kinds hkd with h | h | h | h
  · have e : x_isB X j = 0 := by simp [x_isB, h]
    rw [e] at kk
    exact va_instNo hx hb hown (hts _ hq) (hE.2.1 (RX2, "HammerTowers$Barrel") (by simp [nc_list, RX2])) (x_rcv X0 hR hlv h rfl) hdg kk
  · have e : x_isB X j = 0 := by simp [x_isB, h]
    rw [e] at kk
    exact va_instNo hx hb hown (hts _ hq) (hE.2.1 (RX3, "HammerTowers$Barrel") (by simp [nc_list, RX3])) (x_rcv X0 hR hlv h rfl) hdg kk
  · have e : x_isB X j = 0 := by simp [x_isB, h]
    rw [e] at kk
    exact va_instNo hx hb hown (hts _ hq) (hE.2.1 (RX4, "HammerTowers$Barrel") (by simp [nc_list, RX4])) (x_rcv X0 hR hlv h rfl) hdg kk
  · have e : x_isB X j = 1 := by simp [x_isB, h]
    rw [e] at kk
    exact va_instS hx hb hown (hts _ hq) (hK.1 5 _ rfl).2 (x_rcv X0 hR hlv h rfl) hdg kk
theorem x_castP (X0 : xX p m c cc nL s args own D d) (hR : XR D d A ad X H) {j : Nat} (hlv : x_live X (40, j)) (hk : X.2.2.2 0 j = 1 ∨ X.2.2.2 0 j = 3) {idx : Nat} (hq : Cond.classLink own idx "HammerTowers$Plate" ∈ lw_all) (hdg : decode cc pc = .ok (.checkcast idx, 3))
    (kk : W p l e R s m args below meth c H locs cells slots Q (F0 m (pc + 3) ls (.ref (ad (40, j)) :: rest))) : W p l e R s m args below meth c H locs cells slots Q (F0 m pc ls (.ref (ad (40, j)) :: rest)) := by
  obtain ⟨⟨⟨hx, hb, hml, hown, hts⟩, hK⟩, hE⟩ := id X0
  rcases hk with h | h
  · exact va_castS hx hb hown (hts _ hq) (hK.1 3 _ rfl).2 (x_rcv X0 hR hlv h rfl) hdg kk
  · exact va_castY hx hb hown (hts _ hq) (hE.nw q1730 rfl) (x_rcv X0 hR hlv h rfl) hdg kk
theorem x_castS (X0 : xX p m c cc nL s args own D d) (hR : XR D d A ad X H) {j : Nat} (hlv : x_live X (40, j)) (h : X.2.2.2 0 j = 2) {idx : Nat} (hq : Cond.classLink own idx "HammerTowers$Snail" ∈ lw_all) (hdg : decode cc pc = .ok (.checkcast idx, 3))
    (kk : W p l e R s m args below meth c H locs cells slots Q (F0 m (pc + 3) ls (.ref (ad (40, j)) :: rest))) : W p l e R s m args below meth c H locs cells slots Q (F0 m pc ls (.ref (ad (40, j)) :: rest)) := by
  obtain ⟨⟨⟨hx, hb, hml, hown, hts⟩, hK⟩, hE⟩ := id X0
  exact va_castS hx hb hown (hts _ hq) (hK.1 4 _ rfl).2 (x_rcv X0 hR hlv h rfl) hdg kk
theorem x_castB (X0 : xX p m c cc nL s args own D d) (hR : XR D d A ad X H) {j : Nat} (hlv : x_live X (40, j)) (h : X.2.2.2 0 j = 3) {idx : Nat} (hq : Cond.classLink own idx "HammerTowers$Barrel" ∈ lw_all) (hdg : decode cc pc = .ok (.checkcast idx, 3))
    (kk : W p l e R s m args below meth c H locs cells slots Q (F0 m (pc + 3) ls (.ref (ad (40, j)) :: rest))) : W p l e R s m args below meth c H locs cells slots Q (F0 m pc ls (.ref (ad (40, j)) :: rest)) := by
  obtain ⟨⟨⟨hx, hb, hml, hown, hts⟩, hK⟩, hE⟩ := id X0
  exact va_castS hx hb hown (hts _ hq) (hK.1 5 _ rfl).2 (x_rcv X0 hR hlv h rfl) hdg kk
/-- null into a row of arrays -/
theorem x_WaN (hexec : p.tables.exec = Jvm.exec) (hb : c.code = cc) {a : Addr} {cell : Cell} {j : Int32} (hcell : H[a]? = some cell) (harr : s.isArrayOf cell (.array .byte)) (hknown : cell.vm ≠ .unknown) (hin : ¬ (j < 0 ∨ cell.slots.size ≤ j.toNatClampNeg)) (hdg : decode cc pc = .ok (.aastore, 1))
    (kk : ∀ H' : Heap, H'[a]? = some (cell.setSlot j.toNatClampNeg .null) → H'.size = H.size → (∀ q, q ≠ a → H'[q]? = H[q]?) → W p l e R s m args below meth c H' (locs ++ [⟨a, j.toNatClampNeg⟩]) cells slots Q (F0 m (pc + 1) ls rest)) :
    W p l e R s m args below meth c H locs cells slots Q (F0 m pc ls (.null :: .int j :: .ref a :: rest)) := by
  intro T hT Xs
  have hT' : T.heap[a]? = some cell := by rw [hT]; exact hcell
  have hTa := State.isArrayOf_alike Xs.warmed.alike harr
  have hfit : T.fitsSlot cell.cls cell.vm j.toNatClampNeg .null = true := by
    obtain ⟨hobj, k, hk, comp, hkind⟩ := hTa
    cases hvm : cell.vm <;> first | exact absurd hvm (hobj _) | simp [State.fitsSlot, State.slotType?, hk, hkind, fits]
  have hlt : a < T.heap.size := (Array.getElem?_eq_some_iff.mp hT').1
  obtain ⟨t', a1, b1⟩ := kk _ (heapAt_setCell_self _ hlt) (by rw [size_setCell, hT]) (fun q hq => by rw [heapAt_setCell_ne _ (Ne.symm hq), hT]) (T.setCell a (cell.setSlot j.toNatClampNeg .null)) rfl (Xs.stored hT' _ _)
  refine ⟨t', ?_, b1⟩
  jvm_step Xs.here [hexec, hb, hdg]
  refine aastore.wp_of_null (c := cell) (t := .array .byte) Xs.here.top rfl hT' hTa hin hknown (Nat.not_le.mp fun q => hin (Or.inr q)) hfit ?_
  intro acts
  rw [afterInstr_ok]
  exact a1
theorem x_stR0 (X0 : xX p m c cc nL s args own D d) (hR : XR D d A ad X H) (hS : va_S A s.heap H locs) {i : Int32} (hi : vp_in i 8) (hdg : decode cc pc = .ok (.aastore, 1))
    (kk : ∀ (H : Heap) (locs : List Loc), XR D d A ad (xn X 3 i.toNatClampNeg 0) H → va_S A s.heap H locs → W p l e R s m args below meth c H locs cells slots Q (F0 m (pc + 1) ls rest)) : W p l e R s m args below meth c H locs cells slots Q (F0 m pc ls (.null :: .int i :: .ref (ad (3, 0)) :: rest)) := by
  obtain ⟨⟨⟨hx, hb, hml, hown, hts⟩, hK⟩, hE⟩ := X0
  obtain ⟨L, f, ⟨hP, hD⟩, hf, hij⟩ := hR
  have hlv : x_live X (3, 0) := x_lva ⟨by decide, by decide⟩
  obtain ⟨k0, e0⟩ := va_pl_get (X := []) (f := f) (hf _ hlv).1
  have e1 : ([] ++ va_pl L f)[k0]? = some (ad (3, 0), .inl (d 3, 8, .inr (.inr (.inr (.inr (fun r => if X.2.2.2 3 r = 0 then none else some (ad (30, r)))))))) := by rw [e0, (hf _ hlv).2, x_C3]
  refine x_WaN hx hb (hP k0 _ e1) ((hK.2 3 _ rfl).1 8 (fun j => va_rf (if X.2.2.2 3 j = 0 then none else some (ad (30, j))))) (fun h => by cases h) (by show ¬ (i < 0 ∨ (arrV _ _ _).slots.size ≤ _); rw [arrV_size]; exact hi) hdg fun H1 e z oq => ?_
  have hs : hs_P D A L (va_up f (ad (3, 0)) (.inl (d 3, 8, .inr (.inr (.inr (.inr (va_up (fun r => if X.2.2.2 3 r = 0 then none else some (ad (30, r))) i.toNatClampNeg none))))))) H1 := by
    have h1 := hP.set hD e1 (e := .inl (d 3, 8, .inr (.inr (.inr (.inr (va_up (fun r => if X.2.2.2 3 r = 0 then none else some (ad (30, r))) i.toNatClampNeg none)))))) ?_ oq
    · have h2 := hD.set e1 (e := .inl (d 3, 8, .inr (.inr (.inr (.inr (va_up (fun r => if X.2.2.2 3 r = 0 then none else some (ad (30, r))) i.toNatClampNeg none))))))
      rw [va_pl_set hD (hf _ hlv).1 e0] at h1 h2
      exact ⟨h1, h2⟩
    · show H1[ad (3, 0)]? = some (vp_cell _ _)
      rw [e, vp_cell_q, vp_cell_q, arrV_store]
      congr 2
      funext q
      by_cases hq : q = i.toNatClampNeg
      · subst hq
        simp [updV, va_up, va_rf]
      · simp [updV, va_up, hq]
  have hA : A (ad (3, 0)) := hD.2 k0 _ e1
  refine kk H1 _ ?_ (hS.put z oq hA)
  have hu := hp_R.upd (C := x_C d ad X) (C' := fun k => if k = (3, 0) then .inl (d 3, 8, .inr (.inr (.inr (.inr (va_up (fun r => if X.2.2.2 3 r = 0 then none else some (ad (30, r))) i.toNatClampNeg none))))) else x_C d ad X k) hs hf hij hlv (if_pos rfl) (fun k' _ hne => if_neg hne)
  refine hp_R.conv hu fun k hk => ?_
  have hl : x_live X k := by
    rcases hk with h | h | h | h | h | h
    · exact Or.inl h
    · refine Or.inr (Or.inl ⟨h.1, h.2.1, ?_⟩)
      have h3 := h.2.2
      intro q
      apply h3
      show (if 3 = 3 ∧ k.2 = i.toNatClampNeg then 0 else X.2.2.2 3 k.2) = 0
      split
      · rfl
      · exact q
    · exact Or.inr (Or.inr (Or.inl h))
    · exact Or.inr (Or.inr (Or.inr (Or.inl h)))
    · exact Or.inr (Or.inr (Or.inr (Or.inr (Or.inl h))))
    · exact Or.inr (Or.inr (Or.inr (Or.inr (Or.inr h))))
  refine ⟨hl, ?_⟩
  by_cases h3 : k = (3, 0)
  · subst h3
    rw [if_pos rfl, x_C3]
    congr 7
    funext r
    show (if (if 3 = 3 ∧ r = i.toNatClampNeg then 0 else X.2.2.2 3 r) = 0 then none else some (ad (30, r))) = va_up _ _ _ r
    by_cases hr : r = i.toNatClampNeg
    · subst hr
      simp [va_up]
    · simp [va_up, hr]
  · rw [if_neg h3]
    obtain ⟨a, b⟩ := k
    by_cases h30 : a = 30
    · subst h30
      rw [x_C30, x_C30]
      have hb : ¬ (b = i.toNatClampNeg) := by
        rcases hk with h | h | h | h | h | h
        · exact absurd h.1 (by simp)
        · intro q
          apply h.2.2
          show (if 3 = 3 ∧ b = i.toNatClampNeg then 0 else X.2.2.2 3 b) = 0
          rw [if_pos ⟨rfl, q⟩]
        · exact absurd h.1 (by simp)
        · exact absurd h.1 (by simp)
        · exact absurd h.1 (by simp)
        · exact absurd h.1 (by simp)
      have : (xn X 3 i.toNatClampNeg 0).2.2.2 3 b = X.2.2.2 3 b := by
        show (if 3 = 3 ∧ b = i.toNatClampNeg then 0 else X.2.2.2 3 b) = _
        rw [if_neg (fun q => hb q.2)]
      rw [this]
      rfl
    · have hne3 : ¬ a = 3 := fun q => h3 (by
        rcases x_sorts hl with w | w | w | w | w | w | w | w
        · exact Prod.ext q w.2
        all_goals (dsimp only at w; omega))
      unfold x_C
      dsimp only
      rw [if_neg hne3, if_neg hne3, if_neg h30, if_neg h30]
      rfl
end XCAST
theorem xi_tr {X : XS} (hI : XInv X) {i : Int32} (h : ¬ x_isTrain X i = 0) : i.toNatClampNeg < X.2.2.2 7 0 := by
  unfold x_isTrain at h
  rw [x_in_eq, Classical.not_not] at h
  exact xi_trn hI h
theorem xi_t16 {X : XS} (hI : XInv X) {i : Int32} (h : ¬ x_isTrain X i = 0) : 0 ≤ i ∧ i < 16 := by
  have h1 := xi_tm hI
  unfold x_isTrain at h
  rw [x_in_eq, Classical.not_not] at h
  clear hI
  have e := s32 (x := X.1 5 0) (y := 1) (by simp only [i_le, Int32.reduceToInt] at *; omega)
  simp only [i_le, i_lt, Int32.reduceToInt] at *
  omega
theorem x_kOf_b (x : Int32) : 0 ≤ x_kOf x ∧ x_kOf x < 2 := by
  unfold x_kOf
  split <;> decide
theorem x_found_invx (S : XS) (x1 : Int32) (hI : XInv S) : XInv (x_found S x1).2 := XInv_xu (XInv_xu hI _ _ _ (by decide)) _ _ _ (by decide)
theorem x_say_invx (S : XS) (x1 x2 : Int32) (hI : XInv S) : XInv (x_say S x1 x2).2 := XInv_xu hI _ _ _ (by decide)
theorem x_gear_o4 (S : XS) (x1 : Int32) (x2 : Int32) (x3 : Int32) (hI : XInv S) (ht1 : ¬ (x_isTrain S x1) = 0 → 0 ≤ x1 ∧ x1 < 16) (c1 : ¬ (x_isTrain S x1) = 0) (c2 : ¬ (x_in x2 1 60) = 0) (c3 : ¬ (x_in x3 0 100000) = 0) : 0 ≤ x1 ∧ x1 < 16 := by 
  have bl_x1 := Int32.toInt_lt x1
  have bl_x2 := Int32.toInt_lt x2
  have bl_x3 := Int32.toInt_lt x3
  try simp only [x_in_eq] at *
  try simp only [i_le, i_lt, i_eq, Int32.reduceToInt] at *
  try simp only [Int32.reduceToInt] at *
  omega
def x_gear_v43 (S : XS) (x1 : Int32) : Int32 := (S.1 43 (Int32.toNatClampNeg x1))
def x_gear (S : XS) (x1 : Int32) (x2 : Int32) (x3 : Int32) : Int32 × XS := (if (x_isTrain S x1) = 0 then ((-1), S) else (if (x_in x2 1 60) = 0 then ((-1), S) else (if (x_in x3 0 100000) = 0 then ((-1), S) else ((x_gear_v43 S x1), (xu (xu (xu S 41 (Int32.toNatClampNeg x1) x2) 42 (Int32.toNatClampNeg x1) x3) 43 (Int32.toNatClampNeg x1) x3)))))
theorem x_gear_N (S : XS) (x1 : Int32) (x2 : Int32) (x3 : Int32) : (x_gear S x1 x2 x3).2.2.2.2 = S.2.2.2 := by
  unfold x_gear
  refine ifI (P := fun (z : Int32 × XS) => z.2.2.2.2 = S.2.2.2) (fun c1 => ?_) (fun c1 => ?_)
  · exact rfl
  · refine ifI (P := fun (z : Int32 × XS) => z.2.2.2.2 = S.2.2.2) (fun c2 => ?_) (fun c2 => ?_)
    · exact rfl
    · refine ifI (P := fun (z : Int32 × XS) => z.2.2.2.2 = S.2.2.2) (fun c3 => ?_) (fun c3 => ?_)
      · exact rfl
      · exact rfl
theorem x_gear_o5 (S : XS) (x1 : Int32) (x2 : Int32) (x3 : Int32) (hI : XInv S) (ht1 : ¬ (x_isTrain S x1) = 0 → 0 ≤ x1 ∧ x1 < 16) (c1 : ¬ (x_isTrain S x1) = 0) (c2 : ¬ (x_in x2 1 60) = 0) (c3 : ¬ (x_in x3 0 100000) = 0) : 0 ≤ x3 ∧ x3 ≤ 100000 := by 
  have bl_x1 := Int32.toInt_lt x1
  have bl_x2 := Int32.toInt_lt x2
  have bl_x3 := Int32.toInt_lt x3
  try simp only [x_in_eq] at *
  try simp only [i_le, i_lt, i_eq, Int32.reduceToInt] at *
  try simp only [Int32.reduceToInt] at *
  omega
theorem x_gear_inv (S : XS) (x1 : Int32) (x2 : Int32) (x3 : Int32) (hI : XInv S) : XInv (x_gear S x1 x2 x3).2 := by
  have ht1 : ¬ (x_isTrain S x1) = 0 → 0 ≤ x1 ∧ x1 < 16 := fun h => xi_t16 hI h
  unfold x_gear
  refine ifI (P := fun (z : Int32 × XS) => XInv z.2) (fun c1 => ?_) (fun c1 => ?_)
  · exact hI
  · refine ifI (P := fun (z : Int32 × XS) => XInv z.2) (fun c2 => ?_) (fun c2 => ?_)
    · exact hI
    · refine ifI (P := fun (z : Int32 × XS) => XInv z.2) (fun c3 => ?_) (fun c3 => ?_)
      · exact hI
      · exact (XInv_43 (XInv_42 (XInv_xu hI _ _ _ (by decide)) _ _ (x_gear_o5 S x1 x2 x3 hI ht1 c1 c2 c3)) _ _ (x_gear_o5 S x1 x2 x3 hI ht1 c1 c2 c3))
set_option maxHeartbeats 4000000 in
theorem xt_gear (l : Launch) (D : va_G) (d : Nat → ClassId) (A : Nat → Prop) (ad : XK → Nat) (S : XS) (x1 : Int32) (x2 : Int32) (x3 : Int32) (hI : XInv S) : XI l yX0_gear cX0_gear 6 .int (rm_ 2) D d A ad S [.ref (ad (0, 0)), .int x1, .int x2, .int x3] (x_gear S x1 x2 x3) := by
  refine x_startI RX0 rfl (by decide) (Nat.le_of_ble_eq_true rfl) ?_
  intro p e s m av below meth c ls Q X hrt hlk hl hR hQ
  have hx := X.1.1.1
  have hb := X.1.1.2.1
  have hown := X.1.1.2.2.2.1
  have hts := X.1.1.2.2.2.2
  have hS : va_S A s.heap s.heap [] := va_S.rf
  have hl : lv_has ls 6 [(0, .ref (ad (0, 0))), (1, .int x1), (2, .int x2), (3, .int x3)] := hl
  have ht1 : ¬ (x_isTrain S x1) = 0 → 0 ≤ x1 ∧ x1 < 16 := fun h => xi_t16 hI h
  refine lv_aload_n hx hb dX0_gear_0 rfl (lv_at hl 0 rfl) ?_
  refine lv_iload_n hx hb dX0_gear_1 rfl (lv_at hl 1 rfl) ?_
  refine x_bi hS (xr_V X hR x_lv0 (ci := 0) (fs := x_fs ad S) rfl rfl (xt_isTrain l D d A ad S x1) 1 (lw_V q518 q520 qs4 q58 q521) ⟨rfl, rfl⟩ (by decide +kernel) ⟨by decide, by decide⟩ ⟨by decide, by decide⟩ rfl hl.1 rfl (Nat.le_of_ble_eq_true rfl) dX0_gear_2) (fun H locs hR hS => ?_)
  refine lv_if_eq (tgt := 28) hx hb dX0_gear_5 (by decide) (fun c1 => ?_) (fun c1 => ?_)
  · refine lv_iconst (v := (-1)) hx hb dX0_gear_28 (by decide) ?_
    exact x_ri hx hb hrt (rfl) hlk hR hS hQ (if_pos c1) dX0_gear_29
  · refine lv_iload_n hx hb dX0_gear_8 rfl (lv_at hl 2 rfl) ?_
    refine lv_iconst (v := 1) hx hb dX0_gear_9 (by decide) ?_
    refine lv_bipush (v := 60) hx hb dX0_gear_10 (by decide) ?_
    refine s_ci X.1.1 (st_x_in l x2 1 60) 3 (lw_S q280 q281 q58 q282) ⟨rfl, rfl⟩ (by decide +kernel) ⟨by decide, by decide⟩ ⟨by decide, by decide⟩ rfl hl.1 rfl (Nat.le_of_ble_eq_true rfl) dX0_gear_12 ?_
    refine lv_if_eq (tgt := 28) hx hb dX0_gear_15 (by decide) (fun c2 => ?_) (fun c2 => ?_)
    · refine lv_iconst (v := (-1)) hx hb dX0_gear_28 (by decide) ?_
      exact x_ri hx hb hrt (rfl) hlk hR hS hQ (Eq.trans (if_neg c1) (if_pos c2)) dX0_gear_29
    · refine lv_iload_n hx hb dX0_gear_18 rfl (lv_at hl 3 rfl) ?_
      refine lv_iconst (v := 0) hx hb dX0_gear_19 (by decide) ?_
      refine lv_ldc hx hb hown (hts _ q522) dX0_gear_20 ?_
      refine s_ci X.1.1 (st_x_in l x3 0 100000) 3 (lw_S q280 q281 q58 q282) ⟨rfl, rfl⟩ (by decide +kernel) ⟨by decide, by decide⟩ ⟨by decide, by decide⟩ rfl hl.1 rfl (Nat.le_of_ble_eq_true rfl) dX0_gear_22 ?_
      refine lv_if_ne (tgt := 30) hx hb dX0_gear_25 (by decide) (fun c3 => ?_) (fun c3 => ?_)
      · refine lv_aload_n hx hb dX0_gear_30 rfl (lv_at hl 0 rfl) ?_
        refine xg_a X.1 hR 4 (by decide) (by decide) q100 dX0_gear_31 ?_
        refine lv_iload_n hx hb dX0_gear_34 rfl (lv_at hl 1 rfl) ?_
        refine x_ldt X hR (ixl 16 16 (by decide) rfl (x_gear_o4 S x1 x2 x3 hI ht1 c1 c2 c3)) ((xi_tr (X := S) hI c1)) dX0_gear_35 ?_
        refine lv_astore (lv' := [(4, .ref (ad (40, (Int32.toNatClampNeg x1)))), (0, .ref (ad (0, 0))), (1, .int x1), (2, .int x2), (3, .int x3)]) hx hb dX0_gear_36 hl (by decide) rfl (fun ls hl => ?_)
        refine lv_aload hx hb dX0_gear_38 (lv_at hl 0 rfl) ?_
        refine xgt X hR (x_lvt ((xi_tr (X := S) hI c1))) (xi_kd (X := S) hI ((xi_tr (X := S) hI c1))) 3 (by decide) q365 (Or.inl rfl) rfl dX0_gear_40 ?_
        refine lv_istore (lv' := [(5, .int (x_gear_v43 S x1)), (4, .ref (ad (40, (Int32.toNatClampNeg x1)))), (0, .ref (ad (0, 0))), (1, .int x1), (2, .int x2), (3, .int x3)]) hx hb dX0_gear_43 hl (by decide) rfl (fun ls hl => ?_)
        refine lv_aload hx hb dX0_gear_45 (lv_at hl 1 rfl) ?_
        refine lv_iload_n hx hb dX0_gear_47 rfl (lv_at hl 4 rfl) ?_
        refine xpt X hR hS (x_lvt ((xi_tr (X := S) hI c1))) (xi_kd (X := S) hI ((xi_tr (X := S) hI c1))) 1 (by decide) rfl q360 (Or.inl rfl) rfl dX0_gear_48 (fun H locs hR hS => ?_)
        refine lv_aload hx hb dX0_gear_51 (lv_at hl 1 rfl) ?_
        refine lv_iload_n hx hb dX0_gear_53 rfl (lv_at hl 5 rfl) ?_
        refine xpt X hR hS (x_lvt ((xi_tr (X := S) hI c1))) (xi_kd (X := S) hI ((xi_tr (X := S) hI c1))) 2 (by decide) rfl q362 (Or.inl rfl) rfl dX0_gear_54 (fun H locs hR hS => ?_)
        refine lv_aload hx hb dX0_gear_57 (lv_at hl 1 rfl) ?_
        refine lv_iload_n hx hb dX0_gear_59 rfl (lv_at hl 5 rfl) ?_
        refine xpt X hR hS (x_lvt ((xi_tr (X := S) hI c1))) (xi_kd (X := S) hI ((xi_tr (X := S) hI c1))) 3 (by decide) rfl q365 (Or.inl rfl) rfl dX0_gear_60 (fun H locs hR hS => ?_)
        refine lv_iload hx hb dX0_gear_63 (lv_at hl 0 rfl) ?_
        exact x_ri hx hb hrt (rfl) hlk hR hS hQ (Eq.trans (if_neg c1) (Eq.trans (if_neg c2) (if_neg c3))) dX0_gear_65
      · refine lv_iconst (v := (-1)) hx hb dX0_gear_28 (by decide) ?_
        exact x_ri hx hb hrt (rfl) hlk hR hS hQ (Eq.trans (if_neg c1) (Eq.trans (if_neg c2) (if_pos c3))) dX0_gear_29
theorem x_wind_o2 (S : XS) (x1 : Int32) (hI : XInv S) (ht1 : ¬ (x_isTrain S x1) = 0 → 0 ≤ x1 ∧ x1 < 16) (hw0 : ¬ (x_isTrain S x1) = 0 → 0 ≤ S.1 42 (Int32.toNatClampNeg x1) ∧ S.1 42 (Int32.toNatClampNeg x1) ≤ 100000) (c1 : ¬ (x_isTrain S x1) = 0) : 0 ≤ x1 ∧ x1 < 16 := by 
  have bl_x1 := Int32.toInt_lt x1
  try simp only [x_in_eq] at *
  try simp only [i_le, i_lt, i_eq, Int32.reduceToInt] at *
  try simp only [Int32.reduceToInt] at *
  omega
def x_wind_v29 (S : XS) (x1 : Int32) : Int32 := ((S.1 42 (Int32.toNatClampNeg x1)) - (S.1 43 (Int32.toNatClampNeg x1)))
def x_wind (S : XS) (x1 : Int32) : Int32 × XS := (if (x_isTrain S x1) = 0 then ((-1), S) else ((x_wind_v29 S x1), (xu S 43 (Int32.toNatClampNeg x1) (S.1 42 (Int32.toNatClampNeg x1)))))
theorem x_wind_N (S : XS) (x1 : Int32) : (x_wind S x1).2.2.2.2 = S.2.2.2 := by
  unfold x_wind
  refine ifI (P := fun (z : Int32 × XS) => z.2.2.2.2 = S.2.2.2) (fun c1 => ?_) (fun c1 => ?_)
  · exact rfl
  · exact rfl
theorem x_wind_o3 (S : XS) (x1 : Int32) (hI : XInv S) (ht1 : ¬ (x_isTrain S x1) = 0 → 0 ≤ x1 ∧ x1 < 16) (hw0 : ¬ (x_isTrain S x1) = 0 → 0 ≤ S.1 42 (Int32.toNatClampNeg x1) ∧ S.1 42 (Int32.toNatClampNeg x1) ≤ 100000) (c1 : ¬ (x_isTrain S x1) = 0) : 0 ≤ (S.1 42 (Int32.toNatClampNeg x1)) ∧ (S.1 42 (Int32.toNatClampNeg x1)) ≤ 100000 := by 
  have bl_x1 := Int32.toInt_lt x1
  try simp only [x_in_eq] at *
  try simp only [i_le, i_lt, i_eq, Int32.reduceToInt] at *
  try simp only [Int32.reduceToInt] at *
  omega
theorem x_wind_inv (S : XS) (x1 : Int32) (hI : XInv S) : XInv (x_wind S x1).2 := by
  have ht1 : ¬ (x_isTrain S x1) = 0 → 0 ≤ x1 ∧ x1 < 16 := fun h => xi_t16 hI h
  have hw0 : ¬ (x_isTrain S x1) = 0 → 0 ≤ S.1 42 (Int32.toNatClampNeg x1) ∧ S.1 42 (Int32.toNatClampNeg x1) ≤ 100000 := fun h => (xi_we hI (xi_tr hI h)).2
  unfold x_wind
  refine ifI (P := fun (z : Int32 × XS) => XInv z.2) (fun c1 => ?_) (fun c1 => ?_)
  · exact hI
  · exact (XInv_43 hI _ _ (x_wind_o3 S x1 hI ht1 hw0 c1))
set_option maxHeartbeats 4000000 in
theorem xt_wind (l : Launch) (D : va_G) (d : Nat → ClassId) (A : Nat → Prop) (ad : XK → Nat) (S : XS) (x1 : Int32) (hI : XInv S) : XI l yX0_wind cX0_wind 3 .int (rm_ 2) D d A ad S [.ref (ad (0, 0)), .int x1] (x_wind S x1) := by
  refine x_startI RX0 rfl (by decide) (Nat.le_of_ble_eq_true rfl) ?_
  intro p e s m av below meth c ls Q X hrt hlk hl hR hQ
  have hx := X.1.1.1
  have hb := X.1.1.2.1
  have hown := X.1.1.2.2.2.1
  have hts := X.1.1.2.2.2.2
  have hS : va_S A s.heap s.heap [] := va_S.rf
  have hl : lv_has ls 3 [(0, .ref (ad (0, 0))), (1, .int x1)] := hl
  have ht1 : ¬ (x_isTrain S x1) = 0 → 0 ≤ x1 ∧ x1 < 16 := fun h => xi_t16 hI h
  have hw0 : ¬ (x_isTrain S x1) = 0 → 0 ≤ S.1 42 (Int32.toNatClampNeg x1) ∧ S.1 42 (Int32.toNatClampNeg x1) ≤ 100000 := fun h => (xi_we hI (xi_tr hI h)).2
  refine lv_aload_n hx hb dX0_wind_0 rfl (lv_at hl 0 rfl) ?_
  refine lv_iload_n hx hb dX0_wind_1 rfl (lv_at hl 1 rfl) ?_
  refine x_bi hS (xr_V X hR x_lv0 (ci := 0) (fs := x_fs ad S) rfl rfl (xt_isTrain l D d A ad S x1) 1 (lw_V q518 q520 qs4 q58 q521) ⟨rfl, rfl⟩ (by decide +kernel) ⟨by decide, by decide⟩ ⟨by decide, by decide⟩ rfl hl.1 rfl (Nat.le_of_ble_eq_true rfl) dX0_wind_2) (fun H locs hR hS => ?_)
  refine lv_if_ne (tgt := 10) hx hb dX0_wind_5 (by decide) (fun c1 => ?_) (fun c1 => ?_)
  · refine lv_aload_n hx hb dX0_wind_10 rfl (lv_at hl 0 rfl) ?_
    refine xg_a X.1 hR 4 (by decide) (by decide) q100 dX0_wind_11 ?_
    refine lv_iload_n hx hb dX0_wind_14 rfl (lv_at hl 1 rfl) ?_
    refine x_ldt X hR (ixl 16 16 (by decide) rfl (x_wind_o2 S x1 hI ht1 hw0 c1)) ((xi_tr (X := S) hI c1)) dX0_wind_15 ?_
    refine xgt X hR (x_lvt ((xi_tr (X := S) hI c1))) (xi_kd (X := S) hI ((xi_tr (X := S) hI c1))) 2 (by decide) q362 (Or.inl rfl) rfl dX0_wind_16 ?_
    refine lv_aload_n hx hb dX0_wind_19 rfl (lv_at hl 0 rfl) ?_
    refine xg_a X.1 hR 4 (by decide) (by decide) q100 dX0_wind_20 ?_
    refine lv_iload_n hx hb dX0_wind_23 rfl (lv_at hl 1 rfl) ?_
    refine x_ldt X hR (ixl 16 16 (by decide) rfl (x_wind_o2 S x1 hI ht1 hw0 c1)) ((xi_tr (X := S) hI c1)) dX0_wind_24 ?_
    refine xgt X hR (x_lvt ((xi_tr (X := S) hI c1))) (xi_kd (X := S) hI ((xi_tr (X := S) hI c1))) 3 (by decide) q365 (Or.inl rfl) rfl dX0_wind_25 ?_
    refine lv_isub hx hb dX0_wind_28 ?_
    refine lv_istore_n (lv' := [(2, .int (x_wind_v29 S x1)), (0, .ref (ad (0, 0))), (1, .int x1)]) hx hb dX0_wind_29 rfl hl (by decide) rfl (fun ls hl => ?_)
    refine lv_aload_n hx hb dX0_wind_30 rfl (lv_at hl 1 rfl) ?_
    refine xg_a X.1 hR 4 (by decide) (by decide) q100 dX0_wind_31 ?_
    refine lv_iload_n hx hb dX0_wind_34 rfl (lv_at hl 2 rfl) ?_
    refine x_ldt X hR (ixl 16 16 (by decide) rfl (x_wind_o2 S x1 hI ht1 hw0 c1)) ((xi_tr (X := S) hI c1)) dX0_wind_35 ?_
    refine lv_aload_n hx hb dX0_wind_36 rfl (lv_at hl 1 rfl) ?_
    refine xg_a X.1 hR 4 (by decide) (by decide) q100 dX0_wind_37 ?_
    refine lv_iload_n hx hb dX0_wind_40 rfl (lv_at hl 2 rfl) ?_
    refine x_ldt X hR (ixl 16 16 (by decide) rfl (x_wind_o2 S x1 hI ht1 hw0 c1)) ((xi_tr (X := S) hI c1)) dX0_wind_41 ?_
    refine xgt X hR (x_lvt ((xi_tr (X := S) hI c1))) (xi_kd (X := S) hI ((xi_tr (X := S) hI c1))) 2 (by decide) q362 (Or.inl rfl) rfl dX0_wind_42 ?_
    refine xpt X hR hS (x_lvt ((xi_tr (X := S) hI c1))) (xi_kd (X := S) hI ((xi_tr (X := S) hI c1))) 3 (by decide) rfl q365 (Or.inl rfl) rfl dX0_wind_45 (fun H locs hR hS => ?_)
    refine lv_iload_n hx hb dX0_wind_48 rfl (lv_at hl 0 rfl) ?_
    exact x_ri hx hb hrt (rfl) hlk hR hS hQ (if_neg c1) dX0_wind_49
  · refine lv_iconst (v := (-1)) hx hb dX0_wind_8 (by decide) ?_
    exact x_ri hx hb hrt (rfl) hlk hR hS hQ (if_pos c1) dX0_wind_9
theorem x_broken_o3 (S : XS) (x1 : Int32) (x2 : Int32) (hI : XInv S) (ht1 : ¬ (x_isTrain S x1) = 0 → 0 ≤ x1 ∧ x1 < 16) (c1 : ¬ (x_isTrain S x1) = 0) (c2 : ¬ (x_in x2 0 255) = 0) : 0 ≤ x1 ∧ x1 < 16 := by 
  have bl_x1 := Int32.toInt_lt x1
  have bl_x2 := Int32.toInt_lt x2
  try simp only [x_in_eq] at *
  try simp only [i_le, i_lt, i_eq, Int32.reduceToInt] at *
  try simp only [Int32.reduceToInt] at *
  omega
def x_broken_v30 (S : XS) (x1 : Int32) : Int32 := (S.1 44 (Int32.toNatClampNeg x1))
def x_broken (S : XS) (x1 : Int32) (x2 : Int32) : Int32 × XS := (if (x_isTrain S x1) = 0 then ((-1), S) else (if (x_in x2 0 255) = 0 then ((-1), S) else ((x_broken_v30 S x1), (xu S 44 (Int32.toNatClampNeg x1) x2))))
theorem x_broken_N (S : XS) (x1 : Int32) (x2 : Int32) : (x_broken S x1 x2).2.2.2.2 = S.2.2.2 := by
  unfold x_broken
  refine ifI (P := fun (z : Int32 × XS) => z.2.2.2.2 = S.2.2.2) (fun c1 => ?_) (fun c1 => ?_)
  · exact rfl
  · refine ifI (P := fun (z : Int32 × XS) => z.2.2.2.2 = S.2.2.2) (fun c2 => ?_) (fun c2 => ?_)
    · exact rfl
    · exact rfl
theorem x_broken_inv (S : XS) (x1 : Int32) (x2 : Int32) (hI : XInv S) : XInv (x_broken S x1 x2).2 := by
  have ht1 : ¬ (x_isTrain S x1) = 0 → 0 ≤ x1 ∧ x1 < 16 := fun h => xi_t16 hI h
  unfold x_broken
  refine ifI (P := fun (z : Int32 × XS) => XInv z.2) (fun c1 => ?_) (fun c1 => ?_)
  · exact hI
  · refine ifI (P := fun (z : Int32 × XS) => XInv z.2) (fun c2 => ?_) (fun c2 => ?_)
    · exact hI
    · exact (XInv_xu hI _ _ _ (by decide))
set_option maxHeartbeats 4000000 in
theorem xt_broken (l : Launch) (D : va_G) (d : Nat → ClassId) (A : Nat → Prop) (ad : XK → Nat) (S : XS) (x1 : Int32) (x2 : Int32) (hI : XInv S) : XI l yX0_broken cX0_broken 4 .int (rm_ 2) D d A ad S [.ref (ad (0, 0)), .int x1, .int x2] (x_broken S x1 x2) := by
  refine x_startI RX0 rfl (by decide) (Nat.le_of_ble_eq_true rfl) ?_
  intro p e s m av below meth c ls Q X hrt hlk hl hR hQ
  have hx := X.1.1.1
  have hb := X.1.1.2.1
  have hown := X.1.1.2.2.2.1
  have hts := X.1.1.2.2.2.2
  have hS : va_S A s.heap s.heap [] := va_S.rf
  have hl : lv_has ls 4 [(0, .ref (ad (0, 0))), (1, .int x1), (2, .int x2)] := hl
  have ht1 : ¬ (x_isTrain S x1) = 0 → 0 ≤ x1 ∧ x1 < 16 := fun h => xi_t16 hI h
  refine lv_aload_n hx hb dX0_broken_0 rfl (lv_at hl 0 rfl) ?_
  refine lv_iload_n hx hb dX0_broken_1 rfl (lv_at hl 1 rfl) ?_
  refine x_bi hS (xr_V X hR x_lv0 (ci := 0) (fs := x_fs ad S) rfl rfl (xt_isTrain l D d A ad S x1) 1 (lw_V q518 q520 qs4 q58 q521) ⟨rfl, rfl⟩ (by decide +kernel) ⟨by decide, by decide⟩ ⟨by decide, by decide⟩ rfl hl.1 rfl (Nat.le_of_ble_eq_true rfl) dX0_broken_2) (fun H locs hR hS => ?_)
  refine lv_if_eq (tgt := 19) hx hb dX0_broken_5 (by decide) (fun c1 => ?_) (fun c1 => ?_)
  · refine lv_iconst (v := (-1)) hx hb dX0_broken_19 (by decide) ?_
    exact x_ri hx hb hrt (rfl) hlk hR hS hQ (if_pos c1) dX0_broken_20
  · refine lv_iload_n hx hb dX0_broken_8 rfl (lv_at hl 2 rfl) ?_
    refine lv_iconst (v := 0) hx hb dX0_broken_9 (by decide) ?_
    refine lv_sipush (v := 255) hx hb dX0_broken_10 (by decide) ?_
    refine s_ci X.1.1 (st_x_in l x2 0 255) 3 (lw_S q280 q281 q58 q282) ⟨rfl, rfl⟩ (by decide +kernel) ⟨by decide, by decide⟩ ⟨by decide, by decide⟩ rfl hl.1 rfl (Nat.le_of_ble_eq_true rfl) dX0_broken_13 ?_
    refine lv_if_ne (tgt := 21) hx hb dX0_broken_16 (by decide) (fun c2 => ?_) (fun c2 => ?_)
    · refine lv_aload_n hx hb dX0_broken_21 rfl (lv_at hl 0 rfl) ?_
      refine xg_a X.1 hR 4 (by decide) (by decide) q100 dX0_broken_22 ?_
      refine lv_iload_n hx hb dX0_broken_25 rfl (lv_at hl 1 rfl) ?_
      refine x_ldt X hR (ixl 16 16 (by decide) rfl (x_broken_o3 S x1 x2 hI ht1 c1 c2)) ((xi_tr (X := S) hI c1)) dX0_broken_26 ?_
      refine xgt X hR (x_lvt ((xi_tr (X := S) hI c1))) (xi_kd (X := S) hI ((xi_tr (X := S) hI c1))) 4 (by decide) q367 (Or.inl rfl) rfl dX0_broken_27 ?_
      refine lv_istore_n (lv' := [(3, .int (x_broken_v30 S x1)), (0, .ref (ad (0, 0))), (1, .int x1), (2, .int x2)]) hx hb dX0_broken_30 rfl hl (by decide) rfl (fun ls hl => ?_)
      refine lv_aload_n hx hb dX0_broken_31 rfl (lv_at hl 1 rfl) ?_
      refine xg_a X.1 hR 4 (by decide) (by decide) q100 dX0_broken_32 ?_
      refine lv_iload_n hx hb dX0_broken_35 rfl (lv_at hl 2 rfl) ?_
      refine x_ldt X hR (ixl 16 16 (by decide) rfl (x_broken_o3 S x1 x2 hI ht1 c1 c2)) ((xi_tr (X := S) hI c1)) dX0_broken_36 ?_
      refine lv_iload_n hx hb dX0_broken_37 rfl (lv_at hl 3 rfl) ?_
      refine xpt X hR hS (x_lvt ((xi_tr (X := S) hI c1))) (xi_kd (X := S) hI ((xi_tr (X := S) hI c1))) 4 (by decide) rfl q367 (Or.inl rfl) rfl dX0_broken_38 (fun H locs hR hS => ?_)
      refine lv_iload_n hx hb dX0_broken_41 rfl (lv_at hl 0 rfl) ?_
      exact x_ri hx hb hrt (rfl) hlk hR hS hQ (Eq.trans (if_neg c1) (if_neg c2)) dX0_broken_42
    · refine lv_iconst (v := (-1)) hx hb dX0_broken_19 (by decide) ?_
      exact x_ri hx hb hrt (rfl) hlk hR hS hQ (Eq.trans (if_neg c1) (if_pos c2)) dX0_broken_20
theorem x_tear_o3 (S : XS) (x1 : Int32) (hI : XInv S) (c1 : ¬ (x_isRow x1) = 0) : 0 ≤ x1 ∧ x1 < 8 := by 
  have bl_x1 := Int32.toInt_lt x1
  try simp only [x_in_eq, x_isRow_eq] at *
  try simp only [i_le, i_lt, i_eq, Int32.reduceToInt] at *
  try simp only [Int32.reduceToInt] at *
  omega
theorem x_tear_o4 (S : XS) (x1 : Int32) (hI : XInv S) (c1 : ¬ (x_isRow x1) = 0) (c2 : ¬ S.2.2.2 3 (Int32.toNatClampNeg x1) = 0) : 0 ≤ x1 ∧ x1 < 8 := by 
  have bl_x1 := Int32.toInt_lt x1
  try simp only [x_in_eq, x_isRow_eq] at *
  try simp only [i_le, i_lt, i_eq, Int32.reduceToInt] at *
  try simp only [Int32.reduceToInt] at *
  omega
def x_tear (S : XS) (x1 : Int32) : Int32 × XS := (if (x_isRow x1) = 0 then ((-1), S) else (if S.2.2.2 3 (Int32.toNatClampNeg x1) = 0 then ((x_found S 1).1, (x_found S 1).2) else (1, (xn S 3 (Int32.toNatClampNeg x1) 0))))
theorem x_tear_inv (S : XS) (x1 : Int32) (hI : XInv S) : XInv (x_tear S x1).2 := by
  unfold x_tear
  refine ifI (P := fun (z : Int32 × XS) => XInv z.2) (fun c1 => ?_) (fun c1 => ?_)
  · exact hI
  · refine ifI (P := fun (z : Int32 × XS) => XInv z.2) (fun c2 => ?_) (fun c2 => ?_)
    · have hI20 : XInv (x_found S 1).2 := x_found_invx S 1 hI
      exact hI20
    · exact (XInv_n3 hI _ _ (by decide))
set_option maxHeartbeats 4000000 in
theorem xt_tear (l : Launch) (D : va_G) (d : Nat → ClassId) (A : Nat → Prop) (ad : XK → Nat) (S : XS) (x1 : Int32) (hI : XInv S) : XI l yX0_tear cX0_tear 2 .int (rm_ 2) D d A ad S [.ref (ad (0, 0)), .int x1] (x_tear S x1) := by
  refine x_startI RX0 rfl (by decide) (Nat.le_of_ble_eq_true rfl) ?_
  intro p e s m av below meth c ls Q X hrt hlk hl hR hQ
  have hx := X.1.1.1
  have hb := X.1.1.2.1
  have hown := X.1.1.2.2.2.1
  have hts := X.1.1.2.2.2.2
  have hS : va_S A s.heap s.heap [] := va_S.rf
  have hl : lv_has ls 2 [(0, .ref (ad (0, 0))), (1, .int x1)] := hl
  refine lv_iload_n hx hb dX0_tear_0 rfl (lv_at hl 1 rfl) ?_
  refine s_ci X.1.1 (st_x_isRow l x1) 1 (lw_S q277 q278 q58 q279) ⟨rfl, rfl⟩ (by decide +kernel) ⟨by decide, by decide⟩ ⟨by decide, by decide⟩ rfl hl.1 rfl (Nat.le_of_ble_eq_true rfl) dX0_tear_1 ?_
  refine lv_if_ne (tgt := 9) hx hb dX0_tear_4 (by decide) (fun c1 => ?_) (fun c1 => ?_)
  · refine lv_aload_n hx hb dX0_tear_9 rfl (lv_at hl 0 rfl) ?_
    refine xg_a X.1 hR 3 (by decide) (by decide) q99 dX0_tear_10 ?_
    refine lv_iload_n hx hb dX0_tear_13 rfl (lv_at hl 1 rfl) ?_
    refine x_ldRB X hR (ixl 8 8 (by decide) rfl (x_tear_o3 S x1 hI c1)) dX0_tear_14 (fun c2 => ?_) (fun c2 => ?_)
    · refine lv_ifnonnullN hx hb dX0_tear_15 ?_
      refine lv_aload_n hx hb dX0_tear_18 rfl (lv_at hl 0 rfl) ?_
      refine lv_iconst (v := 1) hx hb dX0_tear_19 (by decide) ?_
      refine x_bi hS (xr_V X hR x_lv0 (ci := 0) (fs := x_fs ad S) rfl rfl (xt_found l D d A ad S 1 (by decide)) 1 (lw_V q283 q285 qs2 q58 q286) ⟨rfl, rfl⟩ (by decide +kernel) ⟨by decide, by decide⟩ ⟨by decide, by decide⟩ rfl hl.1 rfl (Nat.le_of_ble_eq_true rfl) dX0_tear_20) (fun H locs hR hS => ?_)
      have hN20 : (x_found S 1).2.2.2.2 = S.2.2.2 := x_found_N S 1
      have hI20 : XInv (x_found S 1).2 := x_found_invx S 1 hI
      exact x_ri hx hb hrt (rfl) hlk hR hS hQ (Eq.trans (if_neg c1) (if_pos c2)) dX0_tear_23
    · refine lv_ifnonnull (tgt := 24) hx hb dX0_tear_15 (by decide) ?_
      refine lv_aload_n hx hb dX0_tear_24 rfl (lv_at hl 0 rfl) ?_
      refine xg_a X.1 hR 3 (by decide) (by decide) q99 dX0_tear_25 ?_
      refine lv_iload_n hx hb dX0_tear_28 rfl (lv_at hl 1 rfl) ?_
      refine lv_null hx hb dX0_tear_29 ?_
      refine x_stR0 X hR hS (ixl 8 8 (by decide) rfl (x_tear_o4 S x1 hI c1 c2)) dX0_tear_30 (fun H locs hR hS => ?_)
      refine lv_iconst (v := 1) hx hb dX0_tear_31 (by decide) ?_
      exact x_ri hx hb hrt (rfl) hlk hR hS hQ (Eq.trans (if_neg c1) (if_neg c2)) dX0_tear_32
  · refine lv_iconst (v := (-1)) hx hb dX0_tear_7 (by decide) ?_
    exact x_ri hx hb hrt (rfl) hlk hR hS hQ (if_pos c1) dX0_tear_8
def x_toldOf (S : XS) (x1 : Nat) (x2 : Int32) : Int32 := (if x2 = 0 then (xv_kind S x1) else (if x2 = 1 then (xv_many S x1) else (if x2 = 2 then (xv_at S x1) else (if x2 = 3 then (S.1 41 x1) else (if x2 = 4 then (S.1 43 x1) else (if x2 = 5 then (S.1 45 x1) else (if x2 = 6 then (S.1 47 x1) else (S.1 46 x1))))))))
set_option maxHeartbeats 4000000 in
theorem xt_toldOf (l : Launch) (D : va_G) (d : Nat → ClassId) (A : Nat → Prop) (ad : XK → Nat) (S : XS) (x1 : Nat) (x2 : Int32) (hI : XInv S) (hj : x1 < S.2.2.2 7 0) : XI l yX0_toldOf cX0_toldOf 2 .int (rm_ 3) D d A ad S [.ref (ad (40, x1)), .int x2] ((x_toldOf S x1 x2), S) := by
  refine x_startI RX0 rfl (by decide) (Nat.le_of_ble_eq_true rfl) ?_
  intro p e s m av below meth c ls Q X hrt hlk hl hR hQ
  have hx := X.1.1.1
  have hb := X.1.1.2.1
  have hown := X.1.1.2.2.2.1
  have hts := X.1.1.2.2.2.2
  have hS : va_S A s.heap s.heap [] := va_S.rf
  have hl : lv_has ls 2 [(0, .ref (ad (40, x1))), (1, .int x2)] := hl
  refine lv_iload_n hx hb dX0_toldOf_0 rfl (lv_at hl 1 rfl) ?_
  by_cases c1 : x2 = 0
  · refine lv_tableIn (off := 43) (tgt := 44) hx hb dX0_toldOf_1 (by rw [c1]; decide) (by rw [c1]; decide) (by rw [c1]; rfl) (by decide) ?_
    refine lv_aload_n hx hb dX0_toldOf_44 rfl (lv_at hl 0 rfl) ?_
    refine vr_kind X hR hS (hI) (hj) q538 hl.1 ⟨by decide, by decide⟩ ⟨by decide, by decide⟩ (Nat.le_of_ble_eq_true rfl) dX0_toldOf_45 (fun H locs hR hS => ?_)
    exact x_ri hx hb hrt (rfl) hlk hR hS hQ (hF1 (if_pos c1)) dX0_toldOf_48
  · by_cases c2 : x2 = 1
    · refine lv_tableIn (off := 48) (tgt := 49) hx hb dX0_toldOf_1 (by rw [c2]; decide) (by rw [c2]; decide) (by rw [c2]; rfl) (by decide) ?_
      refine lv_aload_n hx hb dX0_toldOf_49 rfl (lv_at hl 0 rfl) ?_
      refine vr_many X hR hS (hI) (hj) q554 hl.1 ⟨by decide, by decide⟩ ⟨by decide, by decide⟩ (Nat.le_of_ble_eq_true rfl) dX0_toldOf_50 (fun H locs hR hS => ?_)
      exact x_ri hx hb hrt (rfl) hlk hR hS hQ (hF1 (Eq.trans (if_neg c1) (if_pos c2))) dX0_toldOf_53
    · by_cases c3 : x2 = 2
      · refine lv_tableIn (off := 53) (tgt := 54) hx hb dX0_toldOf_1 (by rw [c3]; decide) (by rw [c3]; decide) (by rw [c3]; rfl) (by decide) ?_
        refine lv_aload_n hx hb dX0_toldOf_54 rfl (lv_at hl 0 rfl) ?_
        refine vr_at X hR hS (hI) (hj) q566 hl.1 ⟨by decide, by decide⟩ ⟨by decide, by decide⟩ (Nat.le_of_ble_eq_true rfl) dX0_toldOf_55 (fun H locs hR hS => ?_)
        exact x_ri hx hb hrt (rfl) hlk hR hS hQ (hF1 (Eq.trans (if_neg c1) (Eq.trans (if_neg c2) (if_pos c3)))) dX0_toldOf_58
      · by_cases c4 : x2 = 3
        · refine lv_tableIn (off := 58) (tgt := 59) hx hb dX0_toldOf_1 (by rw [c4]; decide) (by rw [c4]; decide) (by rw [c4]; rfl) (by decide) ?_
          refine lv_aload_n hx hb dX0_toldOf_59 rfl (lv_at hl 0 rfl) ?_
          refine xgt X hR (x_lvt (hj)) (xi_kd (X := S) hI (hj)) 1 (by decide) q360 (Or.inl rfl) rfl dX0_toldOf_60 ?_
          exact x_ri hx hb hrt (rfl) hlk hR hS hQ (hF1 (Eq.trans (if_neg c1) (Eq.trans (if_neg c2) (Eq.trans (if_neg c3) (if_pos c4))))) dX0_toldOf_63
        · by_cases c5 : x2 = 4
          · refine lv_tableIn (off := 63) (tgt := 64) hx hb dX0_toldOf_1 (by rw [c5]; decide) (by rw [c5]; decide) (by rw [c5]; rfl) (by decide) ?_
            refine lv_aload_n hx hb dX0_toldOf_64 rfl (lv_at hl 0 rfl) ?_
            refine xgt X hR (x_lvt (hj)) (xi_kd (X := S) hI (hj)) 3 (by decide) q365 (Or.inl rfl) rfl dX0_toldOf_65 ?_
            exact x_ri hx hb hrt (rfl) hlk hR hS hQ (hF1 (Eq.trans (if_neg c1) (Eq.trans (if_neg c2) (Eq.trans (if_neg c3) (Eq.trans (if_neg c4) (if_pos c5)))))) dX0_toldOf_68
          · by_cases c6 : x2 = 5
            · refine lv_tableIn (off := 68) (tgt := 69) hx hb dX0_toldOf_1 (by rw [c6]; decide) (by rw [c6]; decide) (by rw [c6]; rfl) (by decide) ?_
              refine lv_aload_n hx hb dX0_toldOf_69 rfl (lv_at hl 0 rfl) ?_
              refine xgt X hR (x_lvt (hj)) (xi_kd (X := S) hI (hj)) 5 (by decide) q374 (Or.inl rfl) rfl dX0_toldOf_70 ?_
              exact x_ri hx hb hrt (rfl) hlk hR hS hQ (hF1 (Eq.trans (if_neg c1) (Eq.trans (if_neg c2) (Eq.trans (if_neg c3) (Eq.trans (if_neg c4) (Eq.trans (if_neg c5) (if_pos c6))))))) dX0_toldOf_73
            · by_cases c7 : x2 = 6
              · refine lv_tableIn (off := 73) (tgt := 74) hx hb dX0_toldOf_1 (by rw [c7]; decide) (by rw [c7]; decide) (by rw [c7]; rfl) (by decide) ?_
                refine lv_aload_n hx hb dX0_toldOf_74 rfl (lv_at hl 0 rfl) ?_
                refine xgt X hR (x_lvt (hj)) (xi_kd (X := S) hI (hj)) 7 (by decide) q378 (Or.inl rfl) rfl dX0_toldOf_75 ?_
                exact x_ri hx hb hrt (rfl) hlk hR hS hQ (hF1 (Eq.trans (if_neg c1) (Eq.trans (if_neg c2) (Eq.trans (if_neg c3) (Eq.trans (if_neg c4) (Eq.trans (if_neg c5) (Eq.trans (if_neg c6) (if_pos c7)))))))) dX0_toldOf_78
              · refine lv_tableOut (tgt := 79) hx hb dX0_toldOf_1 (sw_out _ _ _ (fun k hk => by match k, hk with | 0, _ => exact c1 | 1, _ => exact c2 | 2, _ => exact c3 | 3, _ => exact c4 | 4, _ => exact c5 | 5, _ => exact c6 | 6, _ => exact c7)) (by decide) ?_
                refine lv_aload_n hx hb dX0_toldOf_79 rfl (lv_at hl 0 rfl) ?_
                refine xgt X hR (x_lvt (hj)) (xi_kd (X := S) hI (hj)) 6 (by decide) q376 (Or.inl rfl) rfl dX0_toldOf_80 ?_
                exact x_ri hx hb hrt (rfl) hlk hR hS hQ (hF1 (Eq.trans (if_neg c1) (Eq.trans (if_neg c2) (Eq.trans (if_neg c3) (Eq.trans (if_neg c4) (Eq.trans (if_neg c5) (Eq.trans (if_neg c6) (if_neg c7)))))))) dX0_toldOf_83
theorem x_told_o3 (S : XS) (x1 : Int32) (x2 : Int32) (hI : XInv S) (ht1 : ¬ (x_isTrain S x1) = 0 → 0 ≤ x1 ∧ x1 < 16) (c1 : ¬ (x_isTrain S x1) = 0) (c2 : ¬ (x_in x2 0 7) = 0) : 0 ≤ x1 ∧ x1 < 16 := by 
  have bl_x1 := Int32.toInt_lt x1
  have bl_x2 := Int32.toInt_lt x2
  try simp only [x_in_eq] at *
  try simp only [i_le, i_lt, i_eq, Int32.reduceToInt] at *
  try simp only [Int32.reduceToInt] at *
  omega
def x_told (S : XS) (x1 : Int32) (x2 : Int32) : Int32 := (if (x_isTrain S x1) = 0 then (-1) else (if (x_in x2 0 7) = 0 then (-1) else (x_toldOf S (Int32.toNatClampNeg x1) x2)))
set_option maxHeartbeats 4000000 in
theorem xt_told (l : Launch) (D : va_G) (d : Nat → ClassId) (A : Nat → Prop) (ad : XK → Nat) (S : XS) (x1 : Int32) (x2 : Int32) (hI : XInv S) : XI l yX0_told cX0_told 3 .int (rm_ 4) D d A ad S [.ref (ad (0, 0)), .int x1, .int x2] ((x_told S x1 x2), S) := by
  refine x_startI RX0 rfl (by decide) (Nat.le_of_ble_eq_true rfl) ?_
  intro p e s m av below meth c ls Q X hrt hlk hl hR hQ
  have hx := X.1.1.1
  have hb := X.1.1.2.1
  have hown := X.1.1.2.2.2.1
  have hts := X.1.1.2.2.2.2
  have hS : va_S A s.heap s.heap [] := va_S.rf
  have hl : lv_has ls 3 [(0, .ref (ad (0, 0))), (1, .int x1), (2, .int x2)] := hl
  have ht1 : ¬ (x_isTrain S x1) = 0 → 0 ≤ x1 ∧ x1 < 16 := fun h => xi_t16 hI h
  refine lv_aload_n hx hb dX0_told_0 rfl (lv_at hl 0 rfl) ?_
  refine lv_iload_n hx hb dX0_told_1 rfl (lv_at hl 1 rfl) ?_
  refine x_bi hS (xr_V X hR x_lv0 (ci := 0) (fs := x_fs ad S) rfl rfl (xt_isTrain l D d A ad S x1) 1 (lw_V q518 q520 qs4 q58 q521) ⟨rfl, rfl⟩ (by decide +kernel) ⟨by decide, by decide⟩ ⟨by decide, by decide⟩ rfl hl.1 rfl (Nat.le_of_ble_eq_true rfl) dX0_told_2) (fun H locs hR hS => ?_)
  refine lv_if_eq (tgt := 31) hx hb dX0_told_5 (by decide) (fun c1 => ?_) (fun c1 => ?_)
  · refine lv_iconst (v := (-1)) hx hb dX0_told_31 (by decide) ?_
    exact x_ri hx hb hrt (rfl) hlk hR hS hQ (hF1 (if_pos c1)) dX0_told_32
  · refine lv_iload_n hx hb dX0_told_8 rfl (lv_at hl 2 rfl) ?_
    refine lv_iconst (v := 0) hx hb dX0_told_9 (by decide) ?_
    refine lv_bipush (v := 7) hx hb dX0_told_10 (by decide) ?_
    refine s_ci X.1.1 (st_x_in l x2 0 7) 3 (lw_S q280 q281 q58 q282) ⟨rfl, rfl⟩ (by decide +kernel) ⟨by decide, by decide⟩ ⟨by decide, by decide⟩ rfl hl.1 rfl (Nat.le_of_ble_eq_true rfl) dX0_told_12 ?_
    refine lv_if_eq (tgt := 31) hx hb dX0_told_15 (by decide) (fun c2 => ?_) (fun c2 => ?_)
    · refine lv_iconst (v := (-1)) hx hb dX0_told_31 (by decide) ?_
      exact x_ri hx hb hrt (rfl) hlk hR hS hQ (hF1 (Eq.trans (if_neg c1) (if_pos c2))) dX0_told_32
    · refine lv_aload_n hx hb dX0_told_18 rfl (lv_at hl 0 rfl) ?_
      refine xg_a X.1 hR 4 (by decide) (by decide) q100 dX0_told_19 ?_
      refine lv_iload_n hx hb dX0_told_22 rfl (lv_at hl 1 rfl) ?_
      refine x_ldt X hR (ixl 16 16 (by decide) rfl (x_told_o3 S x1 x2 hI ht1 c1 c2)) ((xi_tr (X := S) hI c1)) dX0_told_23 ?_
      refine lv_iload_n hx hb dX0_told_24 rfl (lv_at hl 2 rfl) ?_
      refine x_bi hS (xr_S X hR (xt_toldOf l D d A ad S (Int32.toNatClampNeg x1) x2 (hI) ((xi_tr (X := S) hI c1))) 2 (lw_S q535 q536 q58 q537) ⟨rfl, rfl⟩ (by decide +kernel) ⟨by decide, by decide⟩ ⟨by decide, by decide⟩ rfl hl.1 rfl (Nat.le_of_ble_eq_true rfl) dX0_told_25) (fun H locs hR hS => ?_)
      refine lv_goto (tgt := 32) hx hb dX0_told_28 (by decide) ?_
      exact x_ri hx hb hrt (rfl) hlk hR hS hQ (hF1 (Eq.trans (if_neg c1) (if_neg c2))) dX0_told_32
theorem x_need_o4 (S : XS) (x1 : Int32) (x2 : Int32) (hI : XInv S) (c1 : ¬ (x_isTower x2) = 0) (c2 : ¬ x1 = 0) : 0 ≤ x2 ∧ x2 < 4 := by 
  have bl_x1 := Int32.toInt_lt x1
  have bl_x2 := Int32.toInt_lt x2
  try simp only [x_in_eq, x_isTower_eq] at *
  try simp only [i_le, i_lt, i_eq, Int32.reduceToInt] at *
  try simp only [Int32.reduceToInt] at *
  omega
def x_need (S : XS) (x1 : Int32) (x2 : Int32) : Int32 × XS := (if (x_isTower x2) = 0 then ((-1), S) else (if x1 = 0 then ((-1), S) else (if S.2.2.2 5 (Int32.toNatClampNeg x2) = 0 then ((x_found S 1).1, (x_found S 1).2) else (0, S))))
theorem x_need_N (S : XS) (x1 : Int32) (x2 : Int32) : (x_need S x1 x2).2.2.2.2 = S.2.2.2 := by
  unfold x_need
  refine ifI (P := fun (z : Int32 × XS) => z.2.2.2.2 = S.2.2.2) (fun c1 => ?_) (fun c1 => ?_)
  · exact rfl
  · refine ifI (P := fun (z : Int32 × XS) => z.2.2.2.2 = S.2.2.2) (fun c2 => ?_) (fun c2 => ?_)
    · exact rfl
    · refine ifI (P := fun (z : Int32 × XS) => z.2.2.2.2 = S.2.2.2) (fun c3 => ?_) (fun c3 => ?_)
      · have hN26 : (x_found S 1).2.2.2.2 = S.2.2.2 := x_found_N S 1
        exact hN26
      · exact rfl
theorem x_need_inv (S : XS) (x1 : Int32) (x2 : Int32) (hI : XInv S) : XInv (x_need S x1 x2).2 := by
  unfold x_need
  refine ifI (P := fun (z : Int32 × XS) => XInv z.2) (fun c1 => ?_) (fun c1 => ?_)
  · exact hI
  · refine ifI (P := fun (z : Int32 × XS) => XInv z.2) (fun c2 => ?_) (fun c2 => ?_)
    · exact hI
    · refine ifI (P := fun (z : Int32 × XS) => XInv z.2) (fun c3 => ?_) (fun c3 => ?_)
      · have hI26 : XInv (x_found S 1).2 := x_found_invx S 1 hI
        exact hI26
      · exact hI
theorem x_need_o5 (S : XS) (x1 : Int32) (x2 : Int32) (hI : XInv S) (c1 : ¬ (x_isTower x2) = 0) (c2 : ¬ x1 = 0) (c3 : ¬ S.2.2.2 5 (Int32.toNatClampNeg x2) = 0) : 0 ≤ x2 ∧ x2 < 4 := by 
  have bl_x1 := Int32.toInt_lt x1
  have bl_x2 := Int32.toInt_lt x2
  try simp only [x_in_eq, x_isTower_eq] at *
  try simp only [i_le, i_lt, i_eq, Int32.reduceToInt] at *
  try simp only [Int32.reduceToInt] at *
  omega
theorem x_need_ok (S : XS) (x1 : Int32) (x2 : Int32) (hI : XInv S) (h : 0 ≤ (x_need S x1 x2).1) : (x_need S x1 x2).2 = S ∧ (0 ≤ x2 ∧ x2 < 4) ∧ (¬ x1 = 0) ∧ (¬ S.2.2.2 5 (Int32.toNatClampNeg x2) = 0) := by
  revert h
  unfold x_need
  refine ifI (P := fun (z : Int32 × XS) => 0 ≤ z.1 → z.2 = S ∧ (0 ≤ x2 ∧ x2 < 4) ∧ (¬ x1 = 0) ∧ (¬ S.2.2.2 5 (Int32.toNatClampNeg x2) = 0)) (fun c1 => ?_) (fun c1 => ?_)
  · exact fun h_ => absurd (show (0 : Int32) ≤ (-1) from h_) (by decide)
  · refine ifI (P := fun (z : Int32 × XS) => 0 ≤ z.1 → z.2 = S ∧ (0 ≤ x2 ∧ x2 < 4) ∧ (¬ x1 = 0) ∧ (¬ S.2.2.2 5 (Int32.toNatClampNeg x2) = 0)) (fun c2 => ?_) (fun c2 => ?_)
    · exact fun h_ => absurd (show (0 : Int32) ≤ (-1) from h_) (by decide)
    · refine ifI (P := fun (z : Int32 × XS) => 0 ≤ z.1 → z.2 = S ∧ (0 ≤ x2 ∧ x2 < 4) ∧ (¬ x1 = 0) ∧ (¬ S.2.2.2 5 (Int32.toNatClampNeg x2) = 0)) (fun c3 => ?_) (fun c3 => ?_)
      · exact fun h_ => absurd (show (0 : Int32) ≤ (-3) from h_) (by decide)
      · intro h_
        exact ⟨rfl, (x_need_o5 S x1 x2 hI c1 c2 c3), (c2), (c3)⟩
set_option maxHeartbeats 4000000 in
theorem xt_need (l : Launch) (D : va_G) (d : Nat → ClassId) (A : Nat → Prop) (ad : XK → Nat) (S : XS) (x1 : Int32) (x2 : Int32) (hI : XInv S) : XI l yX0_need cX0_need 3 .int (rm_ 2) D d A ad S [.ref (ad (0, 0)), .int x1, .int x2] (x_need S x1 x2) := by
  refine x_startI RX0 rfl (by decide) (Nat.le_of_ble_eq_true rfl) ?_
  intro p e s m av below meth c ls Q X hrt hlk hl hR hQ
  have hx := X.1.1.1
  have hb := X.1.1.2.1
  have hown := X.1.1.2.2.2.1
  have hts := X.1.1.2.2.2.2
  have hS : va_S A s.heap s.heap [] := va_S.rf
  have hl : lv_has ls 3 [(0, .ref (ad (0, 0))), (1, .int x1), (2, .int x2)] := hl
  refine lv_iload_n hx hb dX0_need_0 rfl (lv_at hl 2 rfl) ?_
  refine s_ci X.1.1 (st_x_isTower l x2) 1 (lw_S q686 q687 q58 q688) ⟨rfl, rfl⟩ (by decide +kernel) ⟨by decide, by decide⟩ ⟨by decide, by decide⟩ rfl hl.1 rfl (Nat.le_of_ble_eq_true rfl) dX0_need_1 ?_
  refine lv_if_eq (tgt := 11) hx hb dX0_need_4 (by decide) (fun c1 => ?_) (fun c1 => ?_)
  · refine lv_iconst (v := (-1)) hx hb dX0_need_11 (by decide) ?_
    refine lv_goto (tgt := 33) hx hb dX0_need_12 (by decide) ?_
    exact x_ri hx hb hrt (rfl) hlk hR hS hQ (if_pos c1) dX0_need_33
  · refine lv_iload_n hx hb dX0_need_7 rfl (lv_at hl 1 rfl) ?_
    refine lv_if_ne (tgt := 15) hx hb dX0_need_8 (by decide) (fun c2 => ?_) (fun c2 => ?_)
    · refine lv_aload_n hx hb dX0_need_15 rfl (lv_at hl 0 rfl) ?_
      refine xg_a X.1 hR 7 (by decide) (by decide) q104 dX0_need_16 ?_
      refine lv_iload_n hx hb dX0_need_19 rfl (lv_at hl 2 rfl) ?_
      refine x_ldwB X hR (ixl 4 4 (by decide) rfl (x_need_o4 S x1 x2 hI c1 c2)) dX0_need_20 (fun c3 => ?_) (fun c3 => ?_)
      · refine lv_ifnonnullN hx hb dX0_need_21 ?_
        refine lv_aload_n hx hb dX0_need_24 rfl (lv_at hl 0 rfl) ?_
        refine lv_iconst (v := 1) hx hb dX0_need_25 (by decide) ?_
        refine x_bi hS (xr_V X hR x_lv0 (ci := 0) (fs := x_fs ad S) rfl rfl (xt_found l D d A ad S 1 (by decide)) 1 (lw_V q283 q285 qs2 q58 q286) ⟨rfl, rfl⟩ (by decide +kernel) ⟨by decide, by decide⟩ ⟨by decide, by decide⟩ rfl hl.1 rfl (Nat.le_of_ble_eq_true rfl) dX0_need_26) (fun H locs hR hS => ?_)
        have hN26 : (x_found S 1).2.2.2.2 = S.2.2.2 := x_found_N S 1
        have hI26 : XInv (x_found S 1).2 := x_found_invx S 1 hI
        refine lv_goto (tgt := 33) hx hb dX0_need_29 (by decide) ?_
        exact x_ri hx hb hrt (rfl) hlk hR hS hQ (Eq.trans (if_neg c1) (Eq.trans (if_neg c2) (if_pos c3))) dX0_need_33
      · refine lv_ifnonnull (tgt := 32) hx hb dX0_need_21 (by decide) ?_
        refine lv_iconst (v := 0) hx hb dX0_need_32 (by decide) ?_
        exact x_ri hx hb hrt (rfl) hlk hR hS hQ (Eq.trans (if_neg c1) (Eq.trans (if_neg c2) (if_neg c3))) dX0_need_33
    · refine lv_iconst (v := (-1)) hx hb dX0_need_11 (by decide) ?_
      refine lv_goto (tgt := 33) hx hb dX0_need_12 (by decide) ?_
      exact x_ri hx hb hrt (rfl) hlk hR hS hQ (Eq.trans (if_neg c1) (if_pos c2)) dX0_need_33
def x_needOwn (S : XS) (x1 : Int32) (x2 : Int32) : Int32 × XS := (if 0 ≤ (x_need S 1 x1).1 then (if S.2.2.2 4 (2 * (Int32.toNatClampNeg x1) + (Int32.toNatClampNeg (x_kOf x2))) = 0 then ((x_found S 1).1, (x_found S 1).2) else (0, S)) else ((x_need S 1 x1).1, (x_need S 1 x1).2))
theorem x_needOwn_N (S : XS) (x1 : Int32) (x2 : Int32) : (x_needOwn S x1 x2).2.2.2.2 = S.2.2.2 := by
  unfold x_needOwn
  refine ifI (P := fun (z : Int32 × XS) => z.2.2.2.2 = S.2.2.2) (fun c1 => ?_) (fun c1 => ?_)
  · refine ifI (P := fun (z : Int32 × XS) => z.2.2.2.2 = S.2.2.2) (fun c2 => ?_) (fun c2 => ?_)
    · have hN34 : (x_found S 1).2.2.2.2 = S.2.2.2 := x_found_N S 1
      exact hN34
    · exact rfl
  · have hN3 : (x_need S 1 x1).2.2.2.2 = S.2.2.2 := x_need_N S 1 x1
    exact hN3
theorem x_needOwn_inv (S : XS) (x1 : Int32) (x2 : Int32) (hI : XInv S) : XInv (x_needOwn S x1 x2).2 := by
  have hkq : 0 ≤ x_kOf x2 ∧ x_kOf x2 < 2 := x_kOf_b x2
  unfold x_needOwn
  refine ifI (P := fun (z : Int32 × XS) => XInv z.2) (fun c1 => ?_) (fun c1 => ?_)
  · refine ifI (P := fun (z : Int32 × XS) => XInv z.2) (fun c2 => ?_) (fun c2 => ?_)
    · have hI34 : XInv (x_found S 1).2 := x_found_invx S 1 hI
      exact hI34
    · exact hI
  · have hI3 : XInv (x_need S 1 x1).2 := x_need_inv S 1 x1 (hI)
    exact hI3
theorem x_needOwn_ok (S : XS) (x1 : Int32) (x2 : Int32) (hI : XInv S) (h : 0 ≤ (x_needOwn S x1 x2).1) : (x_needOwn S x1 x2).2 = S ∧ (0 ≤ x1 ∧ x1 < 4) ∧ (¬ S.2.2.2 5 (Int32.toNatClampNeg x1) = 0) ∧ (¬ S.2.2.2 4 (2 * (Int32.toNatClampNeg x1) + (Int32.toNatClampNeg (x_kOf x2))) = 0) := by
  have hkq : 0 ≤ x_kOf x2 ∧ x_kOf x2 < 2 := x_kOf_b x2
  revert h
  unfold x_needOwn
  refine ifI (P := fun (z : Int32 × XS) => 0 ≤ z.1 → z.2 = S ∧ (0 ≤ x1 ∧ x1 < 4) ∧ (¬ S.2.2.2 5 (Int32.toNatClampNeg x1) = 0) ∧ (¬ S.2.2.2 4 (2 * (Int32.toNatClampNeg x1) + (Int32.toNatClampNeg (x_kOf x2))) = 0)) (fun c1 => ?_) (fun c1 => ?_)
  · refine ifI (P := fun (z : Int32 × XS) => 0 ≤ z.1 → z.2 = S ∧ (0 ≤ x1 ∧ x1 < 4) ∧ (¬ S.2.2.2 5 (Int32.toNatClampNeg x1) = 0) ∧ (¬ S.2.2.2 4 (2 * (Int32.toNatClampNeg x1) + (Int32.toNatClampNeg (x_kOf x2))) = 0)) (fun c2 => ?_) (fun c2 => ?_)
    · exact fun h_ => absurd (show (0 : Int32) ≤ (-3) from h_) (by decide)
    · intro h_
      have okc1_0 : 0 ≤ x1 ∧ x1 < 4 := (x_need_ok S 1 x1 hI c1).2.1
      have okc1_2 : ¬ S.2.2.2 5 (Int32.toNatClampNeg x1) = 0 := (x_need_ok S 1 x1 hI c1).2.2.2
      exact ⟨rfl, (okc1_0), (okc1_2), (c2)⟩
  · exact fun h_ => absurd h_ c1
set_option maxHeartbeats 4000000 in
theorem xt_needOwn (l : Launch) (D : va_G) (d : Nat → ClassId) (A : Nat → Prop) (ad : XK → Nat) (S : XS) (x1 : Int32) (x2 : Int32) (hI : XInv S) : XI l yX0_needOwn cX0_needOwn 4 .int (rm_ 3) D d A ad S [.ref (ad (0, 0)), .int x1, .int x2] (x_needOwn S x1 x2) := by
  refine x_startI RX0 rfl (by decide) (Nat.le_of_ble_eq_true rfl) ?_
  intro p e s m av below meth c ls Q X hrt hlk hl hR hQ
  have hx := X.1.1.1
  have hb := X.1.1.2.1
  have hown := X.1.1.2.2.2.1
  have hts := X.1.1.2.2.2.2
  have hS : va_S A s.heap s.heap [] := va_S.rf
  have hl : lv_has ls 4 [(0, .ref (ad (0, 0))), (1, .int x1), (2, .int x2)] := hl
  have hkq : 0 ≤ x_kOf x2 ∧ x_kOf x2 < 2 := x_kOf_b x2
  refine lv_aload_n hx hb dX0_needOwn_0 rfl (lv_at hl 0 rfl) ?_
  refine lv_iconst (v := 1) hx hb dX0_needOwn_1 (by decide) ?_
  refine lv_iload_n hx hb dX0_needOwn_2 rfl (lv_at hl 1 rfl) ?_
  refine x_bi hS (xr_V X hR x_lv0 (ci := 0) (fs := x_fs ad S) rfl rfl (xt_need l D d A ad S 1 x1 (hI)) 2 (lw_V q747 q749 qs5 q58 q750) ⟨rfl, rfl⟩ (by decide +kernel) ⟨by decide, by decide⟩ ⟨by decide, by decide⟩ rfl hl.1 rfl (Nat.le_of_ble_eq_true rfl) dX0_needOwn_3) (fun H locs hR hS => ?_)
  have hN3 : (x_need S 1 x1).2.2.2.2 = S.2.2.2 := x_need_N S 1 x1
  have hI3 : XInv (x_need S 1 x1).2 := x_need_inv S 1 x1 (hI)
  refine lv_istore_n (lv' := [(3, .int (x_need S 1 x1).1), (0, .ref (ad (0, 0))), (1, .int x1), (2, .int x2)]) hx hb dX0_needOwn_6 rfl hl (by decide) rfl (fun ls hl => ?_)
  refine lv_iload_n hx hb dX0_needOwn_7 rfl (lv_at hl 0 rfl) ?_
  refine lv_if_ge (tgt := 15) hx hb dX0_needOwn_8 (by decide) (fun c1 => ?_) (fun c1 => ?_)
  · have okc1 := x_need_ok S 1 x1 hI c1
    have hR : XR D d A ad S H := okc1.1 ▸ hR
    have okc1_0 : 0 ≤ x1 ∧ x1 < 4 := okc1.2.1
    have okc1_1 : ¬ (1 : Int32) = 0 := okc1.2.2.1
    have okc1_2 : ¬ S.2.2.2 5 (Int32.toNatClampNeg x1) = 0 := okc1.2.2.2
    refine lv_aload_n hx hb dX0_needOwn_15 rfl (lv_at hl 1 rfl) ?_
    refine xg_a X.1 hR 7 (by decide) (by decide) q104 dX0_needOwn_16 ?_
    refine lv_iload_n hx hb dX0_needOwn_19 rfl (lv_at hl 2 rfl) ?_
    refine x_ldw X hR (ixl 4 4 (by decide) rfl (okc1_0)) (okc1_2) dX0_needOwn_20 ?_
    refine xgwo X hR (x_lvw (tn4 (okc1_0)) (okc1_2)) (Or.inr q706) dX0_needOwn_21 ?_
    refine lv_iload_n hx hb dX0_needOwn_24 rfl (lv_at hl 3 rfl) ?_
    refine s_ci X.1.1 (st_x_kOf l x2) 1 (lw_S q751 q752 q58 q753) ⟨rfl, rfl⟩ (by decide +kernel) ⟨by decide, by decide⟩ ⟨by decide, by decide⟩ rfl hl.1 rfl (Nat.le_of_ble_eq_true rfl) dX0_needOwn_25 ?_
    refine x_ldoBE X hR (x_lvo (tn4 (okc1_0)) (okc1_2)) (ixl 2 2 (by decide) rfl (hkq)) (n := S.2.2.2 4 (2 * (Int32.toNatClampNeg x1) + (Int32.toNatClampNeg (x_kOf x2)))) rfl dX0_needOwn_28 (fun c2 => ?_) (fun c2 => ?_)
    · refine lv_ifnonnullN hx hb dX0_needOwn_29 ?_
      refine lv_aload_n hx hb dX0_needOwn_32 rfl (lv_at hl 1 rfl) ?_
      refine lv_iconst (v := 1) hx hb dX0_needOwn_33 (by decide) ?_
      refine x_bi hS (xr_V X hR x_lv0 (ci := 0) (fs := x_fs ad S) rfl rfl (xt_found l D d A ad S 1 (by decide)) 1 (lw_V q283 q285 qs2 q58 q286) ⟨rfl, rfl⟩ (by decide +kernel) ⟨by decide, by decide⟩ ⟨by decide, by decide⟩ rfl hl.1 rfl (Nat.le_of_ble_eq_true rfl) dX0_needOwn_34) (fun H locs hR hS => ?_)
      have hN34 : (x_found S 1).2.2.2.2 = S.2.2.2 := x_found_N S 1
      have hI34 : XInv (x_found S 1).2 := x_found_invx S 1 hI
      refine lv_goto (tgt := 41) hx hb dX0_needOwn_37 (by decide) ?_
      exact x_ri hx hb hrt (rfl) hlk hR hS hQ (Eq.trans (if_pos c1) (if_pos c2)) dX0_needOwn_41
    · refine lv_ifnonnull (tgt := 40) hx hb dX0_needOwn_29 (by decide) ?_
      refine lv_iconst (v := 0) hx hb dX0_needOwn_40 (by decide) ?_
      exact x_ri hx hb hrt (rfl) hlk hR hS hQ (Eq.trans (if_pos c1) (if_neg c2)) dX0_needOwn_41
  · refine lv_iload_n hx hb dX0_needOwn_11 rfl (lv_at hl 0 rfl) ?_
    refine lv_goto (tgt := 41) hx hb dX0_needOwn_12 (by decide) ?_
    exact x_ri hx hb hrt (rfl) hlk hR hS hQ (if_neg c1) dX0_needOwn_41
theorem x_needTwo_o4 (S : XS) (x1 : Int32) (x2 : Int32) (hI : XInv S) (c1 : ¬ (x_isTower x1) = 0) (c2 : ¬ (x_isTower x2) = 0) : 0 ≤ x1 ∧ x1 < 4 := by 
  have bl_x1 := Int32.toInt_lt x1
  have bl_x2 := Int32.toInt_lt x2
  try simp only [x_in_eq, x_isTower_eq] at *
  try simp only [i_le, i_lt, i_eq, Int32.reduceToInt] at *
  try simp only [Int32.reduceToInt] at *
  omega
theorem x_needTwo_o6 (S : XS) (x1 : Int32) (x2 : Int32) (hI : XInv S) (c1 : ¬ (x_isTower x1) = 0) (c2 : ¬ (x_isTower x2) = 0) (c3 : ¬ S.2.2.2 5 (Int32.toNatClampNeg x1) = 0) : 0 ≤ x2 ∧ x2 < 4 := by 
  have bl_x1 := Int32.toInt_lt x1
  have bl_x2 := Int32.toInt_lt x2
  try simp only [x_in_eq, x_isTower_eq] at *
  try simp only [i_le, i_lt, i_eq, Int32.reduceToInt] at *
  try simp only [Int32.reduceToInt] at *
  omega
def x_needTwo (S : XS) (x1 : Int32) (x2 : Int32) : Int32 × XS := (if (x_isTower x1) = 0 then ((-1), S) else (if (x_isTower x2) = 0 then ((-1), S) else (if S.2.2.2 5 (Int32.toNatClampNeg x1) = 0 then ((x_found S 1).1, (x_found S 1).2) else (if S.2.2.2 5 (Int32.toNatClampNeg x2) = 0 then ((x_found S 1).1, (x_found S 1).2) else (0, S)))))
theorem x_needTwo_N (S : XS) (x1 : Int32) (x2 : Int32) : (x_needTwo S x1 x2).2.2.2.2 = S.2.2.2 := by
  unfold x_needTwo
  refine ifI (P := fun (z : Int32 × XS) => z.2.2.2.2 = S.2.2.2) (fun c1 => ?_) (fun c1 => ?_)
  · exact rfl
  · refine ifI (P := fun (z : Int32 × XS) => z.2.2.2.2 = S.2.2.2) (fun c2 => ?_) (fun c2 => ?_)
    · exact rfl
    · refine ifI (P := fun (z : Int32 × XS) => z.2.2.2.2 = S.2.2.2) (fun c3 => ?_) (fun c3 => ?_)
      · have hN38 : (x_found S 1).2.2.2.2 = S.2.2.2 := x_found_N S 1
        exact hN38
      · refine ifI (P := fun (z : Int32 × XS) => z.2.2.2.2 = S.2.2.2) (fun c5 => ?_) (fun c5 => ?_)
        · have hN38 : (x_found S 1).2.2.2.2 = S.2.2.2 := x_found_N S 1
          exact hN38
        · exact rfl
theorem x_needTwo_inv (S : XS) (x1 : Int32) (x2 : Int32) (hI : XInv S) : XInv (x_needTwo S x1 x2).2 := by
  unfold x_needTwo
  refine ifI (P := fun (z : Int32 × XS) => XInv z.2) (fun c1 => ?_) (fun c1 => ?_)
  · exact hI
  · refine ifI (P := fun (z : Int32 × XS) => XInv z.2) (fun c2 => ?_) (fun c2 => ?_)
    · exact hI
    · refine ifI (P := fun (z : Int32 × XS) => XInv z.2) (fun c3 => ?_) (fun c3 => ?_)
      · have hI38 : XInv (x_found S 1).2 := x_found_invx S 1 hI
        exact hI38
      · refine ifI (P := fun (z : Int32 × XS) => XInv z.2) (fun c5 => ?_) (fun c5 => ?_)
        · have hI38 : XInv (x_found S 1).2 := x_found_invx S 1 hI
          exact hI38
        · exact hI
theorem x_needTwo_o7 (S : XS) (x1 : Int32) (x2 : Int32) (hI : XInv S) (c1 : ¬ (x_isTower x1) = 0) (c2 : ¬ (x_isTower x2) = 0) (c3 : ¬ S.2.2.2 5 (Int32.toNatClampNeg x1) = 0) (c5 : ¬ S.2.2.2 5 (Int32.toNatClampNeg x2) = 0) : 0 ≤ x1 ∧ x1 < 4 := by 
  have bl_x1 := Int32.toInt_lt x1
  have bl_x2 := Int32.toInt_lt x2
  try simp only [x_in_eq, x_isTower_eq] at *
  try simp only [i_le, i_lt, i_eq, Int32.reduceToInt] at *
  try simp only [Int32.reduceToInt] at *
  omega
theorem x_needTwo_o8 (S : XS) (x1 : Int32) (x2 : Int32) (hI : XInv S) (c1 : ¬ (x_isTower x1) = 0) (c2 : ¬ (x_isTower x2) = 0) (c3 : ¬ S.2.2.2 5 (Int32.toNatClampNeg x1) = 0) (c5 : ¬ S.2.2.2 5 (Int32.toNatClampNeg x2) = 0) : 0 ≤ x2 ∧ x2 < 4 := by 
  have bl_x1 := Int32.toInt_lt x1
  have bl_x2 := Int32.toInt_lt x2
  try simp only [x_in_eq, x_isTower_eq] at *
  try simp only [i_le, i_lt, i_eq, Int32.reduceToInt] at *
  try simp only [Int32.reduceToInt] at *
  omega
theorem x_needTwo_ok (S : XS) (x1 : Int32) (x2 : Int32) (hI : XInv S) (h : 0 ≤ (x_needTwo S x1 x2).1) : (x_needTwo S x1 x2).2 = S ∧ (0 ≤ x1 ∧ x1 < 4) ∧ (0 ≤ x2 ∧ x2 < 4) ∧ (¬ S.2.2.2 5 (Int32.toNatClampNeg x1) = 0) ∧ (¬ S.2.2.2 5 (Int32.toNatClampNeg x2) = 0) := by
  revert h
  unfold x_needTwo
  refine ifI (P := fun (z : Int32 × XS) => 0 ≤ z.1 → z.2 = S ∧ (0 ≤ x1 ∧ x1 < 4) ∧ (0 ≤ x2 ∧ x2 < 4) ∧ (¬ S.2.2.2 5 (Int32.toNatClampNeg x1) = 0) ∧ (¬ S.2.2.2 5 (Int32.toNatClampNeg x2) = 0)) (fun c1 => ?_) (fun c1 => ?_)
  · exact fun h_ => absurd (show (0 : Int32) ≤ (-1) from h_) (by decide)
  · refine ifI (P := fun (z : Int32 × XS) => 0 ≤ z.1 → z.2 = S ∧ (0 ≤ x1 ∧ x1 < 4) ∧ (0 ≤ x2 ∧ x2 < 4) ∧ (¬ S.2.2.2 5 (Int32.toNatClampNeg x1) = 0) ∧ (¬ S.2.2.2 5 (Int32.toNatClampNeg x2) = 0)) (fun c2 => ?_) (fun c2 => ?_)
    · exact fun h_ => absurd (show (0 : Int32) ≤ (-1) from h_) (by decide)
    · refine ifI (P := fun (z : Int32 × XS) => 0 ≤ z.1 → z.2 = S ∧ (0 ≤ x1 ∧ x1 < 4) ∧ (0 ≤ x2 ∧ x2 < 4) ∧ (¬ S.2.2.2 5 (Int32.toNatClampNeg x1) = 0) ∧ (¬ S.2.2.2 5 (Int32.toNatClampNeg x2) = 0)) (fun c3 => ?_) (fun c3 => ?_)
      · exact fun h_ => absurd (show (0 : Int32) ≤ (-3) from h_) (by decide)
      · refine ifI (P := fun (z : Int32 × XS) => 0 ≤ z.1 → z.2 = S ∧ (0 ≤ x1 ∧ x1 < 4) ∧ (0 ≤ x2 ∧ x2 < 4) ∧ (¬ S.2.2.2 5 (Int32.toNatClampNeg x1) = 0) ∧ (¬ S.2.2.2 5 (Int32.toNatClampNeg x2) = 0)) (fun c5 => ?_) (fun c5 => ?_)
        · exact fun h_ => absurd (show (0 : Int32) ≤ (-3) from h_) (by decide)
        · intro h_
          exact ⟨rfl, (x_needTwo_o7 S x1 x2 hI c1 c2 c3 c5), (x_needTwo_o8 S x1 x2 hI c1 c2 c3 c5), (c3), (c5)⟩
set_option maxHeartbeats 4000000 in
theorem xt_needTwo (l : Launch) (D : va_G) (d : Nat → ClassId) (A : Nat → Prop) (ad : XK → Nat) (S : XS) (x1 : Int32) (x2 : Int32) (hI : XInv S) : XI l yX0_needTwo cX0_needTwo 3 .int (rm_ 2) D d A ad S [.ref (ad (0, 0)), .int x1, .int x2] (x_needTwo S x1 x2) := by
  refine x_startI RX0 rfl (by decide) (Nat.le_of_ble_eq_true rfl) ?_
  intro p e s m av below meth c ls Q X hrt hlk hl hR hQ
  have hx := X.1.1.1
  have hb := X.1.1.2.1
  have hown := X.1.1.2.2.2.1
  have hts := X.1.1.2.2.2.2
  have hS : va_S A s.heap s.heap [] := va_S.rf
  have hl : lv_has ls 3 [(0, .ref (ad (0, 0))), (1, .int x1), (2, .int x2)] := hl
  refine lv_iload_n hx hb dX0_needTwo_0 rfl (lv_at hl 1 rfl) ?_
  refine s_ci X.1.1 (st_x_isTower l x1) 1 (lw_S q686 q687 q58 q688) ⟨rfl, rfl⟩ (by decide +kernel) ⟨by decide, by decide⟩ ⟨by decide, by decide⟩ rfl hl.1 rfl (Nat.le_of_ble_eq_true rfl) dX0_needTwo_1 ?_
  refine lv_if_eq (tgt := 14) hx hb dX0_needTwo_4 (by decide) (fun c1 => ?_) (fun c1 => ?_)
  · refine lv_iconst (v := (-1)) hx hb dX0_needTwo_14 (by decide) ?_
    refine lv_goto (tgt := 45) hx hb dX0_needTwo_15 (by decide) ?_
    exact x_ri hx hb hrt (rfl) hlk hR hS hQ (if_pos c1) dX0_needTwo_45
  · refine lv_iload_n hx hb dX0_needTwo_7 rfl (lv_at hl 2 rfl) ?_
    refine s_ci X.1.1 (st_x_isTower l x2) 1 (lw_S q686 q687 q58 q688) ⟨rfl, rfl⟩ (by decide +kernel) ⟨by decide, by decide⟩ ⟨by decide, by decide⟩ rfl hl.1 rfl (Nat.le_of_ble_eq_true rfl) dX0_needTwo_8 ?_
    refine lv_if_ne (tgt := 18) hx hb dX0_needTwo_11 (by decide) (fun c2 => ?_) (fun c2 => ?_)
    · refine lv_aload_n hx hb dX0_needTwo_18 rfl (lv_at hl 0 rfl) ?_
      refine xg_a X.1 hR 7 (by decide) (by decide) q104 dX0_needTwo_19 ?_
      refine lv_iload_n hx hb dX0_needTwo_22 rfl (lv_at hl 1 rfl) ?_
      refine x_ldwB X hR (ixl 4 4 (by decide) rfl (x_needTwo_o4 S x1 x2 hI c1 c2)) dX0_needTwo_23 (fun c3 => ?_) (fun c3 => ?_)
      · refine lv_ifnullN (tgt := 36) hx hb dX0_needTwo_24 (by decide) ?_
        refine lv_aload_n hx hb dX0_needTwo_36 rfl (lv_at hl 0 rfl) ?_
        refine lv_iconst (v := 1) hx hb dX0_needTwo_37 (by decide) ?_
        refine x_bi hS (xr_V X hR x_lv0 (ci := 0) (fs := x_fs ad S) rfl rfl (xt_found l D d A ad S 1 (by decide)) 1 (lw_V q283 q285 qs2 q58 q286) ⟨rfl, rfl⟩ (by decide +kernel) ⟨by decide, by decide⟩ ⟨by decide, by decide⟩ rfl hl.1 rfl (Nat.le_of_ble_eq_true rfl) dX0_needTwo_38) (fun H locs hR hS => ?_)
        have hN38 : (x_found S 1).2.2.2.2 = S.2.2.2 := x_found_N S 1
        have hI38 : XInv (x_found S 1).2 := x_found_invx S 1 hI
        refine lv_goto (tgt := 45) hx hb dX0_needTwo_41 (by decide) ?_
        exact x_ri hx hb hrt (rfl) hlk hR hS hQ (Eq.trans (if_neg c1) (Eq.trans (if_neg c2) (if_pos c3))) dX0_needTwo_45
      · refine lv_ifnull hx hb dX0_needTwo_24 ?_
        refine lv_aload_n hx hb dX0_needTwo_27 rfl (lv_at hl 0 rfl) ?_
        refine xg_a X.1 hR 7 (by decide) (by decide) q104 dX0_needTwo_28 ?_
        refine lv_iload_n hx hb dX0_needTwo_31 rfl (lv_at hl 2 rfl) ?_
        refine x_ldwB X hR (ixl 4 4 (by decide) rfl (x_needTwo_o6 S x1 x2 hI c1 c2 c3)) dX0_needTwo_32 (fun c5 => ?_) (fun c5 => ?_)
        · refine lv_ifnonnullN hx hb dX0_needTwo_33 ?_
          refine lv_aload_n hx hb dX0_needTwo_36 rfl (lv_at hl 0 rfl) ?_
          refine lv_iconst (v := 1) hx hb dX0_needTwo_37 (by decide) ?_
          refine x_bi hS (xr_V X hR x_lv0 (ci := 0) (fs := x_fs ad S) rfl rfl (xt_found l D d A ad S 1 (by decide)) 1 (lw_V q283 q285 qs2 q58 q286) ⟨rfl, rfl⟩ (by decide +kernel) ⟨by decide, by decide⟩ ⟨by decide, by decide⟩ rfl hl.1 rfl (Nat.le_of_ble_eq_true rfl) dX0_needTwo_38) (fun H locs hR hS => ?_)
          have hN38 : (x_found S 1).2.2.2.2 = S.2.2.2 := x_found_N S 1
          have hI38 : XInv (x_found S 1).2 := x_found_invx S 1 hI
          refine lv_goto (tgt := 45) hx hb dX0_needTwo_41 (by decide) ?_
          exact x_ri hx hb hrt (rfl) hlk hR hS hQ (Eq.trans (if_neg c1) (Eq.trans (if_neg c2) (Eq.trans (if_neg c3) (if_pos c5)))) dX0_needTwo_45
        · refine lv_ifnonnull (tgt := 44) hx hb dX0_needTwo_33 (by decide) ?_
          refine lv_iconst (v := 0) hx hb dX0_needTwo_44 (by decide) ?_
          exact x_ri hx hb hrt (rfl) hlk hR hS hQ (Eq.trans (if_neg c1) (Eq.trans (if_neg c2) (Eq.trans (if_neg c3) (if_neg c5)))) dX0_needTwo_45
    · refine lv_iconst (v := (-1)) hx hb dX0_needTwo_14 (by decide) ?_
      refine lv_goto (tgt := 45) hx hb dX0_needTwo_15 (by decide) ?_
      exact x_ri hx hb hrt (rfl) hlk hR hS hQ (Eq.trans (if_neg c1) (if_pos c2)) dX0_needTwo_45
theorem x_needRow_o5 (S : XS) (x1 : Int32) (x2 : Int32) (x3 : Int32) (hI : XInv S) (c1 : ¬ (x_isRow x2) = 0) (c2 : ¬ (x_in x3 1 12) = 0) (c3 : ¬ x1 = 0) : 0 ≤ x2 ∧ x2 < 8 := by 
  have bl_x1 := Int32.toInt_lt x1
  have bl_x2 := Int32.toInt_lt x2
  have bl_x3 := Int32.toInt_lt x3
  try simp only [x_in_eq, x_isRow_eq] at *
  try simp only [i_le, i_lt, i_eq, Int32.reduceToInt] at *
  try simp only [Int32.reduceToInt] at *
  omega
def x_needRow (S : XS) (x1 : Int32) (x2 : Int32) (x3 : Int32) : Int32 × XS := (if (x_isRow x2) = 0 then ((-1), S) else (if (x_in x3 1 12) = 0 then ((-1), S) else (if x1 = 0 then ((-1), S) else (if S.2.2.2 3 (Int32.toNatClampNeg x2) = 0 then ((x_found S 1).1, (x_found S 1).2) else (0, S)))))
theorem x_needRow_N (S : XS) (x1 : Int32) (x2 : Int32) (x3 : Int32) : (x_needRow S x1 x2 x3).2.2.2.2 = S.2.2.2 := by
  unfold x_needRow
  refine ifI (P := fun (z : Int32 × XS) => z.2.2.2.2 = S.2.2.2) (fun c1 => ?_) (fun c1 => ?_)
  · exact rfl
  · refine ifI (P := fun (z : Int32 × XS) => z.2.2.2.2 = S.2.2.2) (fun c2 => ?_) (fun c2 => ?_)
    · exact rfl
    · refine ifI (P := fun (z : Int32 × XS) => z.2.2.2.2 = S.2.2.2) (fun c3 => ?_) (fun c3 => ?_)
      · exact rfl
      · refine ifI (P := fun (z : Int32 × XS) => z.2.2.2.2 = S.2.2.2) (fun c4 => ?_) (fun c4 => ?_)
        · have hN36 : (x_found S 1).2.2.2.2 = S.2.2.2 := x_found_N S 1
          exact hN36
        · exact rfl
theorem x_needRow_inv (S : XS) (x1 : Int32) (x2 : Int32) (x3 : Int32) (hI : XInv S) : XInv (x_needRow S x1 x2 x3).2 := by
  unfold x_needRow
  refine ifI (P := fun (z : Int32 × XS) => XInv z.2) (fun c1 => ?_) (fun c1 => ?_)
  · exact hI
  · refine ifI (P := fun (z : Int32 × XS) => XInv z.2) (fun c2 => ?_) (fun c2 => ?_)
    · exact hI
    · refine ifI (P := fun (z : Int32 × XS) => XInv z.2) (fun c3 => ?_) (fun c3 => ?_)
      · exact hI
      · refine ifI (P := fun (z : Int32 × XS) => XInv z.2) (fun c4 => ?_) (fun c4 => ?_)
        · have hI36 : XInv (x_found S 1).2 := x_found_invx S 1 hI
          exact hI36
        · exact hI
theorem x_needRow_o6 (S : XS) (x1 : Int32) (x2 : Int32) (x3 : Int32) (hI : XInv S) (c1 : ¬ (x_isRow x2) = 0) (c2 : ¬ (x_in x3 1 12) = 0) (c3 : ¬ x1 = 0) (c4 : ¬ S.2.2.2 3 (Int32.toNatClampNeg x2) = 0) : 0 ≤ x2 ∧ x2 < 8 := by 
  have bl_x1 := Int32.toInt_lt x1
  have bl_x2 := Int32.toInt_lt x2
  have bl_x3 := Int32.toInt_lt x3
  try simp only [x_in_eq, x_isRow_eq] at *
  try simp only [i_le, i_lt, i_eq, Int32.reduceToInt] at *
  try simp only [Int32.reduceToInt] at *
  omega
theorem x_needRow_o7 (S : XS) (x1 : Int32) (x2 : Int32) (x3 : Int32) (hI : XInv S) (c1 : ¬ (x_isRow x2) = 0) (c2 : ¬ (x_in x3 1 12) = 0) (c3 : ¬ x1 = 0) (c4 : ¬ S.2.2.2 3 (Int32.toNatClampNeg x2) = 0) : 1 ≤ x3 ∧ x3 ≤ 12 := by 
  have bl_x1 := Int32.toInt_lt x1
  have bl_x2 := Int32.toInt_lt x2
  have bl_x3 := Int32.toInt_lt x3
  try simp only [x_in_eq, x_isRow_eq] at *
  try simp only [i_le, i_lt, i_eq, Int32.reduceToInt] at *
  try simp only [Int32.reduceToInt] at *
  omega
theorem x_needRow_ok (S : XS) (x1 : Int32) (x2 : Int32) (x3 : Int32) (hI : XInv S) (h : 0 ≤ (x_needRow S x1 x2 x3).1) : (x_needRow S x1 x2 x3).2 = S ∧ (0 ≤ x2 ∧ x2 < 8) ∧ (1 ≤ x3 ∧ x3 ≤ 12) ∧ (¬ x1 = 0) ∧ (¬ S.2.2.2 3 (Int32.toNatClampNeg x2) = 0) := by
  revert h
  unfold x_needRow
  refine ifI (P := fun (z : Int32 × XS) => 0 ≤ z.1 → z.2 = S ∧ (0 ≤ x2 ∧ x2 < 8) ∧ (1 ≤ x3 ∧ x3 ≤ 12) ∧ (¬ x1 = 0) ∧ (¬ S.2.2.2 3 (Int32.toNatClampNeg x2) = 0)) (fun c1 => ?_) (fun c1 => ?_)
  · exact fun h_ => absurd (show (0 : Int32) ≤ (-1) from h_) (by decide)
  · refine ifI (P := fun (z : Int32 × XS) => 0 ≤ z.1 → z.2 = S ∧ (0 ≤ x2 ∧ x2 < 8) ∧ (1 ≤ x3 ∧ x3 ≤ 12) ∧ (¬ x1 = 0) ∧ (¬ S.2.2.2 3 (Int32.toNatClampNeg x2) = 0)) (fun c2 => ?_) (fun c2 => ?_)
    · exact fun h_ => absurd (show (0 : Int32) ≤ (-1) from h_) (by decide)
    · refine ifI (P := fun (z : Int32 × XS) => 0 ≤ z.1 → z.2 = S ∧ (0 ≤ x2 ∧ x2 < 8) ∧ (1 ≤ x3 ∧ x3 ≤ 12) ∧ (¬ x1 = 0) ∧ (¬ S.2.2.2 3 (Int32.toNatClampNeg x2) = 0)) (fun c3 => ?_) (fun c3 => ?_)
      · exact fun h_ => absurd (show (0 : Int32) ≤ (-1) from h_) (by decide)
      · refine ifI (P := fun (z : Int32 × XS) => 0 ≤ z.1 → z.2 = S ∧ (0 ≤ x2 ∧ x2 < 8) ∧ (1 ≤ x3 ∧ x3 ≤ 12) ∧ (¬ x1 = 0) ∧ (¬ S.2.2.2 3 (Int32.toNatClampNeg x2) = 0)) (fun c4 => ?_) (fun c4 => ?_)
        · exact fun h_ => absurd (show (0 : Int32) ≤ (-3) from h_) (by decide)
        · intro h_
          exact ⟨rfl, (x_needRow_o6 S x1 x2 x3 hI c1 c2 c3 c4), (x_needRow_o7 S x1 x2 x3 hI c1 c2 c3 c4), (c3), (c4)⟩
set_option maxHeartbeats 4000000 in
theorem xt_needRow (l : Launch) (D : va_G) (d : Nat → ClassId) (A : Nat → Prop) (ad : XK → Nat) (S : XS) (x1 : Int32) (x2 : Int32) (x3 : Int32) (hI : XInv S) : XI l yX0_needRow cX0_needRow 4 .int (rm_ 2) D d A ad S [.ref (ad (0, 0)), .int x1, .int x2, .int x3] (x_needRow S x1 x2 x3) := by
  refine x_startI RX0 rfl (by decide) (Nat.le_of_ble_eq_true rfl) ?_
  intro p e s m av below meth c ls Q X hrt hlk hl hR hQ
  have hx := X.1.1.1
  have hb := X.1.1.2.1
  have hown := X.1.1.2.2.2.1
  have hts := X.1.1.2.2.2.2
  have hS : va_S A s.heap s.heap [] := va_S.rf
  have hl : lv_has ls 4 [(0, .ref (ad (0, 0))), (1, .int x1), (2, .int x2), (3, .int x3)] := hl
  refine lv_iload_n hx hb dX0_needRow_0 rfl (lv_at hl 2 rfl) ?_
  refine s_ci X.1.1 (st_x_isRow l x2) 1 (lw_S q277 q278 q58 q279) ⟨rfl, rfl⟩ (by decide +kernel) ⟨by decide, by decide⟩ ⟨by decide, by decide⟩ rfl hl.1 rfl (Nat.le_of_ble_eq_true rfl) dX0_needRow_1 ?_
  refine lv_if_eq (tgt := 21) hx hb dX0_needRow_4 (by decide) (fun c1 => ?_) (fun c1 => ?_)
  · refine lv_iconst (v := (-1)) hx hb dX0_needRow_21 (by decide) ?_
    refine lv_goto (tgt := 43) hx hb dX0_needRow_22 (by decide) ?_
    exact x_ri hx hb hrt (rfl) hlk hR hS hQ (if_pos c1) dX0_needRow_43
  · refine lv_iload_n hx hb dX0_needRow_7 rfl (lv_at hl 3 rfl) ?_
    refine lv_iconst (v := 1) hx hb dX0_needRow_8 (by decide) ?_
    refine lv_bipush (v := 12) hx hb dX0_needRow_9 (by decide) ?_
    refine s_ci X.1.1 (st_x_in l x3 1 12) 3 (lw_S q280 q281 q58 q282) ⟨rfl, rfl⟩ (by decide +kernel) ⟨by decide, by decide⟩ ⟨by decide, by decide⟩ rfl hl.1 rfl (Nat.le_of_ble_eq_true rfl) dX0_needRow_11 ?_
    refine lv_if_eq (tgt := 21) hx hb dX0_needRow_14 (by decide) (fun c2 => ?_) (fun c2 => ?_)
    · refine lv_iconst (v := (-1)) hx hb dX0_needRow_21 (by decide) ?_
      refine lv_goto (tgt := 43) hx hb dX0_needRow_22 (by decide) ?_
      exact x_ri hx hb hrt (rfl) hlk hR hS hQ (Eq.trans (if_neg c1) (if_pos c2)) dX0_needRow_43
    · refine lv_iload_n hx hb dX0_needRow_17 rfl (lv_at hl 1 rfl) ?_
      refine lv_if_ne (tgt := 25) hx hb dX0_needRow_18 (by decide) (fun c3 => ?_) (fun c3 => ?_)
      · refine lv_aload_n hx hb dX0_needRow_25 rfl (lv_at hl 0 rfl) ?_
        refine xg_a X.1 hR 3 (by decide) (by decide) q99 dX0_needRow_26 ?_
        refine lv_iload_n hx hb dX0_needRow_29 rfl (lv_at hl 2 rfl) ?_
        refine x_ldRB X hR (ixl 8 8 (by decide) rfl (x_needRow_o5 S x1 x2 x3 hI c1 c2 c3)) dX0_needRow_30 (fun c4 => ?_) (fun c4 => ?_)
        · refine lv_ifnonnullN hx hb dX0_needRow_31 ?_
          refine lv_aload_n hx hb dX0_needRow_34 rfl (lv_at hl 0 rfl) ?_
          refine lv_iconst (v := 1) hx hb dX0_needRow_35 (by decide) ?_
          refine x_bi hS (xr_V X hR x_lv0 (ci := 0) (fs := x_fs ad S) rfl rfl (xt_found l D d A ad S 1 (by decide)) 1 (lw_V q283 q285 qs2 q58 q286) ⟨rfl, rfl⟩ (by decide +kernel) ⟨by decide, by decide⟩ ⟨by decide, by decide⟩ rfl hl.1 rfl (Nat.le_of_ble_eq_true rfl) dX0_needRow_36) (fun H locs hR hS => ?_)
          have hN36 : (x_found S 1).2.2.2.2 = S.2.2.2 := x_found_N S 1
          have hI36 : XInv (x_found S 1).2 := x_found_invx S 1 hI
          refine lv_goto (tgt := 43) hx hb dX0_needRow_39 (by decide) ?_
          exact x_ri hx hb hrt (rfl) hlk hR hS hQ (Eq.trans (if_neg c1) (Eq.trans (if_neg c2) (Eq.trans (if_neg c3) (if_pos c4)))) dX0_needRow_43
        · refine lv_ifnonnull (tgt := 42) hx hb dX0_needRow_31 (by decide) ?_
          refine lv_iconst (v := 0) hx hb dX0_needRow_42 (by decide) ?_
          exact x_ri hx hb hrt (rfl) hlk hR hS hQ (Eq.trans (if_neg c1) (Eq.trans (if_neg c2) (Eq.trans (if_neg c3) (if_neg c4)))) dX0_needRow_43
      · refine lv_iconst (v := (-1)) hx hb dX0_needRow_21 (by decide) ?_
        refine lv_goto (tgt := 43) hx hb dX0_needRow_22 (by decide) ?_
        exact x_ri hx hb hrt (rfl) hlk hR hS hQ (Eq.trans (if_neg c1) (Eq.trans (if_neg c2) (if_pos c3))) dX0_needRow_43
def x_needPlate (S : XS) (x1 : Int32) (x2 : Int32) : Int32 × XS := (if 0 ≤ (x_needOwn S x1 x2).1 then (if (x_isP S (S.2.2.2 4 (2 * (Int32.toNatClampNeg x1) + (Int32.toNatClampNeg (x_kOf x2))) - 1)) = 0 then ((x_found S 3).1, (x_found S 3).2) else (0, S)) else ((x_needOwn S x1 x2).1, (x_needOwn S x1 x2).2))
theorem x_needPlate_N (S : XS) (x1 : Int32) (x2 : Int32) : (x_needPlate S x1 x2).2.2.2.2 = S.2.2.2 := by
  unfold x_needPlate
  refine ifI (P := fun (z : Int32 × XS) => z.2.2.2.2 = S.2.2.2) (fun c1 => ?_) (fun c1 => ?_)
  · refine ifI (P := fun (z : Int32 × XS) => z.2.2.2.2 = S.2.2.2) (fun c2 => ?_) (fun c2 => ?_)
    · have hN41 : (x_found S 3).2.2.2.2 = S.2.2.2 := x_found_N S 3
      exact hN41
    · exact rfl
  · have hN3 : (x_needOwn S x1 x2).2.2.2.2 = S.2.2.2 := x_needOwn_N S x1 x2
    exact hN3
theorem x_needPlate_inv (S : XS) (x1 : Int32) (x2 : Int32) (hI : XInv S) : XInv (x_needPlate S x1 x2).2 := by
  have hkq : 0 ≤ x_kOf x2 ∧ x_kOf x2 < 2 := x_kOf_b x2
  unfold x_needPlate
  refine ifI (P := fun (z : Int32 × XS) => XInv z.2) (fun c1 => ?_) (fun c1 => ?_)
  · refine ifI (P := fun (z : Int32 × XS) => XInv z.2) (fun c2 => ?_) (fun c2 => ?_)
    · have hI41 : XInv (x_found S 3).2 := x_found_invx S 3 hI
      exact hI41
    · exact hI
  · have hI3 : XInv (x_needOwn S x1 x2).2 := x_needOwn_inv S x1 x2 (hI)
    exact hI3
theorem x_needPlate_ok (S : XS) (x1 : Int32) (x2 : Int32) (hI : XInv S) (h : 0 ≤ (x_needPlate S x1 x2).1) : (x_needPlate S x1 x2).2 = S ∧ (0 ≤ x1 ∧ x1 < 4) ∧ (¬ S.2.2.2 5 (Int32.toNatClampNeg x1) = 0) ∧ (¬ S.2.2.2 4 (2 * (Int32.toNatClampNeg x1) + (Int32.toNatClampNeg (x_kOf x2))) = 0) ∧ (S.2.2.2 0 (S.2.2.2 4 (2 * (Int32.toNatClampNeg x1) + (Int32.toNatClampNeg (x_kOf x2))) - 1) = 1 ∨ S.2.2.2 0 (S.2.2.2 4 (2 * (Int32.toNatClampNeg x1) + (Int32.toNatClampNeg (x_kOf x2))) - 1) = 3) := by
  have hkq : 0 ≤ x_kOf x2 ∧ x_kOf x2 < 2 := x_kOf_b x2
  revert h
  unfold x_needPlate
  refine ifI (P := fun (z : Int32 × XS) => 0 ≤ z.1 → z.2 = S ∧ (0 ≤ x1 ∧ x1 < 4) ∧ (¬ S.2.2.2 5 (Int32.toNatClampNeg x1) = 0) ∧ (¬ S.2.2.2 4 (2 * (Int32.toNatClampNeg x1) + (Int32.toNatClampNeg (x_kOf x2))) = 0) ∧ (S.2.2.2 0 (S.2.2.2 4 (2 * (Int32.toNatClampNeg x1) + (Int32.toNatClampNeg (x_kOf x2))) - 1) = 1 ∨ S.2.2.2 0 (S.2.2.2 4 (2 * (Int32.toNatClampNeg x1) + (Int32.toNatClampNeg (x_kOf x2))) - 1) = 3)) (fun c1 => ?_) (fun c1 => ?_)
  · refine ifI (P := fun (z : Int32 × XS) => 0 ≤ z.1 → z.2 = S ∧ (0 ≤ x1 ∧ x1 < 4) ∧ (¬ S.2.2.2 5 (Int32.toNatClampNeg x1) = 0) ∧ (¬ S.2.2.2 4 (2 * (Int32.toNatClampNeg x1) + (Int32.toNatClampNeg (x_kOf x2))) = 0) ∧ (S.2.2.2 0 (S.2.2.2 4 (2 * (Int32.toNatClampNeg x1) + (Int32.toNatClampNeg (x_kOf x2))) - 1) = 1 ∨ S.2.2.2 0 (S.2.2.2 4 (2 * (Int32.toNatClampNeg x1) + (Int32.toNatClampNeg (x_kOf x2))) - 1) = 3)) (fun c2 => ?_) (fun c2 => ?_)
    · exact fun h_ => absurd (show (0 : Int32) ≤ (-3) from h_) (by decide)
    · intro h_
      have okc1_0 : 0 ≤ x1 ∧ x1 < 4 := (x_needOwn_ok S x1 x2 hI c1).2.1
      have okc1_1 : ¬ S.2.2.2 5 (Int32.toNatClampNeg x1) = 0 := (x_needOwn_ok S x1 x2 hI c1).2.2.1
      have okc1_2 : ¬ S.2.2.2 4 (2 * (Int32.toNatClampNeg x1) + (Int32.toNatClampNeg (x_kOf x2))) = 0 := (x_needOwn_ok S x1 x2 hI c1).2.2.2
      exact ⟨rfl, (okc1_0), (okc1_1), (okc1_2), (x_isP_k (by assumption))⟩
  · exact fun h_ => absurd h_ c1
set_option maxHeartbeats 4000000 in
theorem xt_needPlate (l : Launch) (D : va_G) (d : Nat → ClassId) (A : Nat → Prop) (ad : XK → Nat) (S : XS) (x1 : Int32) (x2 : Int32) (hI : XInv S) : XI l yX0_needPlate cX0_needPlate 4 .int (rm_ 4) D d A ad S [.ref (ad (0, 0)), .int x1, .int x2] (x_needPlate S x1 x2) := by
  refine x_startI RX0 rfl (by decide) (Nat.le_of_ble_eq_true rfl) ?_
  intro p e s m av below meth c ls Q X hrt hlk hl hR hQ
  have hx := X.1.1.1
  have hb := X.1.1.2.1
  have hown := X.1.1.2.2.2.1
  have hts := X.1.1.2.2.2.2
  have hS : va_S A s.heap s.heap [] := va_S.rf
  have hl : lv_has ls 4 [(0, .ref (ad (0, 0))), (1, .int x1), (2, .int x2)] := hl
  have hkq : 0 ≤ x_kOf x2 ∧ x_kOf x2 < 2 := x_kOf_b x2
  refine lv_aload_n hx hb dX0_needPlate_0 rfl (lv_at hl 0 rfl) ?_
  refine lv_iload_n hx hb dX0_needPlate_1 rfl (lv_at hl 1 rfl) ?_
  refine lv_iload_n hx hb dX0_needPlate_2 rfl (lv_at hl 2 rfl) ?_
  refine x_bi hS (xr_V X hR x_lv0 (ci := 0) (fs := x_fs ad S) rfl rfl (xt_needOwn l D d A ad S x1 x2 (hI)) 2 (lw_V q758 q760 qs6 q58 q761) ⟨rfl, rfl⟩ (by decide +kernel) ⟨by decide, by decide⟩ ⟨by decide, by decide⟩ rfl hl.1 rfl (Nat.le_of_ble_eq_true rfl) dX0_needPlate_3) (fun H locs hR hS => ?_)
  have hN3 : (x_needOwn S x1 x2).2.2.2.2 = S.2.2.2 := x_needOwn_N S x1 x2
  have hI3 : XInv (x_needOwn S x1 x2).2 := x_needOwn_inv S x1 x2 (hI)
  refine lv_istore_n (lv' := [(3, .int (x_needOwn S x1 x2).1), (0, .ref (ad (0, 0))), (1, .int x1), (2, .int x2)]) hx hb dX0_needPlate_6 rfl hl (by decide) rfl (fun ls hl => ?_)
  refine lv_iload_n hx hb dX0_needPlate_7 rfl (lv_at hl 0 rfl) ?_
  refine lv_if_ge (tgt := 15) hx hb dX0_needPlate_8 (by decide) (fun c1 => ?_) (fun c1 => ?_)
  · have okc1 := x_needOwn_ok S x1 x2 hI c1
    have hR : XR D d A ad S H := okc1.1 ▸ hR
    have okc1_0 : 0 ≤ x1 ∧ x1 < 4 := okc1.2.1
    have okc1_1 : ¬ S.2.2.2 5 (Int32.toNatClampNeg x1) = 0 := okc1.2.2.1
    have okc1_2 : ¬ S.2.2.2 4 (2 * (Int32.toNatClampNeg x1) + (Int32.toNatClampNeg (x_kOf x2))) = 0 := okc1.2.2.2
    refine lv_aload_n hx hb dX0_needPlate_15 rfl (lv_at hl 1 rfl) ?_
    refine xg_a X.1 hR 7 (by decide) (by decide) q104 dX0_needPlate_16 ?_
    refine lv_iload_n hx hb dX0_needPlate_19 rfl (lv_at hl 2 rfl) ?_
    refine x_ldw X hR (ixl 4 4 (by decide) rfl (okc1_0)) (okc1_1) dX0_needPlate_20 ?_
    refine xgwo X hR (x_lvw (tn4 (okc1_0)) (okc1_1)) (Or.inr q706) dX0_needPlate_21 ?_
    refine lv_iload_n hx hb dX0_needPlate_24 rfl (lv_at hl 3 rfl) ?_
    refine s_ci X.1.1 (st_x_kOf l x2) 1 (lw_S q751 q752 q58 q753) ⟨rfl, rfl⟩ (by decide +kernel) ⟨by decide, by decide⟩ ⟨by decide, by decide⟩ rfl hl.1 rfl (Nat.le_of_ble_eq_true rfl) dX0_needPlate_25 ?_
    refine x_ldoE X hR (x_lvo (tn4 (okc1_0)) (okc1_1)) (ixl 2 2 (by decide) rfl (hkq)) (n := S.2.2.2 4 (2 * (Int32.toNatClampNeg x1) + (Int32.toNatClampNeg (x_kOf x2)))) rfl (okc1_2) dX0_needPlate_28 ?_
    have hj : (S.2.2.2 4 (2 * (Int32.toNatClampNeg x1) + (Int32.toNatClampNeg (x_kOf x2))) - 1) < S.2.2.2 7 0 := xi_own hI (tp8 (tn4 okc1_0) hkq) okc1_2
    refine x_instP X hR (x_lvt (hj)) (xi_kd (X := S) hI (hj)) q423 dX0_needPlate_29 ?_
    refine lv_if_eq (tgt := 39) hx hb dX0_needPlate_32 (by decide) (fun c2 => ?_) (fun c2 => ?_)
    · refine lv_aload_n hx hb dX0_needPlate_39 rfl (lv_at hl 1 rfl) ?_
      refine lv_iconst (v := 3) hx hb dX0_needPlate_40 (by decide) ?_
      refine x_bi hS (xr_V X hR x_lv0 (ci := 0) (fs := x_fs ad S) rfl rfl (xt_found l D d A ad S 3 (by decide)) 1 (lw_V q283 q285 qs2 q58 q286) ⟨rfl, rfl⟩ (by decide +kernel) ⟨by decide, by decide⟩ ⟨by decide, by decide⟩ rfl hl.1 rfl (Nat.le_of_ble_eq_true rfl) dX0_needPlate_41) (fun H locs hR hS => ?_)
      have hN41 : (x_found S 3).2.2.2.2 = S.2.2.2 := x_found_N S 3
      have hI41 : XInv (x_found S 3).2 := x_found_invx S 3 hI
      exact x_ri hx hb hrt (rfl) hlk hR hS hQ (Eq.trans (if_pos c1) (if_pos c2)) dX0_needPlate_44
    · refine lv_iconst (v := 0) hx hb dX0_needPlate_35 (by decide) ?_
      refine lv_goto (tgt := 44) hx hb dX0_needPlate_36 (by decide) ?_
      exact x_ri hx hb hrt (rfl) hlk hR hS hQ (Eq.trans (if_pos c1) (if_neg c2)) dX0_needPlate_44
  · refine lv_iload_n hx hb dX0_needPlate_11 rfl (lv_at hl 0 rfl) ?_
    refine lv_goto (tgt := 44) hx hb dX0_needPlate_12 (by decide) ?_
    exact x_ri hx hb hrt (rfl) hlk hR hS hQ (if_neg c1) dX0_needPlate_44
