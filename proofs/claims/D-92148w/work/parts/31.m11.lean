/-! PRINTED by gen/run_m6.py -/
set_option maxRecDepth 100000
/-- S2 differs from S in the keys ks alone -/
def eqx (ks : List Nat) (S S2 : MS) : Prop := (∀ k, k ∉ ks → S2.1 k = S.1 k) ∧ S2.2 = S.2
theorem eqx.rf {ks : List Nat} {S : MS} : eqx ks S S := ⟨fun _ _ => rfl, rfl⟩
theorem eqx.up {ks : List Nat} {S S2 : MS} (h : eqx ks S S2) {k : Nat} (hk : k ∈ ks) (i : Nat) (v : Int32) : eqx ks S (mu S2 k i v) := ⟨fun j hj => (mu_kf S2 (fun e => hj (by rw [e]; exact hk)) i v).trans (h.1 j hj), h.2⟩
theorem eqx.tr {ks : List Nat} {S S2 S3 : MS} (h : eqx ks S S2) (h2 : eqx ks S2 S3) : eqx ks S S3 := ⟨fun j hj => (h2.1 j hj).trans (h.1 j hj), h2.2.trans h.2⟩
theorem eqx.sub {ks ks2 : List Nat} {S S2 : MS} (h : eqx ks S S2) (hs : ∀ k ∈ ks, k ∈ ks2) : eqx ks2 S S2 := ⟨fun j hj => h.1 j (fun q => hj (hs j q)), h.2⟩
theorem eqx.at {ks : List Nat} {S S2 : MS} (h : eqx ks S S2) (k : Nat) (hk : k ∉ ks) (i : Nat) : S2.1 k i = S.1 k i := by rw [h.1 k hk]
def mKeys : List Nat := [7, 10, 11, 12, 14, 15, 17, 27, 32, 33, 35, 37, 40, 48, 50, 52]
theorem MInv_fr {ks : List Nat} {S S2 : MS} (h : eqx ks S S2) (hd : ∀ k ∈ mKeys, k ∉ ks) (hI : MInv S) : MInv S2 := by
  unfold MInv at hI ⊢
  rw [h.1 7 (hd 7 (by decide)), h.1 10 (hd 10 (by decide)), h.1 11 (hd 11 (by decide)), h.1 12 (hd 12 (by decide)), h.1 14 (hd 14 (by decide)), h.1 15 (hd 15 (by decide)), h.1 17 (hd 17 (by decide)), h.1 27 (hd 27 (by decide)), h.1 32 (hd 32 (by decide)), h.1 33 (hd 33 (by decide)), h.1 35 (hd 35 (by decide)), h.1 37 (hd 37 (by decide)), h.1 40 (hd 40 (by decide)), h.1 48 (hd 48 (by decide)), h.1 50 (hd 50 (by decide)), h.1 52 (hd 52 (by decide))]
  exact hI
theorem MInv_mu {S : MS} (hI : MInv S) (k i : Nat) (v : Int32) (hk : ∀ j ∈ mKeys, j ∉ [k]) : MInv (mu S k i v) := MInv_fr (eqx.up (ks := [k]) eqx.rf (List.mem_singleton.mpr rfl) i v) hk hI
theorem MInv_14 {S : MS} (hI : MInv S) (n : Nat) (v : Int32) (hv : n < 16 → 0 ≤ v ∧ (v < S.1 12 n ∨ v = 0)) : MInv (mu S 14 n v) := by
  obtain ⟨a1, a2, a3, a4, a5, a6, a7, a8⟩ := hI
  refine ⟨a1, a2, fun m hm => ?_, a4, a5, a6, a7, a8⟩
  have b := a3 m hm
  refine ⟨b.1, b.2.1, b.2.2.1, b.2.2.2.1, b.2.2.2.2.1, ?_⟩
  by_cases h : m = n
  · subst h
    rw [mu_self, mu_k _ (by decide)]
    exact hv hm
  · rw [mu_i _ _ h, mu_k _ (by decide)]
    exact b.2.2.2.2.2
theorem MInv_17 {S : MS} (hI : MInv S) (n : Nat) (v : Int32) (hv : n < 16 → 0 ≤ v ∧ (S.1 11 n = 3 → v < S.1 15 n)) : MInv (mu S 17 n v) := by
  obtain ⟨a1, a2, a3, a4, a5, a6, a7, a8⟩ := hI
  refine ⟨a1, a2, a3, fun m hm => ?_, a5, a6, a7, a8⟩
  have b := a4 m hm
  refine ⟨b.1, b.2.1, ?_⟩
  by_cases h : m = n
  · subst h
    rw [mu_self, mu_k _ (by decide), mu_k _ (by decide)]
    exact hv hm
  · rw [mu_i _ _ h, mu_k _ (by decide), mu_k _ (by decide)]
    exact b.2.2
theorem MInv_27 {S : MS} (hI : MInv S) (n : Nat) (v : Int32) (hv : 0 ≤ v ∧ v < 1440) : MInv (mu S 27 n v) := by
  obtain ⟨a1, a2, a3, a4, a5, a6, a7, a8⟩ := hI
  refine ⟨a1, a2, a3, a4, a5, fun m hm => ?_, a7, a8⟩
  have b := a6 m hm
  by_cases h : m = n
  · subst h
    rw [mu_self]
    exact ⟨hv.1, hv.2, b.2.2⟩
  · rw [mu_i _ _ h]
    exact b
theorem MInv_37 {S : MS} (hI : MInv S) (n : Nat) (v : Int32) (hv : 0 ≤ v ∧ v ≤ 60) : MInv (mu S 37 n v) := by
  obtain ⟨a1, a2, a3, a4, a5, a6, a7, a8⟩ := hI
  refine ⟨a1, a2, a3, a4, a5, fun m hm => ?_, a7, a8⟩
  have b := a6 m hm
  refine ⟨b.1, b.2.1, b.2.2.1, b.2.2.2.1, b.2.2.2.2.1, b.2.2.2.2.2.1, ?_⟩
  by_cases h : m = n
  · subst h
    rw [mu_self]
    exact hv
  · rw [mu_i _ _ h]
    exact b.2.2.2.2.2.2
theorem m_offGoes_eqx (S : MS) (x1 x2 : Int32) : eqx [25, 21, 14] S (m_offGoes S x1 x2) := by
  unfold m_offGoes
  (repeat' split) <;> (repeat refine eqx.up ?_ (by decide) _ _) <;> exact eqx.rf
theorem m_offGoes_inv (S : MS) (x1 x2 : Int32) (ht : 0 ≤ x1 ∧ x1 < 4) (hg : 0 ≤ S.1 35 (Int32.toNatClampNeg (m_placeOf x1 x2))) (hI : MInv S) : MInv (m_offGoes S x1 x2) := by
  have hn : 0 ≤ (m_offGoes_v10 S x1 x2) ∧ (m_offGoes_v10 S x1 x2) < 16 := ⟨hg, mi_hl hI (m_placeOf_ok ht)⟩
  have hm := mi_n hI hn
  have J1 : ∀ a b, MInv (mu (mu S 25 (Int32.toNatClampNeg (m_offGoes_v10 S x1 x2)) a) 21 (Int32.toNatClampNeg (m_offGoes_v10 S x1 x2)) b) := fun a b => MInv_mu (MInv_mu hI _ _ _ (by decide)) _ _ _ (by decide)
  unfold m_offGoes
  split
  · exact J1 _ _
  · rename_i h0
    split
    · exact J1 _ _
    · refine MInv_14 (J1 _ _) _ _ (fun _ => ?_)
      have hk : 1 ≤ S.1 12 (Int32.toNatClampNeg (m_offGoes_v10 S x1 x2)) := hm.2.2.2.2.1.resolve_left h0
      have h1 : 0 ≤ S.1 14 (Int32.toNatClampNeg (m_offGoes_v10 S x1 x2)) + 1 := by
        have a := hm.2.2.2.2.2
        have b := hm.2.2.2.1
        clear hg hI J1 h0 hn
        simp only [i_le, i_lt, i_eq, Int32.reduceToInt] at *
        have e := a32 (x := S.1 14 (Int32.toNatClampNeg (m_offGoes_v10 S x1 x2))) (y := 1) (by simp only [Int32.reduceToInt]; omega)
        simp only [Int32.reduceToInt] at e
        omega
      have h2 : 0 < S.1 12 (Int32.toNatClampNeg (m_offGoes_v10 S x1 x2)) := by
        simp only [i_le, i_lt, Int32.reduceToInt] at hk ⊢
        omega
      have h3 := dv_ h1 h2
      rw [mu_k _ (by decide), mu_k _ (by decide)]
      exact ⟨h3.2.2.1, Or.inl h3.2.2.2⟩
