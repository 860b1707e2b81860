/-! THE MODEL's INVARIANT -/
set_option maxRecDepth 100000
def MInv (S : MS) : Prop :=
  (0 ≤ S.1 10 0 ∧ S.1 10 0 ≤ 16) ∧
  (∀ r, r < 8 → S.1 7 r ≤ 48) ∧
  (∀ n, n < 16 → 0 ≤ S.1 11 n ∧ S.1 11 n ≤ 3 ∧ 0 ≤ S.1 12 n ∧ S.1 12 n ≤ 24 ∧ (S.1 11 n = 0 ∨ 1 ≤ S.1 12 n) ∧ 0 ≤ S.1 14 n ∧ (S.1 14 n < S.1 12 n ∨ S.1 14 n = 0)) ∧
  (∀ n, n < 16 → 0 ≤ S.1 15 n ∧ S.1 15 n ≤ 48 ∧ 0 ≤ S.1 17 n ∧ (S.1 11 n = 3 → S.1 17 n < S.1 15 n)) ∧
  (∀ p, p < 8 → S.1 35 p = -9 ∨ (0 ≤ S.1 35 p ∧ S.1 35 p < 16)) ∧
  (∀ t, t < 4 → 0 ≤ S.1 27 t ∧ S.1 27 t < 1440 ∧ 0 ≤ S.1 32 t ∧ S.1 32 t ≤ 23 ∧ 0 ≤ S.1 33 t ∧ S.1 33 t ≤ 23 ∧ 0 ≤ S.1 37 t ∧ S.1 37 t ≤ 60) ∧
  (0 ≤ S.1 48 0 ∧ S.1 48 0 ≤ 12) ∧ (0 ≤ S.1 50 0 ∧ S.1 50 0 ≤ 4) ∧ ((-9) ≤ S.1 40 0 ∧ S.1 40 0 ≤ 144) ∧ ∀ i, i < 4 → 0 ≤ S.1 52 i ∧ S.1 52 i < 12
theorem tn_ {x : Int32} (n : Nat) (N : Int32) (hn : n < 2 ^ 31) (hN : N = nI n) (h : 0 ≤ x ∧ x < N) : x.toNatClampNeg < n := by
  have h2 := vp_in_iff.mp (ixl n N hn hN h)
  unfold Int32.toNatClampNeg
  omega
theorem mi_tr {S : MS} (h : MInv S) : 0 ≤ S.1 10 0 ∧ S.1 10 0 ≤ 16 := h.1
theorem mi_sz {S : MS} (h : MInv S) {r : Int32} (hr : 0 ≤ r ∧ r < 8) : S.1 7 r.toNatClampNeg ≤ 48 := h.2.1 _ (tn_ 8 8 (by decide) rfl hr)
theorem mi_n {S : MS} (h : MInv S) {n : Int32} (hn : 0 ≤ n ∧ n < 16) : 0 ≤ S.1 11 n.toNatClampNeg ∧ S.1 11 n.toNatClampNeg ≤ 3 ∧ 0 ≤ S.1 12 n.toNatClampNeg ∧ S.1 12 n.toNatClampNeg ≤ 24 ∧ (S.1 11 n.toNatClampNeg = 0 ∨ 1 ≤ S.1 12 n.toNatClampNeg) ∧ 0 ≤ S.1 14 n.toNatClampNeg ∧ (S.1 14 n.toNatClampNeg < S.1 12 n.toNatClampNeg ∨ S.1 14 n.toNatClampNeg = 0) := h.2.2.1 _ (tn_ 16 16 (by decide) rfl hn)
theorem mi_p {S : MS} (h : MInv S) {n : Int32} (hn : 0 ≤ n ∧ n < 16) : 0 ≤ S.1 15 n.toNatClampNeg ∧ S.1 15 n.toNatClampNeg ≤ 48 ∧ 0 ≤ S.1 17 n.toNatClampNeg ∧ (S.1 11 n.toNatClampNeg = 3 → S.1 17 n.toNatClampNeg < S.1 15 n.toNatClampNeg) := h.2.2.2.1 _ (tn_ 16 16 (by decide) rfl hn)
theorem mi_h {S : MS} (h : MInv S) {p : Int32} (hp : 0 ≤ p ∧ p < 8) : S.1 35 p.toNatClampNeg = -9 ∨ (0 ≤ S.1 35 p.toNatClampNeg ∧ S.1 35 p.toNatClampNeg < 16) := h.2.2.2.2.1 _ (tn_ 8 8 (by decide) rfl hp)
theorem mi_t {S : MS} (h : MInv S) {t : Int32} (ht : 0 ≤ t ∧ t < 4) : 0 ≤ S.1 27 t.toNatClampNeg ∧ S.1 27 t.toNatClampNeg < 1440 ∧ 0 ≤ S.1 32 t.toNatClampNeg ∧ S.1 32 t.toNatClampNeg ≤ 23 ∧ 0 ≤ S.1 33 t.toNatClampNeg ∧ S.1 33 t.toNatClampNeg ≤ 23 ∧ 0 ≤ S.1 37 t.toNatClampNeg ∧ S.1 37 t.toNatClampNeg ≤ 60 := h.2.2.2.2.2.1 _ (tn_ 4 4 (by decide) rfl ht)
theorem mi_w {S : MS} (h : MInv S) : 0 ≤ S.1 48 0 ∧ S.1 48 0 ≤ 12 := h.2.2.2.2.2.2.1
theorem mi_c {S : MS} (h : MInv S) : (0 ≤ S.1 50 0 ∧ S.1 50 0 ≤ 4) ∧ (-9) ≤ S.1 40 0 ∧ S.1 40 0 ≤ 144 := ⟨h.2.2.2.2.2.2.2.1, h.2.2.2.2.2.2.2.2.1⟩
theorem mi_4 {S : MS} (h : MInv S) {i : Int32} (hi : 0 ≤ i ∧ i < 4) : 0 ≤ S.1 52 i.toNatClampNeg ∧ S.1 52 i.toNatClampNeg < 12 := h.2.2.2.2.2.2.2.2.2 _ (tn_ 4 4 (by decide) rfl hi)
theorem isRow_ok {r : Int32} (h : ¬ m_isRow r = 0) : 0 ≤ r ∧ r < 8 := by grind [m_isRow, m_in]
theorem isNumber_ok {r : Int32} (h : ¬ m_isNumber r = 0) : 0 ≤ r ∧ r < 4 := by grind [m_isNumber, m_in]
theorem m_looked_ok (S : MS) (x1 : Int32) (c : 0 ≤ (m_looked S x1).1) : (m_looked S x1).2 = S ∧ (0 ≤ x1 ∧ x1 < 8) ∧ 0 ≤ S.1 7 x1.toNatClampNeg := by
  unfold m_looked at c ⊢
  split
  · rename_i h; rw [if_pos h] at c; exact absurd (show (0 : Int32) ≤ -1 from c) (by decide)
  · rename_i h
    rw [if_neg h] at c
    split
    · rename_i h2; exact ⟨rfl, isRow_ok h, h2⟩
    · rename_i h2; rw [if_neg h2] at c; exact absurd (show (0 : Int32) ≤ -3 from c) (by decide)
/-- division of what isn't negative -/
theorem dv_ {x d : Int32} (hx : 0 ≤ x) (hd : 0 < d) : 0 ≤ x / d ∧ x / d ≤ x ∧ 0 ≤ x - x / d * d ∧ x - x / d * d < d := by
  obtain ⟨a, ha, rfl⟩ := nI_of (x := x) (Int32.not_lt.mpr hx)
  obtain ⟨b, hb, rfl⟩ := nI_of (x := d) (fun h => by have := Int32.lt_trans h hd; exact Int32.lt_irrefl this)
  have hb0 : 0 < b := by
    rcases Nat.eq_zero_or_pos b with h | h
    · subst h; exact absurd hd (by decide)
    · exact h
  have hdiv := pk_div ha hb0 hb
  have hrem := pk_rem ha hb0 hb
  have h1 : a / b ≤ a := Nat.div_le_self _ _
  have h2 : a % b < b := Nat.mod_lt _ hb0
  rw [hrem, hdiv]
  exact ⟨nI_pos' (by omega), nI_le h1 ha, nI_pos' (by omega), nI_lt h2 hb⟩
theorem cp_ok {i n z : Int32} (hi : 0 ≤ i) (hn : 0 ≤ n) (hz : z ≤ 48) (h : ¬ z.toInt64 < i.toInt64 + n.toInt64) : i ≤ 48 ∧ n ≤ 48 ∧ i + n ≤ z ∧ 0 ≤ z := by
  rw [Int64.lt_iff_toInt_lt, Int64.toInt_add, Int32.toInt_toInt64, Int32.toInt_toInt64, Int32.toInt_toInt64] at h
  rw [Int32.le_iff_toInt_le, Int32.toInt_zero] at hi hn
  rw [Int32.le_iff_toInt_le] at hz
  have hz : z.toInt ≤ 48 := hz
  have a1 := Int32.toInt_lt i
  have a2 := Int32.toInt_lt n
  rw [Int.bmod_eq_of_le (by omega) (by omega)] at h
  have e : (i + n).toInt = i.toInt + n.toInt := by rw [Int32.toInt_add, Int.bmod_eq_of_le (by omega) (by omega)]
  refine ⟨?_, ?_, ?_, ?_⟩ <;> rw [Int32.le_iff_toInt_le]
  · show i.toInt ≤ 48; omega
  · show n.toInt ≤ 48; omega
  · rw [e]; omega
  · rw [Int32.toInt_zero]; omega
