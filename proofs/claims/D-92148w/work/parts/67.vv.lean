/-! THE COSTS OF ACTS, in closed form: w: the strokes of the twelve notches; G: the place (and the hour) that is meant, 0 to 11; a state is 12 * place + hour. -/
def vd (G a : Nat) : Nat := (G + 12 - a) % 12
def vh (w : Nat → Nat) : Nat → Nat → Nat
  | 0, _ => 0
  | n + 1, a => w (a % 12) + vh w n (a + 1)
def vr (d e : Nat) : Nat := if e ≤ d then d else d + 12 - e
def vV (w : Nat → Nat) (G s : Nat) : Nat := 1000 * vh w (vd G (s / 12)) (s / 12) + vr (vd G (s / 12)) (vd G (s % 12))
def vled (s a : Nat) : Nat := if a = 0 then 12 * ((s / 12 + 1) % 12) + s % 12 else if a = 1 then 12 * ((s / 12 + 1) % 12) + (s % 12 + 1) % 12 else 12 * (s / 12) + (s % 12 + 11) % 12
def vpr (w : Nat → Nat) (s a : Nat) : Nat := if a < 2 then 1000 * w (s / 12) + 1 else 1
theorem vh_per (w : Nat → Nat) : ∀ n a, vh w n (a + 12) = vh w n a := by
  intro n
  induction n with
  | zero => intro a; rfl
  | succ n ih =>
    intro a
    show w ((a + 12) % 12) + vh w n (a + 12 + 1) = w (a % 12) + vh w n (a + 1)
    rw [Nat.add_mod_right, show a + 12 + 1 = (a + 1) + 12 by omega, ih]
theorem vh_next (w : Nat → Nat) (n a : Nat) (ha : a < 12) : vh w n (a + 1) = vh w n ((a + 1) % 12) := by
  by_cases h : a + 1 < 12
  · rw [Nat.mod_eq_of_lt h]
  · have : a = 11 := by omega
    subst this
    exact vh_per w n 0
theorem vh_le (w : Nat → Nat) (hw : ∀ i, i < 12 → w i ≤ 24) : ∀ n a, vh w n a ≤ 24 * n := by
  intro n
  induction n with
  | zero => intro a; exact Nat.le_refl 0
  | succ n ih =>
    intro a
    have h1 := ih (a + 1)
    have h2 := hw (a % 12) (Nat.mod_lt _ (by decide))
    show w (a % 12) + vh w n (a + 1) ≤ _
    omega
theorem vr_le {d e : Nat} (hd : d < 12) : vr d e ≤ 11 := by
  unfold vr
  split <;> omega
theorem vd_lt (G a : Nat) : vd G a < 12 := Nat.mod_lt _ (by decide)
theorem vV_le (w : Nat → Nat) (hw : ∀ i, i < 12 → w i ≤ 24) (G s : Nat) : vV w G s ≤ 264011 := by
  have h1 := vh_le w hw (vd G (s / 12)) (s / 12)
  have h2 := vd_lt G (s / 12)
  have h3 := vr_le (d := vd G (s / 12)) (e := vd G (s % 12)) h2
  unfold vV
  omega
theorem vled_lt {s a : Nat} (hs : s < 144) : vled s a < 144 := by
  unfold vled
  (repeat' split) <;> omega
theorem vled_0 {s : Nat} (hs : s < 144) : vled s 0 / 12 = (s / 12 + 1) % 12 ∧ vled s 0 % 12 = s % 12 := by
  show (12 * ((s / 12 + 1) % 12) + s % 12) / 12 = _ ∧ (12 * ((s / 12 + 1) % 12) + s % 12) % 12 = _
  omega
theorem vled_1 {s : Nat} (hs : s < 144) : vled s 1 / 12 = (s / 12 + 1) % 12 ∧ vled s 1 % 12 = (s % 12 + 1) % 12 := by
  show (12 * ((s / 12 + 1) % 12) + (s % 12 + 1) % 12) / 12 = _ ∧ (12 * ((s / 12 + 1) % 12) + (s % 12 + 1) % 12) % 12 = _
  omega
theorem vled_2 {s : Nat} (hs : s < 144) : vled s 2 / 12 = s / 12 ∧ vled s 2 % 12 = (s % 12 + 11) % 12 := by
  show (12 * (s / 12) + (s % 12 + 11) % 12) / 12 = _ ∧ (12 * (s / 12) + (s % 12 + 11) % 12) % 12 = _
  omega
theorem vd_up {G a : Nat} (hG : G < 12) (ha : a < 12) : vd G ((a + 1) % 12) = if vd G a = 0 then 11 else vd G a - 1 := by
  unfold vd
  split <;> omega
theorem vd_dn {G a : Nat} (hG : G < 12) (ha : a < 12) : vd G ((a + 11) % 12) = if vd G a = 11 then 0 else vd G a + 1 := by
  unfold vd
  split <;> omega
/-- the strokes up to the place that is meant, by the next place -/
theorem vh_step (w : Nat → Nat) {G a : Nat} (hG : G < 12) (ha : a < 12) (hd : vd G a ≠ 0) : vh w (vd G a) a = w a + vh w (vd G ((a + 1) % 12)) ((a + 1) % 12) := by
  rw [vd_up hG ha, if_neg hd]
  obtain ⟨n, hn⟩ : ∃ n, vd G a = n + 1 := ⟨vd G a - 1, by omega⟩
  rw [hn]
  show w (a % 12) + vh w n (a + 1) = _
  rw [Nat.mod_eq_of_lt ha, vh_next w n a ha]
  rfl
/-- no act makes it cheaper -/
theorem vV_A (w : Nat → Nat) (hw : ∀ i, i < 12 → 1 ≤ w i) {G s a : Nat} (hG : G < 12) (hs : s < 144) (ha : a < 3) : vV w G s ≤ vpr w s a + vV w G (vled s a) := by
  have h12 : s / 12 < 12 := by omega
  have hm : s % 12 < 12 := by omega
  have hw1 := hw _ h12
  have hd := vd_lt G (s / 12)
  have he := vd_lt G (s % 12)
  have ha3 : a = 0 ∨ a = 1 ∨ a = 2 := by omega
  rcases ha3 with rfl | rfl | rfl
  · have e := vled_0 hs
    unfold vV vpr
    rw [e.1, e.2, if_pos (by decide)]
    by_cases h0 : vd G (s / 12) = 0
    · rw [h0]
      show 1000 * 0 + vr 0 _ ≤ _
      have := vr_le (d := 0) (e := vd G (s % 12)) (by decide)
      omega
    · rw [vh_step w hG h12 h0, vd_up hG h12, if_neg h0]
      unfold vr
      (repeat' split) <;> omega
  · have e := vled_1 hs
    unfold vV vpr
    rw [e.1, e.2, if_pos (by decide)]
    by_cases h0 : vd G (s / 12) = 0
    · rw [h0]
      show 1000 * 0 + vr 0 _ ≤ _
      have := vr_le (d := 0) (e := vd G (s % 12)) (by decide)
      omega
    · rw [vh_step w hG h12 h0, vd_up hG h12, if_neg h0, vd_up hG hm]
      unfold vr
      (repeat' split) <;> omega
  · have e := vled_2 hs
    unfold vV vpr
    rw [e.1, e.2, if_neg (by decide), vd_dn hG hm]
    unfold vr
    (repeat' split) <;> omega
/-- some act keeps it, if it isn't nought -/
theorem vV_B (w : Nat → Nat) {G s : Nat} (hG : G < 12) (hs : s < 144) (hne : s ≠ 13 * G) : ∃ a, a < 3 ∧ vV w G s = vpr w s a + vV w G (vled s a) := by
  have h12 : s / 12 < 12 := by omega
  have hm : s % 12 < 12 := by omega
  have hd := vd_lt G (s / 12)
  have he := vd_lt G (s % 12)
  have hde : ¬ (vd G (s / 12) = 0 ∧ vd G (s % 12) = 0) := by
    unfold vd
    omega
  by_cases h1 : vd G (s % 12) ≤ vd G (s / 12)
  · have h0 : vd G (s / 12) ≠ 0 := by omega
    by_cases h2 : vd G (s % 12) = 0
    · refine ⟨0, by decide, ?_⟩
      have e := vled_0 hs
      unfold vV vpr
      rw [e.1, e.2, if_pos (by decide), vh_step w hG h12 h0, vd_up hG h12, if_neg h0, h2]
      unfold vr
      (repeat' split) <;> omega
    · refine ⟨1, by decide, ?_⟩
      have e := vled_1 hs
      unfold vV vpr
      rw [e.1, e.2, if_pos (by decide), vh_step w hG h12 h0, vd_up hG h12, if_neg h0, vd_up hG hm, if_neg h2]
      unfold vr
      (repeat' split) <;> omega
  · refine ⟨2, by decide, ?_⟩
    have e := vled_2 hs
    unfold vV vpr
    rw [e.1, e.2, if_neg (by decide), vd_dn hG hm]
    unfold vr
    (repeat' split) <;> omega
theorem vV_goal (w : Nat → Nat) {G : Nat} (hG : G < 12) : vV w G (13 * G) = 0 := by
  have h1 : vd G (13 * G / 12) = 0 := by unfold vd; omega
  have h2 : vd G (13 * G % 12) = 0 := by unfold vd; omega
  unfold vV
  rw [h1, h2]
  rfl
theorem vV_pos (w : Nat → Nat) {G s : Nat} (hG : G < 12) (hs : s < 144) (hne : s ≠ 13 * G) : 0 < vV w G s := by
  obtain ⟨a, _, h⟩ := vV_B w hG hs hne
  rw [h]
  unfold vpr
  split <;> omega
theorem vV_mod (w : Nat → Nat) (G s : Nat) : vV w G s % 1000 = vr (vd G (s / 12)) (vd G (s % 12)) ∧ vV w G s / 1000 = vh w (vd G (s / 12)) (s / 12) := by
  have h := vr_le (d := vd G (s / 12)) (e := vd G (s % 12)) (vd_lt _ _)
  unfold vV
  omega
/-- along a kept act the rest of acts falls by one -/
theorem vV_C (w : Nat → Nat) {G s a : Nat} (h : vV w G s = vpr w s a + vV w G (vled s a)) : vV w G s % 1000 = vV w G (vled s a) % 1000 + 1 := by
  have h1 := (vV_mod w G s).1
  have h2 := (vV_mod w G (vled s a)).1
  have h3 := vr_le (d := vd G (s / 12)) (e := vd G (s % 12)) (vd_lt _ _)
  have h4 := vr_le (d := vd G (vled s a / 12)) (e := vd G (vled s a % 12)) (vd_lt _ _)
  rw [← h1] at h3
  rw [← h2] at h4
  unfold vpr at h
  split at h <;> omega
/-! THE CLASS's WAY TO THEM: less than nought is 'not known yet'. -/
def thr (w : Nat → Nat) (c : Nat → Int32) (k a : Nat) : Int32 := if c (vled k a) < 0 then -9 else nI (vpr w k a) + c (vled k a)
def NIc (w : Nat → Nat) (c : Nat → Int32) (k a : Nat) : Prop := ¬ (0 ≤ thr w c k a ∧ (c k < 0 ∨ thr w c k a < c k))
def VIc (w : Nat → Nat) (G : Nat) (c : Nat → Int32) : Prop := (∀ k, k < 144 → c k < 0 ∨ ((vV w G k : Nat) : Int) ≤ (c k).toInt) ∧ c (13 * G) = 0
def w24 (w : Nat → Nat) : Prop := ∀ i, i < 12 → 1 ≤ w i ∧ w i ≤ 24
theorem vpr_le {w : Nat → Nat} (hw : w24 w) {k a : Nat} (hk : k < 144) : 1 ≤ vpr w k a ∧ vpr w k a ≤ 24001 := by
  have := hw (k / 12) (by omega)
  unfold vpr
  split <;> omega
theorem thr_val {w : Nat → Nat} (hw : w24 w) {c : Nat → Int32} {k a : Nat} (hk : k < 144) (h : 0 ≤ thr w c k a) : ¬ c (vled k a) < 0 ∧ (thr w c k a).toInt = (vpr w k a : Int) + (c (vled k a)).toInt := by
  have hp := vpr_le hw (a := a) hk
  unfold thr at h ⊢
  by_cases h0 : c (vled k a) < 0
  · rw [if_pos h0] at h
    exact absurd h (by decide)
  · rw [if_neg h0] at h ⊢
    refine ⟨h0, ?_⟩
    have e := nI_toInt (n := vpr w k a) (by omega)
    have b := Int32.toInt_lt (c (vled k a))
    rw [i_lt] at h0
    rw [i_le] at h
    have z : (0 : Int32).toInt = 0 := rfl
    rw [z] at h h0
    rw [Int32.toInt_add, e] at h ⊢
    by_cases hov : (vpr w k a : Int) + (c (vled k a)).toInt < 2147483648
    · rw [Int.bmod_eq_of_le (by omega) (by omega)]
    · exfalso
      have : ((vpr w k a : Int) + (c (vled k a)).toInt).bmod (2 ^ 32) = (vpr w k a : Int) + (c (vled k a)).toInt - 4294967296 := by
        rw [Int.bmod_def]
        omega
      rw [this] at h
      omega
theorem VIc_upd {w : Nat → Nat} (hw : w24 w) {G : Nat} (hG : G < 12) {c : Nat → Int32} {k a : Nat} (hk : k < 144) (ha : a < 3) (hV : VIc w G c) (h0 : 0 ≤ thr w c k a) (h1 : c k < 0 ∨ thr w c k a < c k) : VIc w G (upd c k (thr w c k a)) := by
  have hv := thr_val hw hk h0
  have hl := vled_lt (a := a) hk
  have hA := vV_A w (fun i hi => (hw i hi).1) hG hk ha
  refine ⟨fun i hi => ?_, ?_⟩
  · by_cases h : i = k
    · subst h
      rw [pk_us]
      refine Or.inr ?_
      rw [hv.2]
      rcases hV.1 _ hl with q | q
      · exact absurd q hv.1
      · omega
    · rw [pk_un h]
      exact hV.1 i hi
  · by_cases h : 13 * G = k
    · subst h
      rw [hV.2] at h1
      rcases h1 with q | q
      · exact absurd q (by decide)
      · exact absurd q (Int32.not_lt.mpr h0)
    · rw [pk_un h]
      exact hV.2
theorem VIc_fix {w : Nat → Nat} (hw : w24 w) {G : Nat} (hG : G < 12) {c : Nat → Int32} (hV : VIc w G c) (hF : ∀ k a, k < 144 → a < 3 → NIc w c k a) : ∀ k, k < 144 → c k = nI (vV w G k) := by
  have up : ∀ n k, k < 144 → vV w G k ≤ n → ¬ c k < 0 ∧ (c k).toInt ≤ (vV w G k : Int) := by
    intro n
    induction n with
    | zero =>
      intro k hk hn
      by_cases h : k = 13 * G
      · subst h
        rw [hV.2]
        exact ⟨by decide, by show (0 : Int) ≤ _; omega⟩
      · have := vV_pos w hG hk h
        omega
    | succ n ih =>
      intro k hk hn
      by_cases h : k = 13 * G
      · subst h
        rw [hV.2]
        exact ⟨by decide, by show (0 : Int) ≤ _; omega⟩
      · obtain ⟨a, ha, e⟩ := vV_B w hG hk h
        have hl := vled_lt (a := a) hk
        have hp := vpr_le hw (a := a) hk
        have hb := vV_le w (fun i hi => (hw i hi).2) G (vled k a)
        obtain ⟨h1, h2⟩ := ih (vled k a) hl (by omega)
        have hn0 := hF k a hk ha
        have hth : thr w c k a = nI (vpr w k a) + c (vled k a) := if_neg h1
        have e1 := nI_toInt (n := vpr w k a) (by omega)
        rw [i_lt] at h1
        have z : (0 : Int32).toInt = 0 := rfl
        rw [z] at h1
        have e2 : (thr w c k a).toInt = (vpr w k a : Int) + (c (vled k a)).toInt := by
          rw [hth, a32 (by rw [e1]; omega), e1]
        have h3 : 0 ≤ thr w c k a := by rw [i_le, e2, z]; omega
        have h4 : ¬ (c k < 0 ∨ thr w c k a < c k) := fun q => hn0 ⟨h3, q⟩
        refine ⟨fun q => h4 (Or.inl q), ?_⟩
        have h5 : ¬ thr w c k a < c k := fun q => h4 (Or.inr q)
        rw [i_lt, e2] at h5
        omega
  intro k hk
  obtain ⟨h1, h2⟩ := up _ k hk (Nat.le_refl _)
  have hb := vV_le w (fun i hi => (hw i hi).2) G k
  rw [i_eq, nI_toInt (by omega)]
  rcases hV.1 k hk with q | q
  · exact absurd q h1
  · omega
/-- a sum that falls -/
def cwt (v : Int32) : Nat := if v < 0 then 2147483648 else v.toNatClampNeg
def csX (c : Nat → Int32) : Nat → Nat
  | 0 => 0
  | n + 1 => csX c n + cwt (c n)
theorem csX_out (c : Nat → Int32) (k : Nat) (v : Int32) : ∀ n, n ≤ k → csX (upd c k v) n = csX c n := by
  intro n
  induction n with
  | zero => intro _; rfl
  | succ n ih =>
    intro h
    show csX (upd c k v) n + cwt (upd c k v n) = csX c n + cwt (c n)
    rw [ih (by omega), pk_un (by omega)]
theorem csX_upd (c : Nat → Int32) (k : Nat) (v : Int32) : ∀ n, k < n → csX (upd c k v) n + cwt (c k) = csX c n + cwt v := by
  intro n
  induction n with
  | zero => intro h; omega
  | succ n ih =>
    intro h
    show csX (upd c k v) n + cwt (upd c k v n) + cwt (c k) = csX c n + cwt (c n) + cwt v
    by_cases e : n = k
    · subst e
      rw [csX_out c n v n (Nat.le_refl _), pk_us]
      omega
    · have := ih (by omega)
      rw [pk_un e]
      omega
theorem cwt_lt {v u : Int32} (h0 : 0 ≤ v) (h1 : u < 0 ∨ v < u) : cwt v < cwt u := by
  have b := Int32.toInt_lt v
  have z : (0 : Int32).toInt = 0 := rfl
  have n0 : ¬ v < 0 := Int32.not_lt.mpr h0
  unfold cwt
  rw [if_neg n0]
  rw [i_le, z] at h0
  split
  · unfold Int32.toNatClampNeg; omega
  · rename_i h
    rcases h1 with q | q
    · exact absurd q h
    · rw [i_lt] at q
      unfold Int32.toNatClampNeg
      omega
theorem csX_dn {c : Nat → Int32} {k : Nat} {v : Int32} (hk : k < 144) (h0 : 0 ≤ v) (h1 : c k < 0 ∨ v < c k) : csX (upd c k v) 144 + 1 ≤ csX c 144 := by
  have a := csX_upd c k v 144 hk
  have b := cwt_lt h0 h1
  omega
