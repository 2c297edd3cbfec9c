/-! the plain side 2: putting places in order -/
set_option maxRecDepth 100000
def nu {α : Type} (f : Nat → α) (k : Nat) (v : α) : Nat → α := fun j => if j = k then v else f j
theorem nu_s {α : Type} {f : Nat → α} {k : Nat} {v : α} : nu f k v k = v := if_pos rfl
theorem nu_n {α : Type} {f : Nat → α} {k j : Nat} {v : α} (h : j ≠ k) : nu f k v j = f j := if_neg h
theorem upd_s {f : Nat → Int32} {k : Nat} {v : Int32} : upd f k v k = v := if_pos rfl
theorem upd_n {f : Nat → Int32} {k j : Nat} {v : Int32} (h : j ≠ k) : upd f k v j = f j := if_neg h
theorem updL_s {f : Nat → Int64} {k : Nat} {v : Int64} : vp_updL f k v k = v := if_pos rfl
theorem updL_n {f : Nat → Int64} {k j : Nat} {v : Int64} (h : j ≠ k) : vp_updL f k v j = f j := if_neg h
theorem i64_tr {a b c : Int64} (h1 : a ≤ b) (h2 : b ≤ c) : a ≤ c := by
  rw [Int64.le_iff_toInt_le] at *; omega
theorem i64_rf (a : Int64) : a ≤ a := by rw [Int64.le_iff_toInt_le]; omega
theorem i64_lt {a b : Int64} (h : a < b) : a ≤ b := by
  rw [Int64.le_iff_toInt_le]; rw [Int64.lt_iff_toInt_lt] at h; omega
theorem i64_nl {a b : Int64} (h : ¬ a < b) : b ≤ a := Int64.not_lt.mp h
/-- two runs of pl, from..mid and mid..to, being merged: a and b are next; ol holds what was taken, up to k -/
def MI (r : Nat → Int64) (pl ol : Nat → Nat) (fr mid to_ a b k : Nat) : Prop :=
  (∀ i, fr ≤ i → i < k → ∃ i', ((fr ≤ i' ∧ i' < a) ∨ (mid ≤ i' ∧ i' < b)) ∧ ol i = pl i') ∧
  (∀ i j, fr ≤ i → i < k → fr ≤ j → j < k → ol i = ol j → i = j) ∧
  (∀ i j, fr ≤ i → i ≤ j → j < k → r (ol i) ≤ r (ol j)) ∧
  (∀ i, fr ≤ i → i < k → (∀ j, a ≤ j → j < mid → r (ol i) ≤ r (pl j)) ∧ (∀ j, b ≤ j → j < to_ → r (ol i) ≤ r (pl j)))
def JN (r : Nat → Int64) (pl ol : Nat → Nat) (a b : Nat) : Prop :=
  (∀ i, a ≤ i → i < b → ∃ i', a ≤ i' ∧ i' < b ∧ ol i = pl i') ∧ (∀ i j, a ≤ i → i < b → a ≤ j → j < b → ol i = ol j → i = j) ∧ (∀ i j, a ≤ i → i ≤ j → j < b → r (ol i) ≤ r (ol j))
def inj (pl : Nat → Nat) (a b : Nat) : Prop := ∀ i j, a ≤ i → i < b → a ≤ j → j < b → pl i = pl j → i = j
def srt (r : Nat → Int64) (pl : Nat → Nat) (a b : Nat) : Prop := ∀ i j, a ≤ i → i ≤ j → j < b → r (pl i) ≤ r (pl j)
theorem MI_0 {r : Nat → Int64} {pl ol : Nat → Nat} {fr mid to_ : Nat} : MI r pl ol fr mid to_ fr mid fr :=
  ⟨fun i h1 h2 => by omega, fun i j h1 h2 => by omega, fun i j h1 h2 h3 => by omega, fun i h1 h2 => by omega⟩
theorem MI_a {r : Nat → Int64} {pl ol : Nat → Nat} {fr mid to_ a b k : Nat} (h : MI r pl ol fr mid to_ a b k) (hi : inj pl fr to_) (s1 : srt r pl fr mid) (s2 : srt r pl mid to_) (h1 : fr ≤ a) (h2 : a < mid) (h3 : mid ≤ b) (h4 : b ≤ to_) (hk : k + mid = a + b) (hc : b < to_ → r (pl a) ≤ r (pl b)) : MI r pl (nu ol k (pl a)) fr mid to_ (a + 1) b (k + 1) := by
  obtain ⟨m1, m2, m3, m4⟩ := h
  refine ⟨fun i g1 g2 => ?_, fun i j g1 g2 g3 g4 e => ?_, fun i j g1 g2 g3 => ?_, fun i g1 g2 => ?_⟩
  · by_cases e : i = k
    · exact ⟨a, Or.inl ⟨h1, by omega⟩, by rw [e, nu_s]⟩
    · obtain ⟨i', q1, q2⟩ := m1 i g1 (by omega)
      exact ⟨i', by omega, by rw [nu_n e]; exact q2⟩
  · by_cases e1 : i = k <;> by_cases e2 : j = k
    · omega
    · rw [e1, nu_s, nu_n e2] at e
      obtain ⟨i', q1, q2⟩ := m1 j g3 (by omega)
      rw [q2] at e
      have := hi a i' h1 (by omega) (by omega) (by omega) e
      omega
    · rw [e2, nu_s, nu_n e1] at e
      obtain ⟨i', q1, q2⟩ := m1 i g1 (by omega)
      rw [q2] at e
      have := hi i' a (by omega) (by omega) h1 (by omega) e
      omega
    · rw [nu_n e1, nu_n e2] at e
      exact m2 i j g1 (by omega) g3 (by omega) e
  · by_cases e2 : j = k
    · by_cases e1 : i = k
      · rw [e1, e2]; exact i64_rf _
      · rw [e2, nu_s, nu_n e1]
        exact (m4 i g1 (by omega)).1 a (by omega) h2
    · rw [nu_n e2, nu_n (by omega)]
      exact m3 i j g1 g2 (by omega)
  · by_cases e : i = k
    · rw [e, nu_s]
      refine ⟨fun j q1 q2 => s1 a j h1 (by omega) q2, fun j q1 q2 => i64_tr (hc (by omega)) (s2 b j h3 q1 q2)⟩
    · rw [nu_n e]
      exact ⟨fun j q1 q2 => (m4 i g1 (by omega)).1 j (by omega) q2, fun j q1 q2 => (m4 i g1 (by omega)).2 j q1 q2⟩
theorem MI_b {r : Nat → Int64} {pl ol : Nat → Nat} {fr mid to_ a b k : Nat} (h : MI r pl ol fr mid to_ a b k) (hi : inj pl fr to_) (s1 : srt r pl fr mid) (s2 : srt r pl mid to_) (h1 : fr ≤ a) (h2 : a ≤ mid) (h3 : mid ≤ b) (h4 : b < to_) (hk : k + mid = a + b) (hc : a < mid → r (pl b) ≤ r (pl a)) : MI r pl (nu ol k (pl b)) fr mid to_ a (b + 1) (k + 1) := by
  obtain ⟨m1, m2, m3, m4⟩ := h
  refine ⟨fun i g1 g2 => ?_, fun i j g1 g2 g3 g4 e => ?_, fun i j g1 g2 g3 => ?_, fun i g1 g2 => ?_⟩
  · by_cases e : i = k
    · exact ⟨b, Or.inr ⟨h3, by omega⟩, by rw [e, nu_s]⟩
    · obtain ⟨i', q1, q2⟩ := m1 i g1 (by omega)
      exact ⟨i', by omega, by rw [nu_n e]; exact q2⟩
  · by_cases e1 : i = k <;> by_cases e2 : j = k
    · omega
    · rw [e1, nu_s, nu_n e2] at e
      obtain ⟨i', q1, q2⟩ := m1 j g3 (by omega)
      rw [q2] at e
      have := hi b i' (by omega) (by omega) (by omega) (by omega) e
      omega
    · rw [e2, nu_s, nu_n e1] at e
      obtain ⟨i', q1, q2⟩ := m1 i g1 (by omega)
      rw [q2] at e
      have := hi i' b (by omega) (by omega) (by omega) (by omega) e
      omega
    · rw [nu_n e1, nu_n e2] at e
      exact m2 i j g1 (by omega) g3 (by omega) e
  · by_cases e2 : j = k
    · by_cases e1 : i = k
      · rw [e1, e2]; exact i64_rf _
      · rw [e2, nu_s, nu_n e1]
        exact (m4 i g1 (by omega)).2 b (by omega) h4
    · rw [nu_n e2, nu_n (by omega)]
      exact m3 i j g1 g2 (by omega)
  · by_cases e : i = k
    · rw [e, nu_s]
      refine ⟨fun j q1 q2 => i64_tr (hc (by omega)) (s1 a j h1 q1 q2), fun j q1 q2 => s2 b j h3 (by omega) q2⟩
    · rw [nu_n e]
      exact ⟨fun j q1 q2 => (m4 i g1 (by omega)).1 j q1 q2, fun j q1 q2 => (m4 i g1 (by omega)).2 j (by omega) q2⟩
theorem MI_end {r : Nat → Int64} {pl ol : Nat → Nat} {fr mid to_ a b k : Nat} (h : MI r pl ol fr mid to_ a b k) (h0 : fr ≤ mid) (h1 : a ≤ mid) (h2 : b ≤ to_) (h3 : mid ≤ b) (hk : k = to_) : JN r pl ol fr to_ := by
  obtain ⟨m1, m2, m3, -⟩ := h
  subst hk
  refine ⟨fun i g1 g2 => ?_, m2, m3⟩
  obtain ⟨i', q1, q2⟩ := m1 i g1 g2
  exact ⟨i', by omega, by omega, q2⟩
/-- the answer of Long.compare, and so of the order of longs -/
def cmp3 (a b : Int64) : Int32 := if a < b then -1 else if a = b then 0 else 1
theorem cmp3_lt (a b : Int64) : cmp3 a b < 0 ↔ a < b := by
  unfold cmp3
  by_cases h : a < b
  · rw [if_pos h]; exact ⟨fun _ => h, fun _ => by decide⟩
  · rw [if_neg h]
    refine ⟨fun q => ?_, fun q => absurd q h⟩
    split at q
    · exact absurd q (by decide)
    · exact absurd q (by decide)
/-- runs of length n are in order -/
def blk (r : Nat → Int64) (pl : Nat → Nat) (y n : Nat) : Prop := ∀ i j, i ≤ j → j < n → i / y = j / y → r (pl i) ≤ r (pl j)
theorem blk_1 {r : Nat → Int64} {pl : Nat → Nat} {n : Nat} : blk r pl 1 n := by
  intro i j h1 h2 h3
  rw [Nat.div_one, Nat.div_one] at h3
  rw [h3]; exact i64_rf _
theorem blk_end {r : Nat → Int64} {pl : Nat → Nat} {y n : Nat} (h : blk r pl y n) (hy : n ≤ y) : srt r pl 0 n := fun i j _ h2 h3 => h i j h2 h3 (by rw [Nat.div_eq_of_lt (by omega), Nat.div_eq_of_lt (by omega)])
theorem blk_run {r : Nat → Int64} {pl : Nat → Nat} {y n q : Nat} (h : blk r pl y n) (hy : 0 < y) : srt r pl (q * y) (min (q * y + y) n) := by
  intro i j h1 h2 h3
  refine h i j h2 (by omega) ?_
  have e1 : i / y = q := Nat.div_eq_of_lt_le (by rw [Nat.mul_comm]; rw [Nat.mul_comm] at h1; omega) (by rw [Nat.mul_comm, Nat.mul_succ, Nat.mul_comm]; omega)
  have e2 : j / y = q := Nat.div_eq_of_lt_le (by omega) (by rw [Nat.add_mul, Nat.one_mul]; omega)
  rw [e1, e2]
