/-! the plain side 3: a pass of the sort -/
set_option maxRecDepth 100000
theorem blk_s1 {r : Nat → Int64} {pl : Nat → Nat} {y n fr : Nat} (h : blk r pl y n) (hy : 0 < y) (hq : ∃ q, fr = q * (2 * y)) : srt r pl fr (min (fr + y) n) := by
  obtain ⟨q, rfl⟩ := hq
  have := blk_run (q := q * 2) h hy
  rwa [Nat.mul_assoc] at this
theorem blk_s2 {r : Nat → Int64} {pl : Nat → Nat} {y n fr : Nat} (h : blk r pl y n) (hy : 0 < y) (hq : ∃ q, fr = q * (2 * y)) : srt r pl (min (fr + y) n) (min (fr + 2 * y) n) := by
  obtain ⟨q, rfl⟩ := hq
  by_cases hn : q * (2 * y) + y ≤ n
  · have := blk_run (q := q * 2 + 1) h hy
    have e : (q * 2 + 1) * y = q * (2 * y) + y := by rw [Nat.add_mul, Nat.mul_assoc, Nat.one_mul]
    rw [e] at this
    rw [Nat.min_eq_left hn]
    rw [show q * (2 * y) + 2 * y = q * (2 * y) + y + y by omega]
    exact this
  · intro i j h1 h2 h3
    omega
/-- other holds, up to m, the merged runs of pl: each place's value comes out of its own run of y2 -/
def SB (r : Nat → Int64) (pl ol : Nat → Nat) (y2 m n : Nat) : Prop := (∀ i, i < m → ∃ i', i' < n ∧ i' / y2 = i / y2 ∧ ol i = pl i') ∧ inj ol 0 m ∧ blk r ol y2 m
theorem SB_0 {r : Nat → Int64} {pl ol : Nat → Nat} {y2 n : Nat} : SB r pl ol y2 0 n := ⟨fun i h => by omega, fun i j _ h => by omega, fun i j _ h => by omega⟩
theorem div_in {q y2 i : Nat} (h1 : q * y2 ≤ i) (h2 : i < q * y2 + y2) : i / y2 = q := Nat.div_eq_of_lt_le h1 (by rw [Nat.add_mul, Nat.one_mul]; exact h2)
theorem div_lt' {q y2 i : Nat} (hy : 0 < y2) (h : i < q * y2) : i / y2 < q := (Nat.div_lt_iff_lt_mul hy).mpr h
def glue (ol ol2 : Nat → Nat) (a b : Nat) : Nat → Nat := fun j => if a ≤ j ∧ j < b then ol2 j else ol j
theorem glue_in {ol ol2 : Nat → Nat} {a b j : Nat} (h : a ≤ j ∧ j < b) : glue ol ol2 a b j = ol2 j := if_pos h
theorem glue_out {ol ol2 : Nat → Nat} {a b j : Nat} (h : ¬ (a ≤ j ∧ j < b)) : glue ol ol2 a b j = ol j := if_neg h
theorem SB_step {r : Nat → Int64} {pl ol ol2 : Nat → Nat} {y2 fr n : Nat} (h : SB r pl ol y2 fr n) (hy : 0 < y2) (hq : ∃ q, fr = q * y2) (hn : fr < n) (hi : inj pl 0 n) (hj : JN r pl ol2 fr (min (fr + y2) n)) : SB r pl (glue ol ol2 fr (min (fr + y2) n)) y2 (min (fr + y2) n) n := by
  obtain ⟨q, rfl⟩ := hq
  obtain ⟨h1, h2, h3⟩ := h
  obtain ⟨j1, j2, j3⟩ := hj
  have key : ∀ i, i < min (q * y2 + y2) n → ∃ i', i' < n ∧ i' / y2 = i / y2 ∧ glue ol ol2 (q * y2) (min (q * y2 + y2) n) i = pl i' := by
    intro i hi'
    by_cases e : q * y2 ≤ i
    · rw [glue_in ⟨e, hi'⟩]
      obtain ⟨i', a1, a2, a3⟩ := j1 i e hi'
      exact ⟨i', by omega, by rw [div_in (q := q) a1 (by omega), div_in (q := q) e (by omega)], a3⟩
    · rw [glue_out (by omega)]
      exact h1 i (by omega)
  refine ⟨key, fun i j _ b1 _ b2 e => ?_, fun i j a1 a2 a3 => ?_⟩
  · obtain ⟨i', u1, u2, u3⟩ := key i b1
    obtain ⟨j', v1, v2, v3⟩ := key j b2
    have e0 := e
    rw [u3, v3] at e
    have e2 := hi i' j' (Nat.zero_le _) u1 (Nat.zero_le _) v1 e
    have e3 : i / y2 = j / y2 := by rw [← u2, ← v2, e2]
    by_cases ei : q * y2 ≤ i <;> by_cases ej : q * y2 ≤ j
    · rw [glue_in ⟨ei, b1⟩, glue_in ⟨ej, b2⟩] at e0
      exact j2 i j ei b1 ej b2 e0
    · have := div_in (q := q) ei (by omega)
      have := div_lt' hy (Nat.not_le.mp ej)
      omega
    · have := div_in (q := q) ej (by omega)
      have := div_lt' hy (Nat.not_le.mp ei)
      omega
    · rw [glue_out (by omega), glue_out (by omega)] at e0
      exact h2 i j (Nat.zero_le _) (by omega) (Nat.zero_le _) (by omega) e0
  · by_cases ei : q * y2 ≤ i
    · rw [glue_in ⟨ei, by omega⟩, glue_in ⟨by omega, a2⟩]
      exact j3 i j ei a1 a2
    · have hi2 := div_lt' hy (Nat.not_le.mp ei)
      by_cases ej : q * y2 ≤ j
      · have := div_in (q := q) ej (by omega)
        omega
      · rw [glue_out (by omega), glue_out (by omega)]
        exact h3 i j a1 (by omega) a3
theorem SB_end {r : Nat → Int64} {pl ol : Nat → Nat} {y2 m n : Nat} (h : SB r pl ol y2 m n) (hm : m = n) (hr : ∀ j, j < n → pl j < n) : (∀ j, j < n → ol j < n) ∧ inj ol 0 n ∧ blk r ol y2 n := by
  subst hm
  refine ⟨fun j hj => ?_, h.2.1, h.2.2⟩
  obtain ⟨i', a1, a2, a3⟩ := h.1 j hj
  rw [a3]; exact hr i' a1
theorem inj_sub {pl : Nat → Nat} {a b n : Nat} (h : inj pl 0 n) (hb : b ≤ n) : inj pl a b := fun i j _ h2 _ h4 e => h i j (Nat.zero_le _) (by omega) (Nat.zero_le _) (by omega) e
