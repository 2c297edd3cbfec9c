/-! the plain side 5: tables, the lanes of columns -/
set_option maxRecDepth 100000
abbrev missW (w : Wd) : Prop := w.1 = [] ∧ w.2 = false
/-- how many digits a whole word has -/
def dl (w : Wd) : Nat := if w.1.getD 0 0 = 45 then w.1.length - 1 else w.1.length
abbrev takesW (ln : Nat) (w : Wd) : Prop := (ln = 7 ∧ (laneC w = 4 ∨ laneC w = 5) ∧ dl w ≤ 15) ∨ (¬ (ln = 7 ∧ (laneC w = 4 ∨ laneC w = 5)) ∧ (laneC w = ln ∨ (ln = 5 ∧ laneC w = 4)))
theorem wl_le (b : Bool) (ds : List Nat) : wl b ds ≤ 8 ∧ (wl b ds = 8 ∨ wl b ds = 4 ∨ wl b ds = 5) := by
  unfold wl
  repeat' split
  all_goals omega
theorem laneC_le (w : Wd) : laneC w ≤ 8 := by
  unfold laneC
  dsimp only
  repeat' split
  all_goals first | omega | exact (wl_le _ _).1
theorem laneC_q {w : Wd} (h : laneC w = 4 ∨ laneC w = 5) : w.2 = false := by
  cases hq : w.2 with
  | false => rfl
  | true =>
    have : laneC w = 8 := by unfold laneC; rw [if_pos hq]
    omega
theorem miss_pos {w : Wd} (hm : ¬ missW w) (hq : w.2 = false) : 0 < w.1.length := by
  rcases Nat.eq_zero_or_pos w.1.length with q | q
  · exact absurd ⟨List.length_eq_zero_iff.mp q, hq⟩ hm
  · exact q
abbrev colAny (cols rows : Nat) (cw : Nat → Wd) (c : Nat) : Prop := ∃ r, r < rows ∧ ¬ missW (cw (cols * r + c))
abbrev colAll (ln cols rows : Nat) (cw : Nat → Wd) (c : Nat) : Prop := ∀ r, r < rows → missW (cw (cols * r + c)) ∨ takesW ln (cw (cols * r + c))
/-- a column's lane -/
def laneT (cols rows : Nat) (cw : Nat → Wd) (c : Nat) : Nat :=
  if colAny cols rows cw c then (if colAll 0 cols rows cw c then 0 else if colAll 4 cols rows cw c then 4 else if colAll 5 cols rows cw c then 5 else if colAll 7 cols rows cw c then 7 else 8) else 8
/-- the cells of a table, in its rows -/
def TD (wb : Nat → Int32) (wn n : Nat) (f2 f3 : Nat → Int32) (cw : Nat → Wd) : Prop := ∀ k, k < n → f3 k = encL (cw k) ∧ (cw k).1.length ≤ 40 ∧ ∃ a, f2 k = nI a ∧ tAt wb a (cw k).1 ∧ a + (cw k).1.length ≤ wn
theorem ix_lt {cols rows c r : Nat} (hc : c < cols) (hr : r < rows) : cols * r + c < cols * rows := by
  have h1 : cols * (r + 1) ≤ cols * rows := Nat.mul_le_mul_left cols hr
  rw [Nat.mul_add, Nat.mul_one] at h1
  omega
