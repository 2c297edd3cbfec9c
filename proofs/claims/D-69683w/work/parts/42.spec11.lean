/-! the plain side 11: what is written -/
set_option maxRecDepth 100000
abbrev nMk (t : List Nat) : Prop := t.length = 0 ∨ t.getD 0 0 = 32 ∨ t.getD (t.length - 1) 0 = 32 ∨ ∃ j, j < t.length ∧ (t.getD j 0 = 34 ∨ t.getD j 0 = 44)
def esc1 (c : Nat) : List Nat := if c = 34 then [34, 34] else [c]
def esc : List Nat → List Nat
  | [] => []
  | c :: cs => esc1 c ++ esc cs
theorem esc_app (a b : List Nat) : esc (a ++ b) = esc a ++ esc b := by
  induction a with
  | nil => rfl
  | cons x a ih => show esc1 x ++ esc (a ++ b) = (esc1 x ++ esc a) ++ esc b; rw [ih, List.append_assoc]
theorem esc_S {t : List Nat} {k : Nat} (h : k < t.length) : esc (t.take (k + 1)) = esc (t.take k) ++ esc1 (t.getD k 0) := by
  rw [take_S h, esc_app]; show esc (t.take k) ++ (esc1 (t.getD k 0) ++ []) = _; rw [List.append_nil]
/-- a word as it is written; mk: 1 if it stands in signs -/
def sayO (t : List Nat) (mk : Int32) : List Nat := if mk = 0 then esc t else [34] ++ (esc t ++ [34])
def mkI (P : Prop) [Decidable P] : Int32 := if P then 1 else 0
def cellO (w : Wd) (ln : Nat) : List Nat := if missW w then [] else sayO w.1 (if nMk w.1 ∨ (ln = 8 ∧ w.2 = true) then 1 else 0)
def nameO (w : Wd) : List Nat := sayO w.1 (if nMk w.1 then 1 else 0)
def comO (c : Nat) : List Nat := if 0 < c then [44] else []
def hdrO (nw : Nat → Wd) : Nat → List Nat
  | 0 => []
  | c + 1 => hdrO nw c ++ (comO c ++ nameO (nw c))
def rowO (cols : Nat) (cw : Nat → Wd) (ln : Nat → Nat) (r : Nat) : Nat → List Nat
  | 0 => []
  | c + 1 => rowO cols cw ln r c ++ (comO c ++ cellO (cw (cols * r + c)) (ln c))
def bodyO (cols : Nat) (cw : Nat → Wd) (ln : Nat → Nat) : Nat → List Nat
  | 0 => []
  | r + 1 => bodyO cols cw ln r ++ (rowO cols cw ln r cols ++ [10])
def wrO (cols rows : Nat) (nw cw : Nat → Wd) (ln : Nat → Nat) : List Nat := (hdrO nw cols ++ [10]) ++ bodyO cols cw ln rows
theorem bodyO_le {cols : Nat} {cw : Nat → Wd} {ln : Nat → Nat} {r n : Nat} (h : r ≤ n) : (bodyO cols cw ln r).length ≤ (bodyO cols cw ln n).length := by
  obtain ⟨d, rfl⟩ : ∃ d, n = r + d := ⟨n - r, by omega⟩
  induction d with
  | zero => exact Nat.le_refl _
  | succ d ih => rw [← Nat.add_assoc]; show _ ≤ (bodyO cols cw ln (r + d) ++ _).length; rw [List.length_append]; have := ih (by omega); omega
