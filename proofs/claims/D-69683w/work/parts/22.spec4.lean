/-! the plain side 4: which lane a word is of -/
set_option maxRecDepth 100000
abbrev isD (c : Nat) : Prop := 48 ≤ c ∧ c ≤ 57
/-- the number that digits tell -/
def val10 (ds : List Nat) : Nat := ds.foldl (fun v d => 10 * v + (d - 48)) 0
theorem val10_nil : val10 [] = 0 := rfl
theorem val10_snoc (ds : List Nat) (d : Nat) : val10 (ds ++ [d]) = 10 * val10 ds + (d - 48) := by
  unfold val10
  rw [List.foldl_append]; rfl
theorem take_S {t : List Nat} {k : Nat} (h : k < t.length) : t.take (k + 1) = t.take k ++ [t.getD k 0] := by
  rw [List.take_succ_eq_append_getElem h, List.getD_eq_getElem?_getD, List.getElem?_eq_getElem h]; rfl
theorem val10_S {t : List Nat} {k : Nat} (h : k < t.length) : val10 (t.take (k + 1)) = 10 * val10 (t.take k) + (t.getD k 0 - 48) := by rw [take_S h, val10_snoc]
theorem val10_le {t : List Nat} {k : Nat} (h : k ≤ t.length) : val10 (t.take k) ≤ val10 t := by
  have key : ∀ n, k + n ≤ t.length → val10 (t.take k) ≤ val10 (t.take (k + n)) := by
    intro n
    induction n with
    | zero => intro _; exact Nat.le_refl _
    | succ n ih =>
      intro hn
      rw [← Nat.add_assoc, val10_S (by omega)]
      have := ih (by omega)
      omega
  have := key (t.length - k) (by omega)
  rwa [show k + (t.length - k) = t.length by omega, List.take_length] at this
theorem val10_lt {ds : List Nat} (h : ∀ x ∈ ds, isD x) : val10 ds < 10 ^ ds.length := by
  have key : ∀ n, n ≤ ds.length → val10 (ds.take n) < 10 ^ n := by
    intro n
    induction n with
    | zero => intro _; rw [List.take_zero, val10_nil]; decide
    | succ n ih =>
      intro hn
      rw [val10_S (by omega)]
      have h1 := ih (by omega)
      have h2 : isD (ds.getD n 0) := by
        rw [List.getD_eq_getElem?_getD, List.getElem?_eq_getElem (by omega : n < ds.length)]
        exact h _ (List.getElem_mem _)
      unfold isD at h2
      rw [Nat.pow_succ]
      omega
  have := key ds.length (Nat.le_refl _)
  rwa [List.take_length] at this
/-- the lane of digits: 4, 5, or 8 -/
def wl (minus : Bool) (ds : List Nat) : Nat :=
  if 19 < ds.length then 8 else if ¬ (val10 ds ≤ 9223372036854775807) ∧ ¬ (minus = true ∧ val10 ds = 9223372036854775808) then 8
  else if val10 ds ≤ (if minus = true then 2147483648 else 2147483647) ∧ ds.length ≤ 10 then 4 else 5
/-- where the digits from k on end -/
def dEnd (t : List Nat) (k : Nat) : Nat := k + ((t.drop k).takeWhile (fun c => decide (isD c))).length
theorem dEnd_le {t : List Nat} {k : Nat} (h : k ≤ t.length) : dEnd t k ≤ t.length := by
  unfold dEnd
  have := (List.takeWhile_sublist (fun c => decide (isD c)) (l := t.drop k)).length_le
  rw [List.length_drop] at this
  omega
theorem dEnd_ge {t : List Nat} {k : Nat} : k ≤ dEnd t k := Nat.le_add_right _ _
theorem dEnd_S {t : List Nat} {k : Nat} (h : k < t.length) (hd : isD (t.getD k 0)) : dEnd t k = dEnd t (k + 1) := by
  unfold dEnd
  rw [drop_cons h, List.takeWhile_cons, if_pos (by simpa using hd)]
  simp; omega
theorem dEnd_stop {t : List Nat} {k : Nat} (h : k < t.length) (hd : ¬ isD (t.getD k 0)) : dEnd t k = k := by
  unfold dEnd
  rw [drop_cons h, List.takeWhile_cons, if_neg (by simpa using hd)]; rfl
theorem dEnd_end {t : List Nat} {k : Nat} (h : t.length ≤ k) : dEnd t k = k := by
  unfold dEnd
  rw [List.drop_of_length_le h]; rfl
def laneC (w : Wd) : Nat :=
  if w.2 = true then 8 else if w.1 = tx_true ∨ w.1 = tx_false then 0 else
  let fr := if w.1.getD 0 0 = 45 then 1 else 0
  let k := dEnd w.1 fr
  if k = fr then 8 else if k = w.1.length then wl (decide (fr = 1)) (w.1.drop fr)
  else if w.1.getD k 0 ≠ 46 then 8
  else if dEnd w.1 (k + 1) = w.1.length ∧ k + 1 < dEnd w.1 (k + 1) ∧ w.1.length - fr - 1 ≤ 15 then 7 else 8
theorem laneC_of {w : Wd} {fr k : Nat} (hq : w.2 = false) (h1 : w.1 ≠ tx_true) (h2 : w.1 ≠ tx_false) (hf : fr = if w.1.getD 0 0 = 45 then 1 else 0) (hk : k = dEnd w.1 fr) : laneC w = if k = fr then 8 else if k = w.1.length then wl (decide (fr = 1)) (w.1.drop fr) else if w.1.getD k 0 ≠ 46 then 8 else if dEnd w.1 (k + 1) = w.1.length ∧ k + 1 < dEnd w.1 (k + 1) ∧ w.1.length - fr - 1 ≤ 15 then 7 else 8 := by
  unfold laneC
  rw [if_neg (by rw [hq]; decide), if_neg (by intro q; rcases q with q | q; exact h1 q; exact h2 q)]
  subst hf; subst hk
  rfl
/-- a list of one length with one number: the only one -/
theorem val10_inj {t u : List Nat} (h1 : ∀ x ∈ t, isD x) (h2 : ∀ x ∈ u, isD x) (hl : t.length = u.length) (hv : val10 t = val10 u) : t = u := by
  have key : ∀ n, n ≤ t.length → val10 (t.take n) = val10 (u.take n) → t.take n = u.take n := by
    intro n
    induction n with
    | zero => intro _ _; rfl
    | succ n ih =>
      intro hn e
      have d1 : isD (t.getD n 0) := by
        rw [List.getD_eq_getElem?_getD, List.getElem?_eq_getElem (by omega : n < t.length)]; exact h1 _ (List.getElem_mem _)
      have d2 : isD (u.getD n 0) := by
        rw [List.getD_eq_getElem?_getD, List.getElem?_eq_getElem (by omega : n < u.length)]; exact h2 _ (List.getElem_mem _)
      unfold isD at d1 d2
      rw [val10_S (by omega), val10_S (by omega)] at e
      rw [take_S (by omega), take_S (by omega), ih (by omega) (by omega), show t.getD n 0 = u.getD n 0 by omega]
  have := key t.length (Nat.le_refl _)
  rw [List.take_length, hl, List.take_length] at this
  exact this hv
theorem tx_least_d : ∀ x ∈ tx_least, isD x := by decide
theorem tx_least_v : val10 tx_least = 9223372036854775808 := by decide
theorem val10_ne {ds : List Nat} (hd : ∀ x ∈ ds, isD x) (hl : ds.length ≤ 18) : val10 ds ≠ 9223372036854775808 := by
  intro q
  have h1 := val10_lt hd
  have h18 : 10 ^ ds.length ≤ 10 ^ 18 := Nat.pow_le_pow_right (by decide) hl
  have h2 : (10 : Nat) ^ 18 < 9223372036854775808 := by decide
  omega
theorem tAt_drop {wb : Nat → Int32} {a fr : Nat} {t : List Nat} (h : tAt wb a t) (hf : fr ≤ t.length) : tAt wb (a + fr) (t.drop fr) := by
  obtain ⟨h1, h2, h3⟩ := h
  refine ⟨fun j hj => ?_, fun x hx => h2 x (List.mem_of_mem_drop hx), by rw [List.length_drop]; omega⟩
  rw [List.length_drop] at hj
  rw [Nat.add_assoc, h1 (fr + j) (by omega), List.getD_eq_getElem?_getD, List.getD_eq_getElem?_getD, List.getElem?_drop]
theorem dEnd_all {t : List Nat} {k : Nat} (hk : k ≤ t.length) (h : dEnd t k = t.length) : ∀ x ∈ t.drop k, isD x := by
  have key : ∀ (l : List Nat), (l.takeWhile (fun c => decide (isD c))).length = l.length → ∀ x ∈ l, isD x := by
    intro l
    induction l with
    | nil => intro _ x hx; cases hx
    | cons y l ih =>
      intro hl x hx
      rw [List.takeWhile_cons] at hl
      split at hl
      · rename_i hy
        rcases List.mem_cons.mp hx with rfl | hx
        · simpa using hy
        · exact ih (by simpa using hl) x hx
      · simp at hl
  refine key (t.drop k) ?_
  unfold dEnd at h
  rw [List.length_drop]
  omega
