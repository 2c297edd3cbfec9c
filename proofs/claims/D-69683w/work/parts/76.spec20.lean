/-! the plain side 20: whole words of the reference (numbers below zero) -/
set_option maxRecDepth 100000
theorem lneg_S (V d : Nat) : lN 10 * (-lN V) - lN d = -lN (10 * V + d) := by
  rw [← lN_add, ← lN_mul]
  grind
theorem lneg_toInt {V : Nat} (h : V ≤ 9223372036854775808) : (-lN V).toInt = -(V : Int) := by
  rcases Nat.lt_or_eq_of_le h with q | q
  · rw [Int64.toInt_neg, pk_lT (by omega)]
    exact Int.bmod_eq_of_le (by omega) (by omega)
  · subst q; decide
theorem wq_c : ∀ d, d < 10 → (((-9223372036854775808 : Int64) + (nI d).toInt64) / 10).toInt = -(((9223372036854775808 - d) / 10 : Nat) : Int) := by decide +kernel
theorem wq {V d : Nat} (hV : V ≤ 9223372036854775808) (hd : d < 10) : (-lN V < ((-9223372036854775808 : Int64) + (nI d).toInt64) / 10) ↔ 9223372036854775808 < 10 * V + d := by
  rw [Int64.lt_iff_toInt_lt, lneg_toInt hV, wq_c d hd]
  omega
theorem w32 (x : Int64) : x = x.toInt32.toInt64 ↔ -2147483648 ≤ x.toInt ∧ x.toInt ≤ 2147483647 := by
  rw [← Int64.toInt_inj, Int32.toInt_toInt64, Int64.toInt_toInt32]
  have h1 := Int64.le_toInt x
  have h2 := Int64.toInt_lt x
  constructor
  · intro h
    have a1 := Int.le_bmod (x := x.toInt) (m := 2 ^ 32) (by decide)
    have a2 := Int.bmod_lt (x := x.toInt) (m := 2 ^ 32) (by decide)
    omega
  · intro h
    exact (Int.bmod_eq_of_le (by omega) (by omega)).symm
theorem wi_m {V : Nat} (hV : V ≤ 9223372036854775808) : -lN V = (-lN V).toInt32.toInt64 ↔ V ≤ 2147483648 := by
  rw [w32, lneg_toInt hV]; omega
theorem wi_p {V : Nat} (hV : V < 9223372036854775808) : - -lN V = (- -lN V).toInt32.toInt64 ↔ V ≤ 2147483647 := by
  have e : - -lN V = lN V := Int64.neg_neg
  rw [e, w32, pk_lT (by omega)]; omega
theorem w_min {V : Nat} (hV : V ≤ 9223372036854775808) : -lN V = -9223372036854775808 ↔ V = 9223372036854775808 := by
  rw [← Int64.toInt_inj, lneg_toInt hV]
  have e : (-9223372036854775808 : Int64).toInt = -9223372036854775808 := by decide
  rw [e]; omega
/-- the digits of a whole word, one more -/
theorem v10_S {t : List Nat} {fr k : Nat} (hf : fr ≤ k) (hk : k < t.length) : val10 ((t.drop fr).take (k + 1 - fr)) = 10 * val10 ((t.drop fr).take (k - fr)) + (t.getD k 0 - 48) := by
  have h1 : k - fr < (t.drop fr).length := by rw [List.length_drop]; omega
  have h2 := val10_S h1
  rw [show k + 1 - fr = k - fr + 1 by omega, h2, List.getD_eq_getElem?_getD, List.getElem?_drop, show fr + (k - fr) = k by omega, ← List.getD_eq_getElem?_getD]
theorem lneg_S2 {V d : Nat} (hd : d < 10) : 10 * (-lN V) - (nI d).toInt64 = -lN (10 * V + d) := by
  rw [nI_l (by omega)]; exact lneg_S V d
abbrev whW (t : List Nat) (ln : Nat) : Prop := (frT t < t.length ∧ dEnd t (frT t) = t.length) ∧ (wl (decide (frT t = 1)) (t.drop (frT t)) = 4 ∨ (ln = 5 ∧ wl (decide (frT t = 1)) (t.drop (frT t)) = 5))
theorem dgF_y {t : List Nat} (h : frT t < t.length ∧ dEnd t (frT t) = t.length) : dgV false t = nI (t.length - frT t) := by
  unfold dgV
  rw [h.2, if_pos h.1, if_pos rfl]
theorem dgF_n {t : List Nat} (h : ¬ (frT t < t.length ∧ dEnd t (frT t) = t.length)) : dgV false t = -1 := by
  unfold dgV
  split
  · rename_i h1
    rw [if_neg (fun q => h ⟨by omega, q⟩), if_neg (fun q => by cases q.1)]
  · rfl
theorem wl_4 (m : Bool) (ds : List Nat) : wl m ds = 4 ↔ ds.length ≤ 10 ∧ val10 ds ≤ (if m = true then 2147483648 else 2147483647) := by
  unfold wl
  cases m <;> simp only [if_true, Bool.false_eq_true, if_false, false_and, true_and, not_false_eq_true, and_true] <;> (repeat' split) <;> omega
theorem wl_5 (m : Bool) (ds : List Nat) : (wl m ds = 4 ∨ wl m ds = 5) ↔ ds.length ≤ 19 ∧ (val10 ds < 9223372036854775808 ∨ (m = true ∧ val10 ds = 9223372036854775808)) := by
  unfold wl
  cases m <;> simp only [if_true, Bool.false_eq_true, if_false, false_and, true_and, or_false, not_false_eq_true, and_true] <;> (repeat' split) <;> omega
