/-! the plain side 12: names that are looked for, words that come before, values -/
set_option maxRecDepth 100000
theorem by_eq {a c : Nat} (ha : a < 128) (hc : c < 256) : nI a = (nI c).toInt8.toInt32 ↔ a = c := by
  by_cases h : c < 128
  · rw [i8_small c h]; exact nI_eq (by omega) (by omega)
  · refine ⟨fun q => ?_, fun q => by omega⟩
    have h1 := by_neg c hc (by omega)
    rw [← q] at h1
    exact absurd h1 (nI_pos (by omega))
/-- the first of k columns from c on whose name is t -/
def nmF (nw : Nat → Wd) (t : List Nat) : Nat → Nat → Int32
  | 0, _ => -1
  | k + 1, c => if (nw c).1 = t then nI c else nmF nw t k (c + 1)
theorem nmF_y {nw : Nat → Wd} {t : List Nat} {k c : Nat} (hk : 0 < k) (h : (nw c).1 = t) : nmF nw t k c = nI c := by
  obtain ⟨k, rfl⟩ : ∃ n, k = n + 1 := ⟨k - 1, by omega⟩
  exact if_pos h
theorem nmF_n {nw : Nat → Wd} {t : List Nat} {k c : Nat} (hk : 0 < k) (h : ¬ (nw c).1 = t) : nmF nw t k c = nmF nw t (k - 1) (c + 1) := by
  obtain ⟨k, rfl⟩ : ∃ n, k = n + 1 := ⟨k - 1, by omega⟩
  exact if_neg h
theorem nmF_0 {nw : Nat → Wd} {t : List Nat} {k c : Nat} (hk : k = 0) : nmF nw t k c = -1 := by subst hk; rfl
def bfF (cols : Nat) (cw : Nat → Wd) (co : Nat) (own : List Nat) (k : Nat) : Nat := if ¬ missW (cw (cols * k + co)) ∧ cmpI (cw (cols * k + co)).1 own < 0 then 1 else 0
def befV (cols rows : Nat) (cw : Nat → Wd) (co : Nat) (w : Wd) : Int64 := if missW w then -1 else lN (sumN (bfF cols cw co w.1) rows)
def accS (s : Nat × Nat × Bool) (c : Nat) : Nat × Nat × Bool := if c = 46 then (s.1, s.2.1, true) else (10 * s.1 + (c - 48), if s.2.2 = true then s.2.1 + 1 else s.2.1, s.2.2)
def accD (u : List Nat) : Nat × Nat × Bool := u.foldl accS (0, 0, false)
theorem accD_snoc (u : List Nat) (c : Nat) : accD (u ++ [c]) = accS (accD u) c := by
  unfold accD; rw [List.foldl_append]; rfl
theorem td_S {t : List Nat} {fr k : Nat} (hf : fr ≤ k) (hk : k < t.length) : (t.take (k + 1)).drop fr = (t.take k).drop fr ++ [t.getD k 0] := by
  rw [take_S hk, List.drop_append_of_le_length (by rw [List.length_take]; omega)]
theorem accD_S {t : List Nat} {fr k : Nat} (hf : fr ≤ k) (hk : k < t.length) : accD ((t.take (k + 1)).drop fr) = accS (accD ((t.take k).drop fr)) (t.getD k 0) := by rw [td_S hf hk, accD_snoc]
theorem accD_0 {t : List Nat} {fr : Nat} : accD ((t.take fr).drop fr) = (0, 0, false) := by
  rw [List.drop_of_length_le (by rw [List.length_take]; omega)]; rfl
theorem acc_neg (V d : Nat) : (10 : Int64) * (-(lN V)) - lN d = -(lN (10 * V + d)) := by
  have e1 : lN (10 * V + d) = 10 * lN V + lN d := by
    rw [← lN_add, ← lN_mul]; rfl
  rw [e1]
  apply Int64.toBitVec_inj.mp
  simp only [Int64.toBitVec_sub, Int64.toBitVec_mul, Int64.toBitVec_neg, Int64.toBitVec_add, BitVec.mul_neg, BitVec.neg_add]
def tenD : Nat → UInt64
  | 0 => FP.dconst1
  | k + 1 => FP.dmul (tenD k) 4621819117588971520
theorem tenD_nn : ∀ k, k < 15 → vf_n64 (FP.dmul (tenD k) 4621819117588971520) := by
  unfold vf_n64
  decide +kernel
def quoD (V b : Nat) : UInt64 := FP.ddiv (FP.l2d (lN V)) (tenD b)
def frW (w : Wd) : Nat := if w.1.getD 0 0 = 45 then 1 else 0
def valC (ln : Nat) (w : Wd) : Int64 :=
  if missW w then 0 else if ln = 0 then (if w.1.length = 4 then 1 else 0) else
  if ln ≠ 7 then (if frW w = 1 then -(lN (accD (w.1.drop (frW w))).1) else lN (accD (w.1.drop (frW w))).1)
  else (if frW w = 1 then FP.dneg (quoD (accD (w.1.drop (frW w))).1 (accD (w.1.drop (frW w))).2.1) else quoD (accD (w.1.drop (frW w))).1 (accD (w.1.drop (frW w))).2.1).toInt64
/-- what a cell of a lane must be, so that its value can be told -/
def valOK (ln : Nat) (w : Wd) : Prop := ¬ missW w → ln ≠ 0 → w.2 = false ∧ (∀ k, frW w ≤ k → k < w.1.length → isD (w.1.getD k 0) ∨ w.1.getD k 0 = 46) ∧ (ln = 7 → (accD (w.1.drop (frW w))).2.1 ≤ 14 ∧ vf_n64 (quoD (accD (w.1.drop (frW w))).1 (accD (w.1.drop (frW w))).2.1))
theorem i64_nn (x : Int64) : - -x = x := by
  apply Int64.toBitVec_inj.mp
  simp
