/-! the plain side 16: the reference's reader -/
set_option maxRecDepth 100000
theorem b_lt32 : ∀ n, n < 256 → ((nI n).toInt8.toInt32 < nI 32 ↔ n < 32 ∨ 128 ≤ n) := by decide +kernel
theorem b_gt126 : ∀ n, n < 256 → (nI 126 < (nI n).toInt8.toInt32 ↔ n = 127) := by decide +kernel
theorem c_chr : ∀ n, n < 128 → ((nI n).toUInt32 % 65536).toInt32 = nI n := by decide +kernel
theorem tb_eq {tray : Nat → Int32} {n j c9 : Nat} {t : List Nat} (h : txR tray n t) (hj : j < n) (hc : c9 < 128) : tray j = nI c9 ↔ t.getD j 0 = c9 := by
  obtain ⟨h1, h2⟩ := h.2 j hj
  rw [h2]
  have k := sc_eq (b := nI c9) (c_byte128 _ hc) h1
  have e : nI c9 &&& 255 = nI c9 := c_and255 hc
  constructor
  · intro q
    have := k.mp q.symm
    rw [e] at this
    exact ((nI_eq (by omega) (by omega)).mp this).symm
  · intro q
    exact (k.mpr (by rw [e, q])).symm
theorem tb_lt {tray : Nat → Int32} {n j : Nat} {t : List Nat} (h : txR tray n t) (hj : j < n) : tray j < nI 32 ↔ t.getD j 0 < 32 ∨ 128 ≤ t.getD j 0 := by
  obtain ⟨h1, h2⟩ := h.2 j hj
  rw [h2]; exact b_lt32 _ h1
theorem tb_gt {tray : Nat → Int32} {n j : Nat} {t : List Nat} (h : txR tray n t) (hj : j < n) : nI 126 < tray j ↔ t.getD j 0 = 127 := by
  obtain ⟨h1, h2⟩ := h.2 j hj
  rw [h2]; exact b_gt126 _ h1
/-- how many bytes a word takes (all that are left, if it is wrong) -/
def wL (t : List Nat) (i : Nat) : Nat := (match wordAt t i with | .inl _ => t.length | .inr (_, j) => j) - i
theorem wL_i {t : List Nat} {i j : Nat} {w : Wd} (h : wordAt t i = .inr (w, j)) : wL t i = j - i := by unfold wL; rw [h]
theorem wL_e {t : List Nat} {i p : Nat} (h : wordAt t i = .inl p) : wL t i = t.length - i := by unfold wL; rw [h]
theorem wL_u {t u : List Nat} {i j : Nat} (h : ¬ (i < t.length ∧ t.getD i 0 = 34)) (hp : plain t i = u ++ plain t j) : u.length ≤ wL t i := by
  have e : wordAt t i = .inr ((plain t i, false), i + (plain t i).length) := if_neg h
  rw [wL_i e, hp, List.length_append]
  omega
theorem scanQ_ge : ∀ (l : List Nat) (b : Bool) (p : Nat) (acc u : List Nat) (e : Nat), scanQ l b p acc = .inr (u, e) → p ≤ e := by
  intro l
  induction l with
  | nil =>
    intro b p acc u e h
    cases b with
    | false => cases h
    | true => cases h; exact Nat.le_refl _
  | cons c cs ih =>
    intro b p acc u e h
    cases b with
    | false =>
      unfold scanQ at h
      split at h
      · cases h
      · split at h
        · have := ih _ _ _ _ _ h; omega
        · have := ih _ _ _ _ _ h; omega
    | true =>
      unfold scanQ at h
      split at h
      · have := ih _ _ _ _ _ h; omega
      · cases h; exact Nat.le_refl _
theorem wL_q {t u : List Nat} {i j b : Nat} (h : i < t.length ∧ t.getD i 0 = 34) (hs : (b = 1 ∧ scanQ (t.drop (i + 1)) false (i + 1) [] = scanQ (t.drop j) false j u) ∨ (b = 0 ∧ scanQ (t.drop (i + 1)) false (i + 1) [] = .inr (u, j))) (hj : j ≤ t.length) : j - i ≤ wL t i := by
  rcases hs with ⟨-, hs⟩ | ⟨-, hs⟩
  · cases hr : scanQ (t.drop j) false j u with
    | inl q =>
      rw [hr] at hs
      rw [wL_e (word_qe h hs)]
      omega
    | inr q =>
      obtain ⟨v, e⟩ := q
      rw [hr] at hs
      rw [wL_i (word_q h hs)]
      have := scanQ_ge _ _ _ _ _ _ hr
      omega
  · rw [wL_i (word_q h hs)]
    omega
/-- the places of a StringBuilder's row, and what it has cost -/
theorem capB_f {k cap : Nat} (hk : k ≤ cap) (hc : cap ≤ 2 * k + 16) (h16 : 16 ≤ cap) : k + 1 ≤ capB k cap ∧ capB k cap ≤ 2 * (k + 1) + 16 ∧ 16 ≤ capB k cap ∧ 1 + cap / 16 + cellB k cap ≤ 1 + capB k cap / 16 ∧ 4 + 2 * cap + costB k cap ≤ 4 + 2 * capB k cap := by
  by_cases h : k < cap
  · have e1 : cellB k cap = 0 := if_pos h
    have e2 : costB k cap = 0 := if_pos h
    have e3 : capB k cap = cap := if_pos h
    rw [e1, e2, e3]; omega
  · have e1 : cellB k cap = 1 := if_neg h
    have e2 : costB k cap = 2 * cap + 2 := if_neg h
    have e3 : capB k cap = 2 * cap + 2 := if_neg h
    rw [e1, e2, e3]; omega
theorem sb_snoc {f f2 : Nat → Int32} {u : List Nat} {c k : Nat} (hk : k = u.length) (h : ∀ x, x < u.length → f x = nI (u.getD x 0)) (h1 : ∀ x, x < k → f2 x = f x) (h2 : f2 k = nI c) : ∀ x, x < (u ++ [c]).length → f2 x = nI ((u ++ [c]).getD x 0) := by
  intro x hx
  rw [gD_snoc hx]
  rw [List.length_append, List.length_singleton] at hx
  by_cases e : x = u.length
  · rw [if_pos e, e, ← hk]; exact h2
  · rw [if_neg e, h1 x (by omega), h x (by omega)]
/-- the places of a list that was filled one by one, and what they have cost -/
def cp : Nat → Nat
  | 0 => 0
  | n + 1 => capA n (cp n)
def gs : Nat → Nat
  | 0 => 0
  | n + 1 => gs n + costA n (cp n)
theorem cp_S (n : Nat) : cp (n + 1) = capA n (cp n) := rfl
theorem gs_S (n : Nat) : gs (n + 1) = gs n + costA n (cp n) := rfl
theorem cp_b : ∀ n, n ≤ cp n ∧ cp n ≤ 2 * n + 10 ∧ gs n ≤ 4 * cp n := by
  intro n
  induction n with
  | zero => decide
  | succ n ih =>
    rw [cp_S, gs_S]
    by_cases h : n < cp n
    · have e2 : costA n (cp n) = 0 := if_pos h
      have e3 : capA n (cp n) = cp n := if_pos h
      rw [e2, e3]; omega
    · have e2 : costA n (cp n) = ncA (cp n) := if_neg h
      have e3 : capA n (cp n) = ncA (cp n) := if_neg h
      rw [e2, e3]
      unfold ncA
      split <;> omega
theorem gs_le {a b : Nat} (h : a ≤ b) : gs a ≤ gs b := by
  induction b with
  | zero => rw [show a = 0 by omega]; exact Nat.le_refl _
  | succ b ih =>
    rcases Nat.lt_or_eq_of_le h with q | q
    · exact Nat.le_trans (ih (by omega)) (by rw [gs_S]; omega)
    · rw [q]; exact Nat.le_refl _
theorem cellA_le (n cap : Nat) : cellA n cap ≤ 1 := by unfold cellA; split <;> omega
