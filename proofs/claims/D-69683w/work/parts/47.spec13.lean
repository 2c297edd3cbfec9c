/-! the plain side 13: numbers of words in a column -/
set_option maxRecDepth 100000
/-- no more places than there are -/
theorem pigeon : ∀ (n : Nat) (f : Nat → Nat), (∀ j, j < n + 1 → f j < n) → ∃ i j, i < j ∧ j < n + 1 ∧ f i = f j := by
  intro n
  induction n with
  | zero => intro f h; exact absurd (h 0 (by omega)) (by omega)
  | succ n ih =>
    intro f h
    by_cases hx : ∃ i, i < n + 1 ∧ f i = f (n + 1)
    · obtain ⟨i, h1, h2⟩ := hx
      exact ⟨i, n + 1, by omega, by omega, h2⟩
    · have hne : ∀ i, i < n + 1 → f i ≠ f (n + 1) := fun i hi q => hx ⟨i, hi, q⟩
      have hl := h (n + 1) (by omega)
      obtain ⟨i, j, h1, h2, h3⟩ := ih (fun j => if f j < f (n + 1) then f j else f j - 1) (fun j hj => by
        have a1 := hne j hj
        have a2 := h j (by omega)
        split <;> omega)
      refine ⟨i, j, h1, by omega, ?_⟩
      have a1 := hne i (by omega)
      have a2 := hne j h2
      split at h3 <;> split at h3 <;> omega
theorem surj {n : Nat} {pl : Nat → Nat} (h1 : ∀ j, j < n → pl j < n) (h2 : inj pl 0 n) : ∀ r, r < n → ∃ j, j < n ∧ pl j = r := by
  intro r hr
  refine Classical.byContradiction (fun hno => ?_)
  have hne : ∀ j, j < n → pl j ≠ r := fun j hj q => hno ⟨j, hj, q⟩
  obtain ⟨m, rfl⟩ : ∃ m, n = m + 1 := ⟨n - 1, by omega⟩
  obtain ⟨i, j, a1, a2, a3⟩ := pigeon m (fun j => if pl j < r then pl j else pl j - 1) (fun j hj => by
    have b1 := hne j hj
    have b2 := h1 j hj
    split <;> omega)
  have b1 := hne i (by omega)
  have b2 := hne j a2
  have b3 : pl i = pl j := by
    split at a3 <;> split at a3 <;> omega
  have := h2 i j (Nat.zero_le _) (by omega) (Nat.zero_le _) a2 b3
  omega
def cntV (M : Nat → Prop) [DecidablePred M] (g : Nat → Nat) (rows x : Nat) : Nat := sumN (fun v => if ∃ k, k < rows ∧ ¬ M k ∧ g k = v then 1 else 0) x
section
variable {M : Nat → Prop} {dM : DecidablePred M} {g : Nat → Nat} {rows : Nat}
theorem cntV_one {x : Nat} (h : ∃ k, k < rows ∧ ¬ M k ∧ g k = x) : cntV M g rows (x + 1) = cntV M g rows x + 1 := by
  unfold cntV
  rw [sumN_S, if_pos h]
theorem cntV_gap {a b : Nat} (hab : a ≤ b) (h : ∀ v, a ≤ v → v < b → ¬ ∃ k, k < rows ∧ ¬ M k ∧ g k = v) : cntV M g rows b = cntV M g rows a := by
  obtain ⟨d, rfl⟩ : ∃ d, b = a + d := ⟨b - a, by omega⟩
  induction d with
  | zero => rfl
  | succ d ih =>
    have e : cntV M g rows (a + (d + 1)) = cntV M g rows (a + d) := by
      unfold cntV
      rw [← Nat.add_assoc, sumN_S, if_neg (h (a + d) (by omega) (by omega)), Nat.add_zero]
    rw [e]
    exact ih (by omega) (fun v h1 h2 => h v h1 (by omega))
/-- the rows in order: those that are missing first, then by g -/
def SRT (M : Nat → Prop) (g : Nat → Nat) (pl : Nat → Nat) (rows : Nat) : Prop := (∀ r, r < rows → ∃ j, j < rows ∧ pl j = r) ∧ ∀ i j, i ≤ j → j < rows → (M (pl j) → M (pl i)) ∧ (¬ M (pl i) → g (pl i) ≤ g (pl j))
def NN (M : Nat → Prop) [DecidablePred M] (g : Nat → Nat) (pl : Nat → Nat) (rows k nn : Nat) : Prop := ((∀ i, i < k → M (pl i)) ∧ nn = 0) ∨ (0 < k ∧ ¬ M (pl (k - 1)) ∧ nn = cntV M g rows (g (pl (k - 1)) + 1))
theorem NN_miss {pl : Nat → Nat} {k nn : Nat} (hs : SRT M g pl rows) (hk : k < rows) (h : NN M g pl rows k nn) (hm : M (pl k)) : NN M g pl rows (k + 1) nn := by
  rcases h with ⟨h1, h2⟩ | ⟨h1, h2, h3⟩
  · exact Or.inl ⟨fun i hi => by rcases Nat.lt_succ_iff_lt_or_eq.mp hi with q | q; exact h1 i q; rw [q]; exact hm, h2⟩
  · exact absurd ((hs.2 (k - 1) k (by omega) hk).1 hm) h2
theorem NN_same {pl : Nat → Nat} {k nn : Nat} (h : NN M g pl rows k nn) (hk : 0 < k) (hm : ¬ M (pl k)) (hp : ¬ M (pl (k - 1))) (he : g (pl (k - 1)) = g (pl k)) : NN M g pl rows (k + 1) nn ∧ nn = cntV M g rows (g (pl k) + 1) := by
  have h3 : nn = cntV M g rows (g (pl k) + 1) := by
    rcases h with ⟨h1, h2⟩ | ⟨h1, h2, h3⟩
    · exact absurd (h1 (k - 1) (by omega)) hp
    · rw [h3, he]
  exact ⟨Or.inr ⟨by omega, hm, h3⟩, h3⟩
theorem NN_new {pl : Nat → Nat} {k nn : Nat} (hs : SRT M g pl rows) (hr : ∀ j, j < rows → pl j < rows) (hk : k < rows) (h : NN M g pl rows k nn) (hm : ¬ M (pl k)) (hn : k = 0 ∨ M (pl (k - 1)) ∨ g (pl (k - 1)) ≠ g (pl k)) : NN M g pl rows (k + 1) (nn + 1) ∧ nn + 1 = cntV M g rows (g (pl k) + 1) := by
  have hin : ∃ k', k' < rows ∧ ¬ M k' ∧ g k' = g (pl k) := ⟨pl k, hr k hk, hm, rfl⟩
  have key : nn = cntV M g rows (g (pl k)) := by
    have later : ∀ j, k ≤ j → j < rows → g (pl k) ≤ g (pl j) := fun j h1 h2 => (hs.2 k j h1 h2).2 hm
    rcases h with ⟨h1, h2⟩ | ⟨h1, h2, h3⟩
    · rw [h2]
      have e := cntV_gap (M := M) (dM := dM) (g := g) (rows := rows) (a := 0) (b := g (pl k)) (Nat.zero_le _) (fun v _ hv => by
        rintro ⟨r, a1, a2, a3⟩
        obtain ⟨j, b1, b2⟩ := hs.1 r a1
        by_cases hj : j < k
        · exact a2 (by rw [← b2]; exact h1 j hj)
        · have := later j (by omega) b1
          rw [b2] at this
          omega)
      rw [e]; rfl
    · have hne : g (pl (k - 1)) ≠ g (pl k) := by
        rcases hn with q | q | q
        · omega
        · exact absurd q h2
        · exact q
      have hle := (hs.2 (k - 1) k (by omega) hk).2 h2
      rw [h3]
      refine (cntV_gap (by omega) (fun v hv1 hv2 => ?_)).symm
      rintro ⟨r, a1, a2, a3⟩
      obtain ⟨j, b1, b2⟩ := hs.1 r a1
      by_cases hj : j < k
      · have := (hs.2 j (k - 1) (by omega) (by omega)).2 (by rw [b2]; exact a2)
        rw [b2] at this
        omega
      · have := later j (by omega) b1
        rw [b2] at this
        omega
  have e : nn + 1 = cntV M g rows (g (pl k) + 1) := by rw [cntV_one hin, key]
  exact ⟨Or.inr ⟨by omega, hm, e⟩, e⟩
end
theorem num_S (n : Nat) : lN n - 1 + 1 = lN (n + 1) - 1 := by
  rw [show (1 : Int64) = lN 1 from rfl, show lN (n + 1) - lN 1 = lN n from by rw [lN_sub (by omega), Nat.add_sub_cancel]]
  apply Int64.toBitVec_inj.mp
  simp
theorem num_v {n c : Nat} (h : n = c + 1) : lN n - 1 = lN c := by
  rw [h, show (1 : Int64) = lN 1 from rfl, lN_sub (by omega), Nat.add_sub_cancel]
/-- a column of words: the missing ones; how many words come before -/
abbrev colM (cols : Nat) (cw : Nat → Wd) (co : Nat) (r : Nat) : Prop := missW (cw (cols * r + co))
def colG (cols rows : Nat) (cw : Nat → Wd) (co : Nat) (r : Nat) : Nat := sumN (bfF cols cw co (cw (cols * r + co)).1) rows
def colV (ln cols rows : Nat) (cw : Nat → Wd) (co r : Nat) : Int64 :=
  if ln ≠ 8 then valC ln (cw (cols * r + co)) else if missW (cw (cols * r + co)) then -1 else lN (cntV (colM cols cw co) (colG cols rows cw co) rows (colG cols rows cw co r))
theorem colG_le (cols rows : Nat) (cw : Nat → Wd) (co r : Nat) : colG cols rows cw co r ≤ rows := by
  have := sumN_le (f := bfF cols cw co (cw (cols * r + co)).1) (B := 1) rows (fun k _ => by unfold bfF; split <;> omega)
  unfold colG
  omega
theorem bef_eq {cols rows : Nat} {cw : Nat → Wd} {co r : Nat} : befV cols rows cw co (cw (cols * r + co)) = if colM cols cw co r then -1 else lN (colG cols rows cw co r) := rfl
theorem m1_lt {a : Nat} (h : a < 2 ^ 63) : (-1 : Int64) < lN a := by
  rw [Int64.lt_iff_toInt_lt, pk_lT h]
  have : (-1 : Int64).toInt = -1 := by decide
  omega
theorem SRT_of {cols rows : Nat} {cw : Nat → Wd} {co : Nat} {rk : Nat → Int64} {pl : Nat → Nat} (hrs : rows < 2 ^ 31) (hk : ∀ j, j < rows → rk j = befV cols rows cw co (cw (cols * j + co))) (h1 : ∀ j, j < rows → pl j < rows) (h2 : inj pl 0 rows) (h3 : srt rk pl 0 rows) : SRT (colM cols cw co) (colG cols rows cw co) pl rows := by
  refine ⟨surj h1 h2, fun i j hij hj => ?_⟩
  have hle := h3 i j (Nat.zero_le _) hij hj
  rw [hk _ (h1 i (by omega)), hk _ (h1 j hj), bef_eq, bef_eq] at hle
  have ga := colG_le cols rows cw co (pl i)
  have gb := colG_le cols rows cw co (pl j)
  refine ⟨fun hm => ?_, fun hm => ?_⟩
  · refine Decidable.byContradiction (fun hn => ?_)
    rw [if_pos hm, if_neg hn] at hle
    exact absurd hle (Int64.not_le.mpr (m1_lt (by omega)))
  · rw [if_neg hm] at hle
    by_cases hn : colM cols cw co (pl j)
    · rw [if_pos hn] at hle
      exact absurd hle (Int64.not_le.mpr (m1_lt (by omega)))
    · rw [if_neg hn] at hle
      exact (pk_lLE (by omega) (by omega)).mp hle
theorem rk_ne {cols rows : Nat} {cw : Nat → Wd} {co a b : Nat} (hrs : rows < 2 ^ 31) (hb : ¬ colM cols cw co b) (h : befV cols rows cw co (cw (cols * a + co)) ≠ befV cols rows cw co (cw (cols * b + co))) : colM cols cw co a ∨ colG cols rows cw co a ≠ colG cols rows cw co b := by
  by_cases ha : colM cols cw co a
  · exact Or.inl ha
  · refine Or.inr (fun q => h ?_)
    rw [bef_eq, bef_eq, if_neg ha, if_neg hb, q]
theorem rk_eq {cols rows : Nat} {cw : Nat → Wd} {co a b : Nat} (hrs : rows < 2 ^ 31) (hb : ¬ colM cols cw co b) (h : befV cols rows cw co (cw (cols * a + co)) = befV cols rows cw co (cw (cols * b + co))) : ¬ colM cols cw co a ∧ colG cols rows cw co a = colG cols rows cw co b := by
  have ga := colG_le cols rows cw co a
  have gb := colG_le cols rows cw co b
  rw [bef_eq, bef_eq, if_neg hb] at h
  by_cases ha : colM cols cw co a
  · rw [if_pos ha] at h
    have := m1_lt (a := colG cols rows cw co b) (by omega)
    rw [← h, Int64.lt_iff_toInt_lt] at this
    omega
  · rw [if_neg ha] at h
    exact ⟨ha, (pk_lEQ (by omega) (by omega)).mp h⟩
