/-! the plain side 19: digits, as the reference counts them -/
set_option maxRecDepth 100000
def frT (t : List Nat) : Nat := if t.getD 0 0 = 45 then 1 else 0
def dgV (pt : Bool) (t : List Nat) : Int32 :=
  if frT t < dEnd t (frT t) then
    (if dEnd t (frT t) = t.length then nI (dEnd t (frT t) - frT t)
     else if pt = true ∧ t.getD (dEnd t (frT t)) 0 = 46 ∧ dEnd t (dEnd t (frT t) + 1) = t.length ∧ dEnd t (frT t) + 1 < t.length then nI (t.length - frT t - 1) else -1)
  else -1
/-- the walk over the digits stands at p with n of them; bf: how many stood ahead of the point -/
def DG (t : List Nat) (fr p n : Nat) (bf : Int32) : Prop :=
  (bf = -1 ∧ fr ≤ p ∧ p ≤ t.length ∧ n = p - fr ∧ dEnd t fr = dEnd t p) ∨
  (∃ k, bf = nI (k - fr) ∧ fr < k ∧ k < t.length ∧ t.getD k 0 = 46 ∧ dEnd t fr = k ∧ k + 1 ≤ p ∧ p ≤ t.length ∧ n = (k - fr) + (p - k - 1) ∧ dEnd t (k + 1) = dEnd t p)
theorem frT_le (t : List Nat) : frT t ≤ t.length ∧ frT t ≤ 1 := by
  unfold frT
  split
  · rename_i h
    refine ⟨?_, Nat.le_refl _⟩
    rcases Nat.eq_zero_or_pos t.length with q | q
    · rw [List.length_eq_zero_iff.mp q] at h; cases h
    · exact q
  · exact ⟨Nat.zero_le _, Nat.zero_le _⟩
theorem DG_0 {t : List Nat} : DG t (frT t) (frT t) 0 (-1) := Or.inl ⟨rfl, Nat.le_refl _, (frT_le t).1, by omega, rfl⟩
theorem DG_d {t : List Nat} {fr p n : Nat} {bf : Int32} (h : DG t fr p n bf) (hp : p < t.length) (hd : isD (t.getD p 0)) : DG t fr (p + 1) (n + 1) bf := by
  rcases h with ⟨h1, h2, h3, h4, h5⟩ | ⟨k, h1, h2, h3, h4, h5, h6, h7, h8, h9⟩
  · exact Or.inl ⟨h1, by omega, by omega, by omega, by rw [h5, dEnd_S hp hd]⟩
  · exact Or.inr ⟨k, h1, h2, h3, h4, h5, by omega, by omega, by omega, by rw [h9, dEnd_S hp hd]⟩
theorem DG_p {t : List Nat} {fr p n : Nat} {bf : Int32} (h : DG t fr p n bf) (hl : t.length < 65536) (hb : bf < 0) (hn : 0 < n) (hp : p < t.length) (hc : t.getD p 0 = 46) : DG t fr (p + 1) n (nI n) := by
  rcases h with ⟨h1, h2, h3, h4, h5⟩ | ⟨k, h1, h2, h3, h4, h5, h6, h7, h8, h9⟩
  · have hs : dEnd t p = p := dEnd_stop hp (by rw [hc]; omega)
    exact Or.inr ⟨p, by rw [h4], by omega, hp, hc, by rw [h5, hs], by omega, by omega, by omega, rfl⟩
  · rw [h1] at hb
    exact absurd hb (nI_lt0 _ (by omega))
theorem DG_b {t : List Nat} {fr p n : Nat} {bf : Int32} (h : DG t fr p n bf) : p ≤ t.length ∧ n ≤ t.length := by
  rcases h with ⟨h1, h2, h3, h4, h5⟩ | ⟨k, h1, h2, h3, h4, h5, h6, h7, h8, h9⟩ <;> omega
theorem DG_x {t : List Nat} {p n : Nat} {bf : Int32} {pt : Bool} (h : DG t (frT t) p n bf) (hl : t.length < 65536) (hp : p < t.length) (hd : ¬ isD (t.getD p 0)) (hno : pt = true → t.getD p 0 = 46 → bf < 0 → n = 0) : dgV pt t = -1 := by
  have hs := dEnd_stop hp hd
  unfold dgV
  rcases h with ⟨h1, h2, h3, h4, h5⟩ | ⟨k, h1, h2, h3, h4, h5, h6, h7, h8, h9⟩
  · rw [h5, hs]
    by_cases q : frT t < p
    · rw [if_pos q, if_neg (by omega), if_neg]
      rintro ⟨z1, z2, -⟩
      have := hno z1 z2 (by rw [h1]; decide)
      omega
    · rw [if_neg q]
  · rw [h5, if_pos h2, if_neg (by omega), if_neg]
    rintro ⟨-, -, z3, -⟩
    rw [h9, hs] at z3
    omega
theorem DG_e {t : List Nat} {p n : Nat} {bf : Int32} {pt : Bool} (h : DG t (frT t) p n bf) (hl : t.length < 65536) (hp : t.length ≤ p) (hpt : bf ≠ -1 → pt = true) : dgV pt t = if n = 0 ∨ nI n = bf then -1 else nI n := by
  have hb := DG_b h
  have hpe : p = t.length := by omega
  subst hpe
  have hs : dEnd t t.length = t.length := dEnd_end (Nat.le_refl _)
  unfold dgV
  rcases h with ⟨h1, h2, h3, h4, h5⟩ | ⟨k, h1, h2, h3, h4, h5, h6, h7, h8, h9⟩
  · rw [h5, hs]
    by_cases q : frT t < t.length
    · rw [if_pos q, if_pos rfl, if_neg, h4]
      rintro (z | z)
      · omega
      · rw [h1] at z
        have := congrArg Int32.toInt z
        rw [nI_toInt (by omega)] at this
        have e9 : (-1 : Int32).toInt = -1 := rfl
        omega
    · rw [if_neg q, if_pos (Or.inl (by omega))]
  · rw [h5, if_pos h2, if_neg (by omega)]
    have hpt1 := hpt (by rw [h1]; intro z; have := congrArg Int32.toInt z; rw [nI_toInt (by omega)] at this; have e9 : (-1 : Int32).toInt = -1 := rfl; omega)
    rw [hs] at h9
    by_cases q : k + 1 < t.length
    · rw [if_pos ⟨hpt1, h4, h9, q⟩, if_neg]
      · congr 1; omega
      · rintro (z | z)
        · omega
        · rw [h1] at z
          have := (nI_eq (by omega) (by omega)).mp z
          omega
    · rw [if_neg (by rintro ⟨-, -, -, z⟩; exact q z), if_pos (Or.inr (by rw [h1, h8]; congr 1; omega))]
