/-! the plain side 18: how the reference writes -/
set_option maxRecDepth 100000
def sepO (c n : Nat) : List Nat := if c = 0 then [] else if c < n then [44] else [10]
theorem sep_com {c n : Nat} (h : c < n) : sepO c n = comO c := by
  unfold sepO comO
  rcases Nat.eq_zero_or_pos c with e | e
  · rw [if_pos e, if_neg (by omega)]
  · rw [if_neg (by omega), if_pos h, if_pos e]
theorem sep_S {c n : Nat} : sepO (c + 1) n = [if c + 1 < n then 44 else 10] := by
  unfold sepO
  rw [if_neg (by omega)]
  split
  · rfl
  · rfl
theorem sep_n {n : Nat} (h : 0 < n) : sepO n n = [10] := by
  unfold sepO
  rw [if_neg (by omega), if_neg (by omega)]
theorem hdr_S {nw : Nat → Wd} {c n : Nat} (h : c < n) : hdrO nw (c + 1) ++ sepO (c + 1) n = ((hdrO nw c ++ sepO c n) ++ nameO (nw c)) ++ [if c + 1 < n then 44 else 10] := by
  rw [sep_S, sep_com h]
  show (hdrO nw c ++ (comO c ++ nameO (nw c))) ++ _ = _
  rw [List.append_assoc (hdrO nw c) (comO c)]
theorem row_S {cols : Nat} {cw : Nat → Wd} {ln : Nat → Nat} {r c : Nat} (h : c < cols) : rowO cols cw ln r (c + 1) ++ sepO (c + 1) cols = ((rowO cols cw ln r c ++ sepO c cols) ++ cellO (cw (cols * r + c)) (ln c)) ++ [if c + 1 < cols then 44 else 10] := by
  rw [sep_S, sep_com h]
  show (rowO cols cw ln r c ++ (comO c ++ cellO (cw (cols * r + c)) (ln c))) ++ _ = _
  rw [List.append_assoc (rowO cols cw ln r c) (comO c)]
abbrev bE (t : List Nat) : Prop := 0 < t.length ∧ (t.getD 0 0 = 32 ∨ t.getD (t.length - 1) 0 = 32)
/-- how the reference says a name -/
theorem name_say {w : Wd} (h : 0 < w.1.length) {q : Nat} (hq : q = if (∃ j, j < w.1.length ∧ (w.1.getD j 0 = 34 ∨ w.1.getD j 0 = 44)) ∨ bE w.1 then 1 else 0) : sayO w.1 (nI q) = nameO w := by
  unfold nameO
  congr 1
  by_cases z : nMk w.1
  · rw [if_pos z, hq, if_pos]
    · rfl
    rcases z with z | z | z | z
    · omega
    · exact Or.inr ⟨h, Or.inl z⟩
    · exact Or.inr ⟨h, Or.inr z⟩
    · exact Or.inl z
  · rw [if_neg z, hq, if_neg]
    · rfl
    rintro (y | ⟨y1, y2 | y2⟩)
    · exact z (Or.inr (Or.inr (Or.inr y)))
    · exact z (Or.inr (Or.inl y2))
    · exact z (Or.inr (Or.inr (Or.inl y2)))
theorem lane_q {cols rows : Nat} {cw : Nat → Wd} {r c : Nat} (hr : r < rows) (hm : ¬ missW (cw (cols * r + c))) (hq : (cw (cols * r + c)).2 = true) : laneT cols rows cw c = 8 := by
  have h8 : laneC (cw (cols * r + c)) = 8 := by unfold laneC; rw [if_pos hq]
  have key : ∀ ln, ln < 8 → ¬ colAll ln cols rows cw c := by
    intro ln hl h
    rcases h r hr with z | z
    · exact hm z
    · rcases z with ⟨z1, z2, z3⟩ | ⟨z1, z2⟩ <;> omega
  unfold laneT
  split
  · rw [if_neg (key 0 (by omega)), if_neg (key 4 (by omega)), if_neg (key 5 (by omega)), if_neg (key 7 (by omega))]
  · rfl
theorem cell_say {w : Wd} {ln q : Nat} (hc : okC w) (hl : w.2 = true → ¬ missW w → ln = 8) (hq : q = if w.2 = true ∨ bE w.1 then 1 else 0) : sayO w.1 (nI q) = cellO w ln := by
  unfold cellO
  by_cases hm : missW w
  · rw [if_pos hm]
    have e : q = 0 := by
      rw [hq, if_neg]
      rintro (y | ⟨y1, -⟩)
      · rw [hm.2] at y; cases y
      · rw [hm.1] at y1; exact absurd y1 (Nat.lt_irrefl 0)
    rw [e, hm.1]
    rfl
  · rw [if_neg hm]
    congr 1
    cases hw : w.2 with
    | true =>
      rw [hq, if_pos (Or.inl hw), if_pos (Or.inr ⟨hl hw hm, rfl⟩)]
      rfl
    | false =>
      have hp := miss_pos hm hw
      have hs := hc.2 hw
      by_cases hb : bE w.1
      · rw [hq, if_pos (Or.inr hb), if_pos (Or.inl (by rcases hb.2 with y | y; exact Or.inr (Or.inl y); exact Or.inr (Or.inr (Or.inl y))))]
        rfl
      · rw [hq, if_neg, if_neg]
        · rfl
        · rintro (y | ⟨-, y⟩)
          · rcases y with y | y | y | ⟨j, y1, y2⟩
            · omega
            · exact hb ⟨hp, Or.inl y⟩
            · exact hb ⟨hp, Or.inr y⟩
            · have := hs _ (gD_mem y1)
              omega
          · cases y
        · rintro (y | y)
          · rw [hw] at y; cases y
          · exact hb y
