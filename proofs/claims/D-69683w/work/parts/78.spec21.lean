/-! the plain side 21: lanes, as the reference asks -/
set_option maxRecDepth 100000
theorem lane0 {w : Wd} (hq : w.2 = false) (ht : w.1 = tx_true ∨ w.1 = tx_false) : laneC w = 0 := by
  unfold laneC
  rw [if_neg (by rw [hq]; decide), if_pos ht]
theorem laneX {w : Wd} (hq : w.2 = false) (ht : ¬ (w.1 = tx_true ∨ w.1 = tx_false)) : laneC w = if dEnd w.1 (frT w.1) = frT w.1 then 8 else if dEnd w.1 (frT w.1) = w.1.length then wl (decide (frT w.1 = 1)) (w.1.drop (frT w.1)) else if w.1.getD (dEnd w.1 (frT w.1)) 0 ≠ 46 then 8 else if dEnd w.1 (dEnd w.1 (frT w.1) + 1) = w.1.length ∧ dEnd w.1 (frT w.1) + 1 < dEnd w.1 (dEnd w.1 (frT w.1) + 1) ∧ w.1.length - frT w.1 - 1 ≤ 15 then 7 else 8 :=
  laneC_of hq (fun q => ht (Or.inl q)) (fun q => ht (Or.inr q)) rfl rfl
theorem tk_0 {w : Wd} (hq : w.2 = false) : takesW 0 w ↔ w.1 = tx_true ∨ w.1 = tx_false := by
  by_cases ht : w.1 = tx_true ∨ w.1 = tx_false
  · have h0 := lane0 hq ht
    exact ⟨fun _ => ht, fun _ => Or.inr ⟨by omega, by omega⟩⟩
  · have hx := laneX hq ht
    have hw := wl_le (decide (frT w.1 = 1)) (w.1.drop (frT w.1))
    have h9 : laneC w ≠ 0 := by rw [hx]; repeat' split
                                all_goals omega
    refine ⟨fun z => ?_, fun z => absurd z ht⟩
    rcases z with ⟨z1, -, -⟩ | ⟨-, z2⟩ <;> omega
theorem tk_w {w : Wd} {ln : Nat} (hq : w.2 = false) (hln : ln = 4 ∨ ln = 5) : takesW ln w ↔ whW w.1 ln := by
  by_cases ht : w.1 = tx_true ∨ w.1 = tx_false
  · have h0 := lane0 hq ht
    refine ⟨fun z => ?_, fun z => ?_⟩
    · rcases z with ⟨z1, -, -⟩ | ⟨-, z2⟩ <;> omega
    · have h1 := z.1.2
      rcases ht with e | e <;> rw [e] at h1 <;> exact absurd h1 (by decide)
  · have hx := laneX hq ht
    have hw := wl_le (decide (frT w.1 = 1)) (w.1.drop (frT w.1))
    have hg : frT w.1 ≤ dEnd w.1 (frT w.1) := dEnd_ge
    have hb := dEnd_le (frT_le w.1).1
    refine ⟨fun z => ?_, fun z => ?_⟩
    · have h1 : laneC w = ln ∨ (ln = 5 ∧ laneC w = 4) := by rcases z with ⟨z1, -, -⟩ | ⟨-, z2⟩; omega; exact z2
      by_cases c1 : dEnd w.1 (frT w.1) = frT w.1
      · rw [if_pos c1] at hx; omega
      · rw [if_neg c1] at hx
        by_cases c2 : dEnd w.1 (frT w.1) = w.1.length
        · rw [if_pos c2] at hx
          refine ⟨⟨by omega, c2⟩, ?_⟩
          rw [← hx]
          rcases hln with e | e
          · exact Or.inl (by omega)
          · by_cases c3 : laneC w = 4
            · exact Or.inl c3
            · exact Or.inr ⟨e, by omega⟩
        · rw [if_neg c2] at hx
          exfalso
          have h9 : laneC w = 7 ∨ laneC w = 8 := by
            rw [hx]; repeat' split
            all_goals omega
          omega
    · obtain ⟨⟨z1, z2⟩, z3⟩ := z
      rw [if_neg (by omega), if_pos z2] at hx
      rw [← hx] at z3
      exact Or.inr ⟨by omega, by omega⟩
theorem tk_7 {w : Wd} (hl : w.1.length < 65536) (hq : w.2 = false) : takesW 7 w ↔ 0 < dgV true w.1 ∧ dgV true w.1 ≤ nI 15 := by
  have pos : ∀ n, n < 65536 → ((0 < nI n ∧ nI n ≤ nI 15) ↔ (0 < n ∧ n ≤ 15)) := by
    intro n hn
    rw [← nI_0, nI_ltI (by omega) (by omega), nI_leI (by omega) (by omega)]
  by_cases ht : w.1 = tx_true ∨ w.1 = tx_false
  · have h0 := lane0 hq ht
    refine ⟨fun z => ?_, fun z => ?_⟩
    · rcases z with ⟨-, z2, -⟩ | ⟨-, z2⟩ <;> omega
    · have h1 := z.1
      rcases ht with e | e <;> rw [e] at h1 <;> exact absurd h1 (by decide)
  · have hx := laneX hq ht
    have hw := wl_le (decide (frT w.1 = 1)) (w.1.drop (frT w.1))
    have hg : frT w.1 ≤ dEnd w.1 (frT w.1) := dEnd_ge
    have hb := dEnd_le (frT_le w.1).1
    have hdl : dl w = w.1.length - frT w.1 := by unfold dl frT; split <;> omega
    unfold dgV
    by_cases c1 : dEnd w.1 (frT w.1) = frT w.1
    · rw [if_pos c1] at hx
      rw [if_neg (by omega)]
      refine ⟨fun z => ?_, fun z => absurd z.1 (by decide)⟩
      rcases z with ⟨-, z2, -⟩ | ⟨-, z2⟩ <;> omega
    · rw [if_neg c1] at hx
      rw [if_pos (by omega)]
      by_cases c2 : dEnd w.1 (frT w.1) = w.1.length
      · rw [if_pos c2] at hx
        rw [if_pos c2, pos _ (by omega)]
        refine ⟨fun z => ?_, fun z => ?_⟩
        · rcases z with ⟨-, z2, z3⟩ | ⟨-, z2⟩ <;> omega
        · have h5 : laneC w = 4 ∨ laneC w = 5 := by
            rw [hx]
            refine (wl_5 _ _).mpr ⟨by rw [List.length_drop]; omega, Or.inl ?_⟩
            have hall := dEnd_all (frT_le w.1).1 c2
            have h6 := val10_lt hall
            rw [List.length_drop] at h6
            have h7 : 10 ^ (w.1.length - frT w.1) ≤ 10 ^ 15 := Nat.pow_le_pow_right (by omega) (by omega)
            have h8 : (10 : Nat) ^ 15 = 1000000000000000 := by decide
            omega
          exact Or.inl ⟨rfl, h5, by omega⟩
      · rw [if_neg c2] at hx
        rw [if_neg c2]
        by_cases c3 : w.1.getD (dEnd w.1 (frT w.1)) 0 = 46
        · rw [if_neg (fun q => q c3)] at hx
          by_cases c4 : dEnd w.1 (dEnd w.1 (frT w.1) + 1) = w.1.length ∧ dEnd w.1 (frT w.1) + 1 < w.1.length
          · rw [if_pos ⟨rfl, c3, c4.1, c4.2⟩, pos _ (by omega)]
            refine ⟨fun z => ?_, fun z => ?_⟩
            · by_cases c5 : w.1.length - frT w.1 - 1 ≤ 15
              · omega
              · rw [if_neg (fun q => c5 q.2.2)] at hx
                rcases z with ⟨-, z2, z3⟩ | ⟨-, z2⟩ <;> omega
            · rw [if_pos ⟨c4.1, by rw [c4.1]; exact c4.2, z.2⟩] at hx
              exact Or.inr ⟨by omega, by omega⟩
          · rw [if_neg (fun q => c4 ⟨q.2.2.1, q.2.2.2⟩)]
            rw [if_neg (fun q => c4 ⟨q.1, by have := q.2.1; rw [q.1] at this; exact this⟩)] at hx
            refine ⟨fun z => ?_, fun z => absurd z.1 (by decide)⟩
            rcases z with ⟨-, z2, z3⟩ | ⟨-, z2⟩ <;> omega
        · rw [if_pos c3] at hx
          rw [if_neg (fun q => c3 q.2.1)]
          refine ⟨fun z => ?_, fun z => absurd z.1 (by decide)⟩
          rcases z with ⟨-, z2, z3⟩ | ⟨-, z2⟩ <;> omega
theorem tk_q {w : Wd} {ln : Nat} (hq : w.2 = true) (hl : ln < 8) : ¬ takesW ln w := by
  have h8 : laneC w = 8 := by unfold laneC; rw [if_pos hq]
  rintro (⟨z1, z2, z3⟩ | ⟨z1, z2⟩) <;> omega
