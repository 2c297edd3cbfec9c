/-! the plain side 17: the reference's tables -/
set_option maxRecDepth 100000
def tI (E : CE) (im : va_W) (a : Nat) (tb : Tab) : Prop := ∃ (n c ln : Nat) (fl : Nat → Int32), (∀ x ∈ ([(a, .inr (11, [.ref n, .ref c, .ref ln]))] : va_W), x ∈ im) ∧ tL E im n c tb ∧ (∀ x ∈ ([(ln, .inl (E.2.1 1, tCols tb, .inl fl))] : va_W), x ∈ im) ∧ (∀ k, k < tCols tb → fl k = nI (laneT (tCols tb) (tRows tb) (cellW tb) k)) ∧ tabOK tb
theorem tI.mono {E : CE} {im im' : va_W} {a : Nat} {tb : Tab} (h : tI E im a tb) (hs : ∀ y ∈ im, y ∈ im') : tI E im' a tb := by
  obtain ⟨n, c, ln, fl, h1, h2, h3, h4, h5⟩ := h
  exact ⟨n, c, ln, fl, fun x hx => hs x (h1 x hx), h2.mono hs, fun x hx => hs x (h3 x hx), h4, h5⟩
/-- the reference's tables -/
def mTabs (E : CE) (im : va_W) (tcn : Nat) (tabs : Nat → Option Nat) (wby : Nat) (ts : List Tab) : Prop := tcn = ts.length ∧ tcn ≤ 40 ∧ wby = totT ts ∧ wby ≤ 65536 ∧ ∀ i, i < tcn → ∃ a, tabs (i + 1) = some a ∧ tI E im a (ts.getD i ([], []))
theorem mTabs.mono {E : CE} {im im' : va_W} {tcn wby : Nat} {tabs : Nat → Option Nat} {ts : List Tab} (h : mTabs E im tcn tabs wby ts) (hs : ∀ y ∈ im, y ∈ im') : mTabs E im' tcn tabs wby ts := by
  obtain ⟨h1, h2, h3, h4, h5⟩ := h
  exact ⟨h1, h2, h3, h4, fun i hi => by obtain ⟨a, e1, e2⟩ := h5 i hi; exact ⟨a, e1, e2.mono hs⟩⟩
theorem tix {t : Int32} {n : Nat} (hn : n < 2147483648) (h1 : ¬ t < nI 1) (h2 : ¬ nI n < t) : ∃ j, 1 ≤ j ∧ j ≤ n ∧ t = nI j := by
  have a1 := (not_congr Int32.lt_iff_toInt_lt).mp h1
  have a2 := (not_congr Int32.lt_iff_toInt_lt).mp h2
  rw [nI_toInt (by omega)] at a1 a2
  refine ⟨t.toInt.toNat, by omega, by omega, ?_⟩
  apply Int32.toInt_inj.mp
  rw [nI_toInt (by omega)]
  omega
theorem tabOf_in {ts : List Tab} {j : Nat} (h1 : 1 ≤ j) (h2 : j ≤ ts.length) (h3 : ts.length ≤ 40) : tabOf ts (nI j) = some (ts.getD (j - 1) ([], [])) := by
  unfold tabOf
  rw [nI_toInt (by omega), if_pos (by omega)]
  rfl
theorem tabOf_lo {ts : List Tab} {t : Int32} (h : t < nI 1) : tabOf ts t = none := by
  unfold tabOf
  have := Int32.lt_iff_toInt_lt.mp h
  rw [nI_toInt (by omega)] at this
  rw [if_neg (by omega)]
theorem tabOf_hi {ts : List Tab} {t : Int32} {n : Nat} (hn : n = ts.length) (hn2 : n ≤ 40) (h : nI n < t) : tabOf ts t = none := by
  unfold tabOf
  have := Int32.lt_iff_toInt_lt.mp h
  rw [nI_toInt (by omega)] at this
  rw [if_neg (by omega)]
theorem mT_get {E : CE} {im : va_W} {tcn wby : Nat} {tabs : Nat → Option Nat} {ts : List Tab} {t : Int32} (hm : mTabs E im tcn tabs wby ts) (h : (tabOf ts t).isSome = true) : ∃ (tb : Tab) (j a n c ln : Nat) (fl : Nat → Int32), tabOf ts t = some tb ∧ t = nI j ∧ (1 ≤ j ∧ j ≤ tcn ∧ tcn ≤ 40) ∧ tabs j = some a ∧ (∀ x ∈ ([(a, .inr (11, [.ref n, .ref c, .ref ln]))] : va_W), x ∈ im) ∧ tL E im n c tb ∧ (∀ x ∈ ([(ln, .inl (E.2.1 1, tCols tb, .inl fl))] : va_W), x ∈ im) ∧ (∀ k, k < tCols tb → fl k = nI (laneT (tCols tb) (tRows tb) (cellW tb) k)) ∧ tabOK tb := by
  obtain ⟨h1, h2, h3, h4, h5⟩ := hm
  by_cases a1 : t < nI 1
  · rw [tabOf_lo a1] at h; cases h
  by_cases a2 : nI tcn < t
  · rw [tabOf_hi h1 h2 a2] at h; cases h
  obtain ⟨j, b1, b2, rfl⟩ := tix (by omega) a1 a2
  obtain ⟨a, e1, n, c, ln, fl, g1, g2, g3, g4, g5⟩ := h5 (j - 1) (by omega)
  rw [show j - 1 + 1 = j by omega] at e1
  exact ⟨_, j, a, n, c, ln, fl, tabOf_in b1 (by omega) (by omega), rfl, ⟨b1, b2, h2⟩, e1, g1, g2, g3, g4, g5⟩
theorem mT_no {E : CE} {im : va_W} {tcn wby : Nat} {tabs : Nat → Option Nat} {ts : List Tab} {j : Nat} (hm : mTabs E im tcn tabs wby ts) (h1 : 1 ≤ j) (h2 : j ≤ tcn) : ∃ a, tabs j = some a ∧ (tabOf ts (nI j)).isSome = true := by
  obtain ⟨g1, g2, g3, g4, g5⟩ := hm
  obtain ⟨a, e1, -⟩ := g5 (j - 1) (by omega)
  rw [show j - 1 + 1 = j by omega] at e1
  exact ⟨a, e1, by rw [tabOf_in h1 (by omega) (by omega)]; rfl⟩
theorem isSome_none {ts : List Tab} {t : Int32} (h : ¬ (tabOf ts t).isSome = true) : tabOf ts t = none := by
  cases e : tabOf ts t with
  | none => rfl
  | some tb => rw [e] at h; exact absurd rfl h
def colO (ts : List Tab) (t c : Int32) : Option (Tab × Nat) := match tabOf ts t with
  | none => none
  | some tb => match idx c (tCols tb) with | none => none | some j => some (tb, j)
theorem colO_n {ts : List Tab} {t c : Int32} (h : tabOf ts t = none) : colO ts t c = none := by unfold colO; rw [h]
theorem colO_i {ts : List Tab} {t c : Int32} {tb : Tab} (h : tabOf ts t = some tb) (hc : idx c (tCols tb) = none) : colO ts t c = none := by unfold colO; rw [h]; dsimp only; rw [hc]
theorem colO_s {ts : List Tab} {t c : Int32} {tb : Tab} {j : Nat} (h : tabOf ts t = some tb) (hc : idx c (tCols tb) = some j) : colO ts t c = some (tb, j) := by unfold colO; rw [h]; dsimp only; rw [hc]
theorem colO_is {ts : List Tab} {t c : Int32} (h : (colO ts t c).isSome = true) : (tabOf ts t).isSome = true ∧ ∀ tb, tabOf ts t = some tb → tCols tb ≤ 16 → ∃ j, c = nI j ∧ j < tCols tb := by
  cases e : tabOf ts t with
  | none => rw [colO_n e] at h; cases h
  | some tb =>
    refine ⟨rfl, fun tb2 h2 h3 => ?_⟩
    cases h2
    cases e2 : idx c (tCols tb) with
    | none => rw [colO_i e e2] at h; cases h
    | some j =>
      unfold idx at e2
      split at e2
      · rename_i hr
        refine ⟨j, ?_, ?_⟩
        · apply Int32.toInt_inj.mp
          cases e2
          rw [nI_toInt (by omega)]
          omega
        · cases e2; omega
      · cases e2
theorem cellS_is {ts : List Tab} {t c r : Int32} (h : (cellS ts t c r).isSome = true) : (colO ts t c).isSome = true ∧ ∀ tb, tabOf ts t = some tb → tRows tb ≤ 499 → ∃ k, r = nI k ∧ k < tRows tb := by
  cases e : tabOf ts t with
  | none => unfold cellS at h; rw [e] at h; cases h
  | some tb =>
    cases e2 : idx c (tCols tb) with
    | none => unfold cellS at h; rw [e] at h; dsimp only at h; rw [e2] at h; cases h
    | some j =>
      refine ⟨by rw [colO_s e e2]; rfl, fun tb2 h2 h3 => ?_⟩
      cases h2
      cases e3 : idx r (tRows tb) with
      | none => unfold cellS at h; rw [e] at h; dsimp only at h; rw [e2] at h; dsimp only at h; rw [e3] at h; cases h
      | some k =>
        unfold idx at e3
        split at e3
        · rename_i hr
          refine ⟨k, ?_, ?_⟩
          · apply Int32.toInt_inj.mp
            cases e3
            rw [nI_toInt (by omega)]
            omega
          · cases e3; omega
        · cases e3
theorem cellS_s {ts : List Tab} {t : Int32} {tb : Tab} {j k : Nat} (h : tabOf ts t = some tb) (hok : tabOK tb) (hj : j < tCols tb) (hk : k < tRows tb) : cellS ts t (nI j) (nI k) = some (tb, j, k) := by
  obtain ⟨a1, a2, -⟩ := hok
  unfold cellS
  rw [h]; dsimp only
  rw [idx_in (by omega) hj]; dsimp only
  rw [idx_in (by omega) hk]
theorem cellS_n {ts : List Tab} {t c r : Int32} (h : ¬ (cellS ts t c r).isSome = true) : cellS ts t c r = none := by
  cases e : cellS ts t c r with
  | none => rfl
  | some x => rw [e] at h; exact absurd rfl h
