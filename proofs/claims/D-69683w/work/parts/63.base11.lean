/-! BASE 11: worlds in another order; how far a line goes -/
set_option maxRecDepth 100000
theorem va_Dn {A : Nat → Prop} {ws : va_W} (h : va_D A ws) : (ws.map Prod.fst).Nodup := by
  rw [List.nodup_iff_pairwise_ne, List.pairwise_iff_getElem]
  intro i j hi hj hij e
  rw [List.length_map] at hi hj
  have a1 : ws[i]? = some ws[i] := List.getElem?_eq_getElem hi
  have a2 : ws[j]? = some ws[j] := List.getElem?_eq_getElem hj
  have := h.1 i j _ _ a1 a2 (by simpa using e)
  omega
theorem va_Dof {A : Nat → Prop} {ws : va_W} (hn : (ws.map Prod.fst).Nodup) (hA : ∀ q ∈ ws, A q.1) : va_D A ws := by
  refine ⟨fun i j x y hi hj e => ?_, fun k q hk => hA q (List.mem_of_getElem? hk)⟩
  rw [List.nodup_iff_pairwise_ne, List.pairwise_iff_getElem] at hn
  obtain ⟨h1, e1⟩ := List.getElem?_eq_some_iff.mp hi
  obtain ⟨h2, e2⟩ := List.getElem?_eq_some_iff.mp hj
  rcases Nat.lt_trichotomy i j with q | q | q
  · exact absurd (show (ws.map Prod.fst)[i]'(by rw [List.length_map]; exact h1) = (ws.map Prod.fst)[j]'(by rw [List.length_map]; exact h2) by rw [List.getElem_map, List.getElem_map, e1, e2]; exact e) (hn i j (by rw [List.length_map]; exact h1) (by rw [List.length_map]; exact h2) q)
  · exact q
  · exact absurd (show (ws.map Prod.fst)[j]'(by rw [List.length_map]; exact h2) = (ws.map Prod.fst)[i]'(by rw [List.length_map]; exact h1) by rw [List.getElem_map, List.getElem_map, e1, e2]; exact e.symm) (hn j i (by rw [List.length_map]; exact h2) (by rw [List.length_map]; exact h1) q)
theorem va_Pp {E : CE} {X Y : va_W} {H : Heap} (hp : ∀ q ∈ Y, q ∈ X) (h : va_P E.1 ct_cl X H) : va_P E.1 ct_cl Y H := ct_sel h hp
theorem va_Dp {A : Nat → Prop} {X Y : va_W} (hp : X.Perm Y) (h : va_D A X) : va_D A Y :=
  va_Dof ((hp.map Prod.fst).nodup_iff.mp (va_Dn h)) (fun q hq => by
    obtain ⟨k, hk⟩ := List.getElem?_of_mem (hp.mem_iff.mpr hq)
    exact h.2 k q hk)
section
variable {s : State} {H : Heap} {locs : List Loc} {E : CE} {A : Nat → Prop}
theorem ct_perm {X Y : va_W} (hp : X.Perm Y) (h : Hs E A s.heap X H locs) : Hs E A s.heap Y H locs := ⟨va_Pp (fun q hq => hp.mem_iff.mpr hq) h.1, va_Dp hp h.2.1, h.2.2⟩
/-- Y goes into the pool -/
theorem ct_absM {X Y M I : va_W} (h : Hs E A s.heap (((X ++ Y) ++ M) ++ I) H locs) : Hs E A s.heap ((X ++ M) ++ (Y ++ I)) H locs := by
  refine ct_perm ?_ h
  simp only [List.append_assoc]
  refine List.Perm.append_left X ?_
  rw [← List.append_assoc, ← List.append_assoc]
  exact List.Perm.append_right I List.perm_append_comm
theorem ct_grow {C I R T : va_W} (h : Hs E A s.heap ((C ++ I) ++ (R ++ T)) H locs) : Hs E A s.heap ((C ++ R) ++ (I ++ T)) H locs := by
  refine ct_perm ?_ h
  simp only [List.append_assoc]
  refine List.Perm.append_left C ?_
  rw [← List.append_assoc, ← List.append_assoc]
  exact List.Perm.append_right T List.perm_append_comm
end
abbrev edA (E : CE) (d cap : Nat) : Nat := if cap = 0 then E.2.2.2 3 else d
theorem alw_o {E : CE} {a d n cap : Nat} {md : Int32} {f : Nat → Option Nat} {H : Heap} (h : va_P E.1 ct_cl (alw E a d n cap md f) H) : va_P E.1 ct_cl [(a, .inr (14, [.int md, .ref (edA E d cap), .int (nI n)]))] H := by
  cases cap with
  | zero => exact h
  | succ k => exact h.sub [0] rfl
/-- how many bytes a line takes -/
def lL (t : List Nat) (cols i : Nat) : Nat := (match cellLine t cols i [] with | .inl _ => t.length + 1 | .inr (_, j) => j) - i
theorem lL_i {t : List Nat} {cols i j : Nat} {ws : List Wd} (h : cellLine t cols i [] = .inr (ws, j)) : lL t cols i = j - i := by unfold lL; rw [h]
theorem lL_e {t : List Nat} {cols i p : Nat} (h : cellLine t cols i [] = .inl p) : lL t cols i = t.length + 1 - i := by unfold lL; rw [h]
theorem word_ge {t : List Nat} {i j : Nat} {w : Wd} (h : wordAt t i = .inr (w, j)) : i ≤ j := by
  unfold wordAt at h
  split at h
  · split at h
    · cases h
    · rename_i hs
      cases h
      have := scanQ_ge _ _ _ _ _ _ hs
      omega
  · cases h; omega
theorem cell_word {t : List Nat} {i j : Nat} {w : Wd} (h : cellAt t i = .inr (w, j)) : wordAt t i = .inr (w, j) := by
  unfold cellAt at h
  split at h
  · cases h
  · rename_i w2 j2 hw
    split at h
    · cases h
    · split at h
      · cases h
      · rw [hw]; exact congrArg Sum.inr (Sum.inr.inj h)
theorem cellLine_ge {t : List Nat} : ∀ (k i : Nat) (acc ws : List Wd) (j : Nat), cellLine t k i acc = .inr (ws, j) → i < j := by
  intro k
  induction k with
  | zero => intro i acc ws j h; cases h
  | succ k ih =>
    intro i acc ws j h
    unfold cellLine at h
    split at h
    · cases h
    · rename_i w j2 hc
      have := word_ge (cell_word hc)
      split at h
      · have := ih _ _ _ _ h; omega
      · split at h
        · cases h
        · cases h; omega
/-- the room that a line has left -/
theorem line_room {t : List Nat} {cols i k j0 : Nat} {acc : List Wd} (h : cellLine t cols i [] = cellLine t k j0 acc) (hk : 0 < k) (hi : i ≤ j0) (hj : j0 ≤ t.length) (hw : ∀ w j, wordAt t j0 = .inr (w, j) → j ≤ t.length) : j0 + wL t j0 + 1 ≤ i + lL t cols i := by
  cases hl : cellLine t k j0 acc with
  | inl q =>
    rw [hl] at h
    rw [lL_e h]
    cases hw1 : wordAt t j0 with
    | inl q2 => rw [wL_e hw1]; omega
    | inr q2 =>
      obtain ⟨w, j⟩ := q2
      rw [wL_i hw1]
      have := hw w j hw1
      have := word_ge hw1
      omega
  | inr q =>
    obtain ⟨ws, j⟩ := q
    have hge := cellLine_ge _ _ _ _ _ hl
    rw [hl] at h
    rw [lL_i h]
    obtain ⟨k, rfl⟩ : ∃ k9, k = k9 + 1 := ⟨k - 1, by omega⟩
    unfold cellLine at hl
    split at hl
    · cases hl
    · rename_i w j2 hc
      have h1 := cell_word hc
      rw [wL_i h1]
      have := word_ge h1
      split at hl
      · have := cellLine_ge _ _ _ _ _ hl; omega
      · split at hl
        · cases hl
        · cases hl; omega
theorem word_le {t : List Nat} {i : Nat} (hi : i ≤ t.length) : ∀ w j, wordAt t i = .inr (w, j) → j ≤ t.length := by
  intro w j h
  unfold wordAt at h
  by_cases hq : i < t.length ∧ t.getD i 0 = 34
  · rw [if_pos hq] at h
    split at h
    · cases h
    · rename_i u j2 hs
      cases h
      have key : ∀ (l : List Nat) (b : Bool) (p : Nat) (acc u : List Nat) (e : Nat), scanQ l b p acc = .inr (u, e) → e ≤ p + l.length := by
        intro l
        induction l with
        | nil =>
          intro b p acc u e h
          cases b with
          | false => cases h
          | true => cases h; exact Nat.le_refl _
        | cons c cs ih =>
          intro b p acc u e h
          cases b with
          | false =>
            unfold scanQ at h
            split at h
            · cases h
            · split at h
              · have := ih _ _ _ _ _ h; simp only [List.length_cons]; omega
              · have := ih _ _ _ _ _ h; simp only [List.length_cons]; omega
          | true =>
            unfold scanQ at h
            split at h
            · have := ih _ _ _ _ _ h; simp only [List.length_cons]; omega
            · cases h; simp only [List.length_cons]; omega
      have := key _ _ _ _ _ _ hs
      rw [List.length_drop] at this
      have := hq.1
      omega
  · rw [if_neg hq] at h
    cases h
    have : (plain t i).length ≤ (t.drop i).length := by
      unfold plain
      exact (List.takeWhile_sublist _).length_le
    rw [List.length_drop] at this
    omega
theorem room_le {t : List Nat} {i : Nat} (hi : i ≤ t.length) : i + wL t i ≤ t.length := by
  cases hw : wordAt t i with
  | inl q => rw [wL_e hw]; omega
  | inr q =>
    obtain ⟨w, j⟩ := q
    rw [wL_i hw]
    have := word_le hi w j hw
    omega
theorem cellLine_le {t : List Nat} : ∀ (k i : Nat) (acc ws : List Wd) (j : Nat), cellLine t k i acc = .inr (ws, j) → j ≤ t.length ∧ i + k ≤ j := by
  intro k
  induction k with
  | zero => intro i acc ws j h; cases h
  | succ k ih =>
    intro i acc ws j h
    unfold cellLine at h
    split at h
    · cases h
    · rename_i w j2 hc
      have h1 := word_ge (cell_word hc)
      have h2 := (cellAt_ends hc).1.1
      split at h
      · have := ih _ _ _ _ h; omega
      · split at h
        · cases h
        · rename_i hk
          cases h; omega
theorem lL_le {t : List Nat} {cols i : Nat} (hi : i ≤ t.length) : i + lL t cols i ≤ t.length + 1 := by
  cases h : cellLine t cols i [] with
  | inl q => rw [lL_e h]; omega
  | inr q =>
    obtain ⟨ws, j⟩ := q
    rw [lL_i h]
    have := cellLine_le _ _ _ _ _ h
    omega
