/-! the plain side 7: lines, and the words that were read -/
set_option maxRecDepth 100000
theorem pWs_l {me st le : Nat → Int32} {acc : List Wd} {w : Wd} {k : Nat} (h : pWs me st le (acc ++ [w])) (hk : k < acc.length) : pAt me st le k (tot (acc.take k)) (acc.getD k ([], false)) := by
  have := h k (by rw [List.length_append]; omega)
  rwa [List.take_append_of_le_length (by omega), gD_l hk] at this
theorem pWs_r {me st le : Nat → Int32} {acc : List Wd} {w : Wd} {cn mt : Nat} (h : pWs me st le (acc ++ [w])) (hc : cn = acc.length) (hm : mt = tot acc) : pAt me st le cn mt w := by
  have := h acc.length (by rw [List.length_append]; simp)
  rw [List.take_left' rfl, gD_r (Nat.le_refl _), Nat.sub_self] at this
  subst hc; subst hm
  exact this
theorem pAt_of {me st le : Nat → Int32} {k o : Nat} {w : Wd} (h1 : st k = nI o) (h2 : le k = encL w) (h3 : ∀ j, j < w.1.length → me (o + j) = nI (w.1.getD j 0)) (h4 : ∀ x ∈ w.1, 32 ≤ x ∧ x ≤ 126) (h5 : o + w.1.length ≤ 16000) (h6 : w.1.length ≤ 40) : pAt me st le k o w := ⟨h1, h2, h3, h4, h5, h6⟩
theorem noSame {acc : List Wd} {w : Wd} {cn : Nat} (hc : cn = acc.length) (h : ∀ j, j < cn → (acc.getD j ([], false)).1 ≠ w.1) : ¬ ∃ x ∈ acc, x.1 = w.1 := by
  rintro ⟨x, hx, e⟩
  obtain ⟨j, hj, hx2⟩ := List.mem_iff_getElem.mp hx
  have := h j (by omega)
  rw [List.getD_eq_getElem?_getD, List.getElem?_eq_getElem hj, hx2] at this
  exact this e
theorem someSame {acc : List Wd} {w : Wd} {j : Nat} (hj : j < acc.length) (h : (acc.getD j ([], false)).1 = w.1) : ∃ x ∈ acc, x.1 = w.1 :=
  ⟨acc[j], List.getElem_mem hj, by rw [List.getD_eq_getElem?_getD, List.getElem?_eq_getElem hj] at h; exact h⟩
theorem cellAt_i {t : List Nat} {i j : Nat} {w : Wd} (h : wordAt t i = .inr (w, j)) : cellAt t i = if ¬ endsAt t j then .inl j else if 40 < w.1.length then .inl i else .inr (w, j) := by
  unfold cellAt; rw [h]
theorem cellAt_e {t : List Nat} {i p : Nat} (h : wordAt t i = .inl p) : cellAt t i = .inl p := by
  unfold cellAt; rw [h]
theorem nameAt_i {t : List Nat} {i j : Nat} {w : Wd} {acc : List Wd} (h : wordAt t i = .inr (w, j)) : nameAt t i acc = if ¬ endsAt t j then .inl j else if 20 < w.1.length ∨ w.1.length = 0 ∨ (∃ x ∈ acc, x.1 = w.1) then .inl i else .inr (w, j) := by
  unfold nameAt; rw [h]
theorem nameAt_e {t : List Nat} {i p : Nat} {acc : List Wd} (h : wordAt t i = .inl p) : nameAt t i acc = .inl p := by
  unfold nameAt; rw [h]
theorem cellAt_ends {t : List Nat} {i j : Nat} {w : Wd} (h : cellAt t i = .inr (w, j)) : endsAt t j ∧ w.1.length ≤ 40 := by
  unfold cellAt at h
  cases hw : wordAt t i with
  | inl p => rw [hw] at h; cases h
  | inr x =>
    obtain ⟨w', j'⟩ := x
    rw [hw] at h
    dsimp only at h
    by_cases h1 : endsAt t j'
    · rw [if_neg (fun q => q h1)] at h
      by_cases h2 : 40 < w'.1.length
      · rw [if_pos h2] at h; cases h
      · rw [if_neg h2] at h; cases h; exact ⟨h1, by omega⟩
    · rw [if_pos h1] at h; cases h
theorem nameAt_ends {t : List Nat} {i j : Nat} {w : Wd} {acc : List Wd} (h : nameAt t i acc = .inr (w, j)) : endsAt t j ∧ w.1.length ≤ 20 ∧ 0 < w.1.length ∧ ¬ ∃ x ∈ acc, x.1 = w.1 := by
  unfold nameAt at h
  cases hw : wordAt t i with
  | inl p => rw [hw] at h; cases h
  | inr x =>
    obtain ⟨w', j'⟩ := x
    rw [hw] at h
    dsimp only at h
    by_cases h1 : endsAt t j'
    · rw [if_neg (fun q => q h1)] at h
      by_cases h2 : 20 < w'.1.length ∨ w'.1.length = 0 ∨ (∃ x ∈ acc, x.1 = w'.1)
      · rw [if_pos h2] at h; cases h
      · rw [if_neg h2] at h
        cases h
        exact ⟨h1, by omega, by omega, fun q => h2 (Or.inr (Or.inr q))⟩
    · rw [if_pos h1] at h; cases h
theorem cellLine_0 {t : List Nat} {k i : Nat} {acc : List Wd} (h : k = 0) : cellLine t k i acc = .inl i := by subst h; rfl
theorem cellLine_E {t : List Nat} {k i p : Nat} {acc : List Wd} (hk : 0 < k) (h : cellAt t i = .inl p) : cellLine t k i acc = .inl p := by
  obtain ⟨k, rfl⟩ : ∃ n, k = n + 1 := ⟨k - 1, by omega⟩
  show (match cellAt t i with | .inl p => _ | .inr (w, j) => _) = _
  rw [h]
theorem cellLine_S {t : List Nat} {k i j : Nat} {w : Wd} {acc : List Wd} (hk : 0 < k) (h : cellAt t i = .inr (w, j)) : cellLine t k i acc = if t.getD j 0 = 44 then cellLine t (k - 1) (j + 1) (acc ++ [w]) else if k - 1 ≠ 0 then .inl j else .inr (acc ++ [w], j + 1) := by
  obtain ⟨k, rfl⟩ : ∃ n, k = n + 1 := ⟨k - 1, by omega⟩
  show (match cellAt t i with | .inl p => _ | .inr (w, j) => _) = _
  rw [h]
  rfl
theorem nameLine_0 {t : List Nat} {k i : Nat} {acc : List Wd} (h : k = 0) : nameLine t k i acc = .inl i := by subst h; rfl
theorem nameLine_E {t : List Nat} {k i p : Nat} {acc : List Wd} (hk : 0 < k) (h : nameAt t i acc = .inl p) : nameLine t k i acc = .inl p := by
  obtain ⟨k, rfl⟩ : ∃ n, k = n + 1 := ⟨k - 1, by omega⟩
  show (match nameAt t i acc with | .inl p => _ | .inr (w, j) => _) = _
  rw [h]
theorem nameLine_S {t : List Nat} {k i j : Nat} {w : Wd} {acc : List Wd} (hk : 0 < k) (h : nameAt t i acc = .inr (w, j)) : nameLine t k i acc = if t.getD j 0 = 44 then nameLine t (k - 1) (j + 1) (acc ++ [w]) else .inr (acc ++ [w], j + 1) := by
  obtain ⟨k, rfl⟩ : ∃ n, k = n + 1 := ⟨k - 1, by omega⟩
  show (match nameAt t i acc with | .inl p => _ | .inr (w, j) => _) = _
  rw [h]
  rfl
theorem linesOf_e {t : List Nat} {cols k i : Nat} {acc : List Wd} (h : ¬ i < t.length) : linesOf t cols k i acc = .inr acc := by
  cases k with
  | zero => show (if _ then _ else _) = _; rw [if_neg h]
  | succ k => show (if _ then _ else _) = _; rw [if_neg h]
theorem linesOf_0 {t : List Nat} {cols k i : Nat} {acc : List Wd} (hk : k = 0) (h : i < t.length) : linesOf t cols k i acc = .inl i := by
  subst hk; show (if _ then _ else _) = _; rw [if_pos h]
theorem linesOf_E {t : List Nat} {cols k i p : Nat} {acc : List Wd} (hk : 0 < k) (hi : i < t.length) (h : cellLine t cols i [] = .inl p) : linesOf t cols k i acc = .inl p := by
  obtain ⟨k, rfl⟩ : ∃ n, k = n + 1 := ⟨k - 1, by omega⟩
  show (if _ then _ else _) = _
  rw [if_pos hi, h]
theorem linesOf_S {t : List Nat} {cols k i j : Nat} {ws acc : List Wd} (hk : 0 < k) (hi : i < t.length) (h : cellLine t cols i [] = .inr (ws, j)) : linesOf t cols k i acc = linesOf t cols (k - 1) j (acc ++ ws) := by
  obtain ⟨k, rfl⟩ : ∃ n, k = n + 1 := ⟨k - 1, by omega⟩
  show (if _ then _ else _) = _
  rw [if_pos hi, h]
  rfl
theorem parseT_e {t : List Nat} {p : Nat} (h : nameLine t 16 0 [] = .inl p) : parseT t = .inl p := by unfold parseT; rw [h]
theorem parseT_e2 {t : List Nat} {ns : List Wd} {i p : Nat} (h : nameLine t 16 0 [] = .inr (ns, i)) (h2 : linesOf t ns.length 499 i [] = .inl p) : parseT t = .inl p := by unfold parseT; rw [h]; dsimp only; rw [h2]
theorem parseT_i {t : List Nat} {ns cs : List Wd} {i : Nat} (h : nameLine t 16 0 [] = .inr (ns, i)) (h2 : linesOf t ns.length 499 i [] = .inr cs) : parseT t = .inr (ns, cs) := by unfold parseT; rw [h]; dsimp only; rw [h2]
theorem word_q {t : List Nat} {i j : Nat} {u : List Nat} (h : i < t.length ∧ t.getD i 0 = 34) (hs : scanQ (t.drop (i + 1)) false (i + 1) [] = .inr (u, j)) : wordAt t i = .inr ((u, true), j) := by
  unfold wordAt; rw [if_pos h, hs]
theorem word_qe {t : List Nat} {i p : Nat} (h : i < t.length ∧ t.getD i 0 = 34) (hs : scanQ (t.drop (i + 1)) false (i + 1) [] = .inl p) : wordAt t i = .inl p := by
  unfold wordAt; rw [if_pos h, hs]
theorem word_u {t : List Nat} {i j : Nat} {u : List Nat} (h : ¬ (i < t.length ∧ t.getD i 0 = 34)) (hp : plain t i = u ++ plain t j) (hj : ¬ (j < t.length ∧ okU (t.getD j 0))) (hi : j = i + u.length) : wordAt t i = .inr ((u, false), j) := by
  rw [plain_0 hj, List.append_nil] at hp
  unfold wordAt; rw [if_neg h, hp, hi]
theorem gD_snoc {u : List Nat} {c j : Nat} (hj : j < (u ++ [c]).length) : (u ++ [c]).getD j 0 = if j = u.length then c else u.getD j 0 := by
  rw [List.length_append, List.length_singleton] at hj
  by_cases e : j = u.length
  · rw [if_pos e, e, gD_r (Nat.le_refl _), Nat.sub_self]; rfl
  · rw [if_neg e, gD_l (by omega)]
/-- one sign more -/
theorem me_snoc {me : Nat → Int32} {o mt : Nat} {u : List Nat} {c : Nat} (hm : mt = o + u.length) (h : ∀ j, j < u.length → me (o + j) = nI (u.getD j 0)) : ∀ j, j < (u ++ [c]).length → upd me mt (nI c) (o + j) = nI ((u ++ [c]).getD j 0) := by
  intro j hj
  rw [gD_snoc hj]
  rw [List.length_append, List.length_singleton] at hj
  by_cases e : j = u.length
  · rw [if_pos e, hm, e, upd_s]
  · rw [if_neg e, upd_n (by omega)]; exact h j (by omega)
theorem rg_snoc {u : List Nat} {c : Nat} (h : ∀ x ∈ u, 32 ≤ x ∧ x ≤ 126) (hc : 32 ≤ c ∧ c ≤ 126) : ∀ x ∈ u ++ [c], 32 ≤ x ∧ x ≤ 126 := by
  intro x hx
  rcases List.mem_append.mp hx with q | q
  · exact h x q
  · rw [List.mem_singleton.mp q]; exact hc
