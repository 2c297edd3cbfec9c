/-! the plain side 15: what reading, picking and writing answer; tables that were read are good -/
set_option maxRecDepth 100000
abbrev okN (w : Wd) : Prop := 0 < w.1.length ∧ w.1.length ≤ 20
abbrev okC (w : Wd) : Prop := w.1.length ≤ 40 ∧ (w.2 = false → ∀ x ∈ w.1, x ≠ 34 ∧ x ≠ 44)
theorem all_snoc {P : Wd → Prop} {acc : List Wd} {w : Wd} (h : ∀ x ∈ acc, P x) (hw : P w) : ∀ x ∈ acc ++ [w], P x := by
  intro x hx
  rcases List.mem_append.mp hx with q | q
  · exact h x q
  · rw [List.mem_singleton.mp q]; exact hw
theorem tw_all {p : Nat → Bool} : ∀ (l : List Nat) (x : Nat), x ∈ l.takeWhile p → p x = true := by
  intro l
  induction l with
  | nil => intro x h; cases h
  | cons y l ih =>
    intro x h
    rw [List.takeWhile_cons] at h
    split at h
    · rcases List.mem_cons.mp h with q | q
      · rw [q]; assumption
      · exact ih x q
    · cases h
theorem word_okC {t : List Nat} {i j : Nat} {w : Wd} (h : wordAt t i = .inr (w, j)) : w.2 = false → ∀ x ∈ w.1, x ≠ 34 ∧ x ≠ 44 := by
  intro hq x hx
  unfold wordAt at h
  split at h
  · split at h
    · cases h
    · cases h; cases hq
  · cases h
    have := tw_all _ x hx
    rw [decide_eq_true_iff] at this
    exact ⟨this.2.2.1, this.2.2.2⟩
theorem cell_okC {t : List Nat} {i j : Nat} {w : Wd} (h : cellAt t i = .inr (w, j)) : okC w := by
  refine ⟨(cellAt_ends h).2, ?_⟩
  unfold cellAt at h
  cases hw : wordAt t i with
  | inl p => rw [hw] at h; cases h
  | inr x =>
    obtain ⟨w', j'⟩ := x
    rw [hw] at h
    dsimp only at h
    split at h
    · cases h
    · split at h
      · cases h
      · cases h; exact word_okC hw
theorem nameLine_ok {t : List Nat} : ∀ (k i : Nat) (acc ns : List Wd) (j : Nat), nameLine t k i acc = .inr (ns, j) → (∀ w ∈ acc, okN w) → (∀ w ∈ ns, okN w) ∧ acc.length < ns.length ∧ ns.length ≤ acc.length + k := by
  intro k
  induction k with
  | zero => intro i acc ns j h; cases h
  | succ k ih =>
    intro i acc ns j h ha
    cases hn : nameAt t i acc with
    | inl p => rw [nameLine_E (by omega) hn] at h; cases h
    | inr x =>
      obtain ⟨w, j'⟩ := x
      rw [nameLine_S (by omega) hn, Nat.add_sub_cancel] at h
      obtain ⟨-, e1, e2, -⟩ := nameAt_ends hn
      have ha' := all_snoc ha (show okN w from ⟨e2, e1⟩)
      split at h
      · obtain ⟨a1, a2, a3⟩ := ih _ _ _ _ h ha'
        rw [List.length_append, List.length_singleton] at a2 a3
        exact ⟨a1, by omega, by omega⟩
      · cases h
        rw [List.length_append, List.length_singleton]
        exact ⟨ha', by omega, by omega⟩
theorem cellLine_ok {t : List Nat} : ∀ (k i : Nat) (acc ws : List Wd) (j : Nat), cellLine t k i acc = .inr (ws, j) → (∀ w ∈ acc, okC w) → (∀ w ∈ ws, okC w) ∧ ws.length = acc.length + k := by
  intro k
  induction k with
  | zero => intro i acc ns j h; cases h
  | succ k ih =>
    intro i acc ns j h ha
    cases hn : cellAt t i with
    | inl p => rw [cellLine_E (by omega) hn] at h; cases h
    | inr x =>
      obtain ⟨w, j'⟩ := x
      rw [cellLine_S (by omega) hn, Nat.add_sub_cancel] at h
      have ha' := all_snoc ha (cell_okC hn)
      split at h
      · obtain ⟨a1, a2⟩ := ih _ _ _ _ h ha'
        rw [List.length_append, List.length_singleton] at a2
        exact ⟨a1, by omega⟩
      · split at h
        · cases h
        · cases h
          rw [List.length_append, List.length_singleton]
          exact ⟨ha', by omega⟩
theorem linesOf_ok {t : List Nat} {cols : Nat} : ∀ (k i : Nat) (acc cs : List Wd), linesOf t cols k i acc = .inr cs → (∀ w ∈ acc, okC w) → (∀ w ∈ cs, okC w) ∧ ∃ n, n ≤ k ∧ cs.length = acc.length + cols * n := by
  intro k
  induction k with
  | zero =>
    intro i acc cs h ha
    by_cases hi : i < t.length
    · rw [linesOf_0 rfl hi] at h; cases h
    · rw [linesOf_e hi] at h; cases h; exact ⟨ha, 0, by omega, by omega⟩
  | succ k ih =>
    intro i acc cs h ha
    by_cases hi : i < t.length
    · cases hl : cellLine t cols i [] with
      | inl p => rw [linesOf_E (by omega) hi hl] at h; cases h
      | inr x =>
        obtain ⟨ws, j⟩ := x
        rw [linesOf_S (by omega) hi hl, Nat.add_sub_cancel] at h
        obtain ⟨b1, b2⟩ := cellLine_ok _ _ _ _ _ hl (fun w hw => by cases hw)
        obtain ⟨a1, n, a2, a3⟩ := ih _ _ _ h (fun w hw => by
          rcases List.mem_append.mp hw with q | q
          · exact ha w q
          · exact b1 w q)
        refine ⟨a1, n + 1, by omega, ?_⟩
        rw [List.length_append, b2] at a3
        rw [Nat.mul_succ]
        simp only [List.length_nil] at a3
        omega
    · rw [linesOf_e hi] at h; cases h; exact ⟨ha, 0, by omega, by omega⟩
theorem parse_ok {t : List Nat} {tb : Tab} (h : parseT t = .inr tb) : tabOK tb := by
  unfold parseT at h
  cases hn : nameLine t 16 0 [] with
  | inl p => rw [hn] at h; cases h
  | inr x =>
    obtain ⟨ns, i⟩ := x
    rw [hn] at h
    dsimp only at h
    cases hl : linesOf t ns.length 499 i [] with
    | inl p => rw [hl] at h; cases h
    | inr cs =>
      rw [hl] at h
      cases h
      obtain ⟨a1, a2, a3⟩ := nameLine_ok _ _ _ _ _ hn (fun w hw => by cases hw)
      obtain ⟨b1, n, b2, b3⟩ := linesOf_ok _ _ _ _ hl (fun w hw => by cases hw)
      simp only [List.length_nil] at a2 a3 b3
      have e2 : tRows (ns, cs) = n := by
        show cs.length / ns.length = n
        rw [b3, Nat.zero_add, Nat.mul_comm, Nat.mul_div_cancel _ (by omega)]
      refine ⟨⟨by show 1 ≤ ns.length; omega, by show ns.length ≤ 16; omega⟩, by omega, ?_, a1, b1⟩
      show cs.length = ns.length * tRows (ns, cs)
      rw [e2, b3]; omega
theorem nameW_mem {tb : Tab} {c : Nat} (h : c < tCols tb) : nameW tb c ∈ tb.1 := by
  unfold nameW
  rw [List.getD_eq_getElem?_getD, List.getElem?_eq_getElem h]
  exact List.getElem_mem _
theorem cellW_mem {tb : Tab} {k : Nat} (h : k < tb.2.length) : cellW tb k ∈ tb.2 := by
  unfold cellW
  rw [List.getD_eq_getElem?_getD, List.getElem?_eq_getElem h]
  exact List.getElem_mem _
theorem nameW_nm {tb : Tab} (h : ∀ w ∈ tb.1, 0 < w.1.length ∧ w.1.length ≤ 20) : ∀ c, c < tCols tb → ¬ missW (nameW tb c) := by
  intro c hc q
  have := (h _ (nameW_mem hc)).1
  rw [q.1] at this
  cases this
theorem tot_mapR (w : Nat → Wd) : ∀ n, tot ((List.range n).map w) = sumN (lenW w) n := by
  intro n
  induction n with
  | zero => rfl
  | succ n ih => rw [List.range_succ, List.map_append, tot_app, ih, sumN_S]; rfl
theorem mapR_self {l : List Wd} : (List.range l.length).map (fun k => l.getD k ([], false)) = l := by
  refine List.ext_getElem (by simp) (fun i h1 h2 => ?_)
  rw [List.getElem_map, List.getElem_range, List.getD_eq_getElem?_getD, List.getElem?_eq_getElem h2]; rfl
theorem tot_names (tb : Tab) : tot tb.1 = sumN (lenW (nameW tb)) (tCols tb) := by
  rw [← tot_mapR]; exact congrArg tot mapR_self.symm
theorem gD_mapR {w : Nat → Wd} {n k : Nat} (h : k < n) : ((List.range n).map w).getD k ([], false) = w k := by
  rw [List.getD_eq_getElem?_getD, List.getElem?_map, List.getElem?_range h]; rfl
/-- the table of picked rows -/
def pickT (tb : Tab) (pk : List Nat) : Tab := (tb.1, (List.range (tCols tb * pk.length)).map (pickW (tCols tb) (fun j => pk.getD j 0) (cellW tb)))
theorem pickT_cols (tb : Tab) (pk : List Nat) : tCols (pickT tb pk) = tCols tb := rfl
theorem pickT_rows {tb : Tab} {pk : List Nat} (h : 1 ≤ tCols tb) : tRows (pickT tb pk) = pk.length := by
  show ((List.range (tCols tb * pk.length)).map _).length / tb.1.length = pk.length
  rw [List.length_map, List.length_range, Nat.mul_comm, show tb.1.length = tCols tb from rfl, Nat.mul_div_cancel _ (by omega)]
theorem pickT_cell {tb : Tab} {pk : List Nat} {k : Nat} (h : k < tCols tb * pk.length) : cellW (pickT tb pk) k = pickW (tCols tb) (fun j => pk.getD j 0) (cellW tb) k := gD_mapR h
theorem pickT_tot (tb : Tab) (pk : List Nat) : tot (pickT tb pk).1 + tot (pickT tb pk).2 = sumN (lenW (nameW tb)) (tCols tb) + sumN (lenW (pickW (tCols tb) (fun j => pk.getD j 0) (cellW tb))) (tCols tb * pk.length) := by
  rw [show (pickT tb pk).1 = tb.1 from rfl, tot_names, show (pickT tb pk).2 = (List.range (tCols tb * pk.length)).map (pickW (tCols tb) (fun j => pk.getD j 0) (cellW tb)) from rfl, tot_mapR]
theorem pkL_in {pk : List Nat} {n : Nat} (h : ¬ ∃ x ∈ pk, n ≤ x) {j : Nat} (hj : j < pk.length) : pk.getD j 0 < n := by
  refine Nat.not_le.mp (fun q => h ⟨pk.getD j 0, ?_, q⟩)
  rw [List.getD_eq_getElem?_getD, List.getElem?_eq_getElem hj]
  exact List.getElem_mem _
theorem pickT_ok {tb : Tab} {pk : List Nat} (h : tabOK tb) (hp : ¬ ∃ x ∈ pk, tRows tb ≤ x) (hl : pk.length ≤ 499) : tabOK (pickT tb pk) := by
  obtain ⟨h1, h2, h3, h4, h5⟩ := h
  refine ⟨h1, by rw [pickT_rows h1.1]; exact hl, ?_, h4, ?_⟩
  · rw [pickT_cols, pickT_rows h1.1]
    show ((List.range (tCols tb * pk.length)).map _).length = _
    rw [List.length_map, List.length_range]
  · intro w hw
    obtain ⟨k, hk, rfl⟩ := List.mem_map.mp hw
    rw [List.mem_range] at hk
    obtain ⟨_, a2, a3, a4⟩ := pick_in hk
    unfold pickW
    exact h5 _ (cellW_mem (by rw [h3]; exact ix_lt a3 (pkL_in hp a2)))
theorem tNum_pick {tb : Tab} {pk : List Nat} {wb : Nat → Int32} {wn : Nat} {f : Nat → Nat → Int32} (h1 : 1 ≤ tCols tb) (a : TD wb wn (tCols tb) (f 0) (f 1) (nameW tb)) (b : TD wb wn (tCols tb * pk.length) (f 2) (f 3) (pickW (tCols tb) (fun j => pk.getD j 0) (cellW tb))) (d : ∀ j, j < tCols tb → f 4 j = nI (laneT (tCols tb) pk.length (pickW (tCols tb) (fun j => pk.getD j 0) (cellW tb)) j)) : tNum (pickT tb pk) wb wn f := by
  unfold tNum
  rw [pickT_cols, pickT_rows h1]
  exact ⟨a, TD_ext b (fun k hk => (pickT_cell hk).symm), fun k hk => by rw [d k hk, laneT_ext hk (fun k hk => (pickT_cell hk).symm)]⟩
def fullS (ts : List Tab) (tb : Tab) : Prop := ts.length = 40 ∨ 65536 < totT ts + (tot tb.1 + tot tb.2)
/-- answer, place, tables -/
def readS (ts : List Tab) (tx : List Nat) : Int32 × Int32 × List Tab := match parseT tx with
  | .inl pl => (-20, nI pl, ts)
  | .inr tb => if ts.length = 40 ∨ 65536 < totT ts + (tot tb.1 + tot tb.2) then (-12, -1, ts) else (nI (ts.length + 1), -1, ts ++ [tb])
def pickS (ts : List Tab) (pk : List Nat) (t : Int32) : Int32 × List Tab := match tabOf ts t with
  | none => (-14, ts)
  | some tb => if ∃ x ∈ pk, tRows tb ≤ x then (-2, ts) else
    if ts.length = 40 ∨ 65536 < totT ts + (tot (pickT tb pk).1 + tot (pickT tb pk).2) then (-12, ts) else (nI (ts.length + 1), ts ++ [pickT tb pk])
def wrT (tb : Tab) : List Nat := wrO (tCols tb) (tRows tb) (nameW tb) (cellW tb) (laneT (tCols tb) (tRows tb) (cellW tb))
def writeS (ts : List Tab) (o : List Nat) (t : Int32) : Int32 × List Nat := match tabOf ts t with
  | none => (-14, o)
  | some tb => if (wrT tb).length ≤ 30000 then (nI (wrT tb).length, wrT tb) else (-12, o)
theorem laneT_le (cols rows : Nat) (cw : Nat → Wd) (c : Nat) : laneT cols rows cw c ≤ 8 := by
  unfold laneT
  repeat' split
  all_goals omega
theorem esc_lt {t : List Nat} (h : ∀ x ∈ t, x < 128) : ∀ x ∈ esc t, x < 128 := by
  induction t with
  | nil => intro x hx; cases hx
  | cons c t ih =>
    intro x hx
    rcases List.mem_append.mp (show x ∈ esc1 c ++ esc t from hx) with q | q
    · unfold esc1 at q
      have := h c List.mem_cons_self
      split at q
      · simp at q; omega
      · rw [List.mem_singleton.mp q]; exact this
    · exact ih (fun y hy => h y (List.mem_cons_of_mem _ hy)) x q
theorem say_lt {t : List Nat} {mk : Int32} (h : ∀ x ∈ t, x < 128) : ∀ x ∈ sayO t mk, x < 128 := by
  intro x hx
  unfold sayO at hx
  split at hx
  · exact esc_lt h x hx
  · rcases List.mem_append.mp hx with q | q
    · rw [List.mem_singleton.mp q]; omega
    · rcases List.mem_append.mp q with q | q
      · exact esc_lt h x q
      · rw [List.mem_singleton.mp q]; omega
theorem com_lt (c : Nat) : ∀ x ∈ comO c, x < 128 := by
  intro x hx
  unfold comO at hx
  split at hx
  · rw [List.mem_singleton.mp hx]; omega
  · cases hx
theorem app_lt {a b : List Nat} (h1 : ∀ x ∈ a, x < 128) (h2 : ∀ x ∈ b, x < 128) : ∀ x ∈ a ++ b, x < 128 := by
  intro x hx
  rcases List.mem_append.mp hx with q | q
  · exact h1 x q
  · exact h2 x q
theorem one_lt {c : Nat} (h : c < 128) : ∀ x ∈ [c], x < 128 := by intro x hx; rw [List.mem_singleton.mp hx]; exact h
theorem wrO_lt {cols rows : Nat} {nw cw : Nat → Wd} {ln : Nat → Nat} (hn : ∀ c, c < cols → ∀ x ∈ (nw c).1, x < 128) (hc : ∀ k, k < cols * rows → ∀ x ∈ (cw k).1, x < 128) : ∀ x ∈ wrO cols rows nw cw ln, x < 128 := by
  have h1 : ∀ n, n ≤ cols → ∀ x ∈ hdrO nw n, x < 128 := by
    intro n
    induction n with
    | zero => intro _ x hx; cases hx
    | succ n ih => intro hl; exact app_lt (ih (by omega)) (app_lt (com_lt n) (say_lt (hn n (by omega))))
  have h2 : ∀ r, r < rows → ∀ n, n ≤ cols → ∀ x ∈ rowO cols cw ln r n, x < 128 := by
    intro r hr n
    induction n with
    | zero => intro _ x hx; cases hx
    | succ n ih =>
      intro hl
      refine app_lt (ih (by omega)) (app_lt (com_lt n) ?_)
      unfold cellO
      split
      · intro x hx; cases hx
      · exact say_lt (hc _ (ix_lt (by omega) hr))
  have h3 : ∀ r, r ≤ rows → ∀ x ∈ bodyO cols cw ln r, x < 128 := by
    intro r
    induction r with
    | zero => intro _ x hx; cases hx
    | succ r ih => intro hl; exact app_lt (ih (by omega)) (app_lt (h2 r (by omega) cols (Nat.le_refl _)) (one_lt (by omega)))
  exact app_lt (app_lt (h1 cols (Nat.le_refl _)) (one_lt (by omega))) (h3 rows (Nat.le_refl _))
theorem TD_lt {wb f g : Nat → Int32} {wn n : Nat} {cw : Nat → Wd} (h : TD wb wn n f g cw) : ∀ k, k < n → ∀ x ∈ (cw k).1, x < 128 := by
  intro k hk x hx
  obtain ⟨_, _, a, _, h4, _⟩ := h k hk
  have := (h4.2.1 x hx).2
  omega
def swp (ad : Nat → Nat) (j : Nat) : Nat := if j = 16 then ad 18 else if j = 17 then ad 19 else if j = 18 then ad 16 else if j = 19 then ad 17 else ad j
