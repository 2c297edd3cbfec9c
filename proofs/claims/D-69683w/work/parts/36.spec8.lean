/-! the plain side 8: words copied, tables made -/
set_option maxRecDepth 100000
theorem pWs_pre {me st le : Nat → Int32} {acc : List Wd} {w : Wd} (h : pWs me st le (acc ++ [w])) : pWs me st le acc := fun _ hk => pWs_l h hk
theorem nI_b {c : Nat} (h : c ≤ 126) : vp_nar .byte (nI c) = nI c := vp_b (by omega)
theorem pWs_byte {me st le : Nat → Int32} {W : List Wd} (h : pWs me st le W) : ∀ j, j < tot W → vp_nar .byte (me j) = me j := by
  have key : ∀ n, n ≤ W.length → ∀ j, j < tot (W.take n) → vp_nar .byte (me j) = me j := by
    intro n
    induction n with
    | zero => intro _ j hj; rw [List.take_zero, tot_nil] at hj; omega
    | succ n ih =>
      intro hn j hj
      rw [tot_take_S (by omega)] at hj
      by_cases e : j < tot (W.take n)
      · exact ih (by omega) j e
      · obtain ⟨-, -, h3, h4, -, -⟩ := h n (by omega)
        have h5 := h3 (j - tot (W.take n)) (by omega)
        rw [show tot (W.take n) + (j - tot (W.take n)) = j by omega] at h5
        rw [h5]
        exact nI_b (rgD h4 (by omega)).2
  intro j hj
  exact key W.length (Nat.le_refl _) j (by rw [List.take_length]; exact hj)
theorem cpy_tAt {me wb st le : Nat → Int32} {wn mt k o : Nat} {w : Wd} (h : pAt me st le k o w) (ho : o + w.1.length ≤ mt) (hw : wn + mt ≤ 65536) : tAt (va_cpy me wb 0 wn mt) (wn + o) w.1 := by
  obtain ⟨-, -, h3, h4, -, -⟩ := h
  refine ⟨fun j hj => ?_, h4, by omega⟩
  rw [pk_cpy_in (by omega) (by omega), show 0 + (wn + o + j - wn) = o + j by omega]
  exact h3 j hj
theorem tAt_old {me wb : Nat → Int32} {a wn sp mt : Nat} {t : List Nat} (h : tAt wb a t) (ha : a + t.length ≤ wn) : tAt (va_cpy me wb sp wn mt) a t := by
  obtain ⟨h1, h2, h3⟩ := h
  refine ⟨fun j hj => ?_, h2, h3⟩
  rw [pk_cpy_out (by omega)]
  exact h1 j hj
theorem TD_of {me st le wb f2 f3 : Nat → Int32} {W : List Wd} {wn n o : Nat} (h : pWs me st le W) (hn : o + n ≤ W.length) (hw : wn + tot W ≤ 65536) (h2 : ∀ k, k < n → f2 k = nI (wn + tot (W.take (o + k)))) (h3 : ∀ k, k < n → f3 k = encL (W.getD (o + k) ([], false))) : TD (va_cpy me wb 0 wn (tot W)) (wn + tot W) n f2 f3 (fun k => W.getD (o + k) ([], false)) := by
  intro k hk
  have hb := tot_take_le W (o + k + 1)
  rw [tot_take_S (by omega)] at hb
  have hp := h (o + k) (by omega)
  exact ⟨h3 k hk, hp.2.2.2.2.2, _, h2 k hk, cpy_tAt hp hb hw, by dsimp only; omega⟩
theorem twm_fresh {E : CE} {s : State} {H : Heap} {q : Nat → Nat} {tc tr a : Nat} {e : va_E} {f0 f1 f2 f3 f4 : Nat → Int32} (hs : s.heap.size ≤ H.size) (ha : s.heap.size ≤ a) (hD : va_D (va_A [(a, e)] H.size) (twm E q tc tr f0 f1 f2 f3 f4)) : ∀ j, j < 6 → s.heap.size ≤ q j := by
  intro j hj
  rcases j with _ | _ | _ | _ | _ | _ | j
  · exact fresh_of (C := []) hs ha hD (k := 0) rfl
  · exact fresh_of (C := []) hs ha hD (k := 1) rfl
  · exact fresh_of (C := []) hs ha hD (k := 2) rfl
  · exact fresh_of (C := []) hs ha hD (k := 3) rfl
  · exact fresh_of (C := []) hs ha hD (k := 4) rfl
  · exact fresh_of (C := []) hs ha hD (k := 5) rfl
  · omega
theorem apT_fresh {E : CE} {ad q : Nat → Nat} {F : XF} {O : XO} {S : XS} {T : XT} {P : XP} {R : XR} {H : Heap} {z : Nat} (hP : va_P E.1 ct_cl (xw E ad F O S T P R) H) (hz : H.size ≤ z) (hq : ∀ j, j < 6 → z ≤ q j) (ho : ∀ i, 20 < i → ad i < z) : apT ad q := by
  intro i hi j hj e
  by_cases hlt : 20 < i
  · have := ho i hlt; have := hq j hj; omega
  have hi : i < 20 := by omega
  have h1 : (xw E ad F O S T P R)[i]? ≠ none := by
    rw [Ne, List.getElem?_eq_none_iff]
    show ¬ 20 ≤ i
    omega
  obtain ⟨x, hx⟩ := Option.ne_none_iff_exists'.mp h1
  have h2 := (hP i x hx).lt
  have h3 : x.1 = ad i := by
    have h4 : ((xw E ad F O S T P R).map Prod.fst)[i]? = some x.1 := by rw [List.getElem?_map, hx]; rfl
    rw [show (xw E ad F O S T P R).map Prod.fst = (List.range 20).map ad from rfl, List.getElem?_map, List.getElem?_range hi] at h4
    exact (Option.some.inj h4).symm
  have := hq j hj
  omega
def cellW (tb : Tab) (k : Nat) : Wd := tb.2.getD k ([], false)
def nameW (tb : Tab) (k : Nat) : Wd := tb.1.getD k ([], false)
def tCols (tb : Tab) : Nat := tb.1.length
def tRows (tb : Tab) : Nat := tb.2.length / tb.1.length
/-- a table's numbers, in its rows and the row of words -/
def tNum (tb : Tab) (wb : Nat → Int32) (wn : Nat) (f : Nat → Nat → Int32) : Prop :=
  TD wb wn (tCols tb) (f 0) (f 1) (nameW tb) ∧ TD wb wn (tCols tb * tRows tb) (f 2) (f 3) (cellW tb) ∧ ∀ k, k < tCols tb → f 4 k = nI (laneT (tCols tb) (tRows tb) (cellW tb) k)
theorem gD_app {a b : List Wd} {k : Nat} : (a ++ b).getD (a.length + k) ([], false) = b.getD k ([], false) := by
  rw [gD_r (Nat.le_add_right _ _), Nat.add_sub_cancel_left]
theorem TD_ext {wb f2 f3 : Nat → Int32} {wn n : Nat} {cw cw' : Nat → Wd} (h : TD wb wn n f2 f3 cw) (he : ∀ k, k < n → cw k = cw' k) : TD wb wn n f2 f3 cw' := by
  intro k hk
  have := h k hk
  rwa [he k hk] at this
theorem laneT_ext {cols rows c : Nat} {cw cw' : Nat → Wd} (hc : c < cols) (he : ∀ k, k < cols * rows → cw k = cw' k) : laneT cols rows cw c = laneT cols rows cw' c := by
  have e1 : ∀ r, r < rows → cw (cols * r + c) = cw' (cols * r + c) := fun r hr => he _ (ix_lt hc hr)
  have a1 : colAny cols rows cw c ↔ colAny cols rows cw' c := ⟨fun ⟨r, h1, h2⟩ => ⟨r, h1, by rw [← e1 r h1]; exact h2⟩, fun ⟨r, h1, h2⟩ => ⟨r, h1, by rw [e1 r h1]; exact h2⟩⟩
  have a2 : ∀ ln, colAll ln cols rows cw c ↔ colAll ln cols rows cw' c := fun ln => ⟨fun h r hr => by rw [← e1 r hr]; exact h r hr, fun h r hr => by rw [e1 r hr]; exact h r hr⟩
  unfold laneT
  simp only [a1, a2]
theorem mul_cs {c r : Nat} (hc : c ≤ 16) (hr : r ≤ 499) : c * r ≤ 7984 := Nat.mul_le_mul hc hr
