/-! the plain side 1: copies, texts in a row of bytes, the order of words -/
set_option maxRecDepth 100000
/-- a row of bytes -/
def bF (f : Nat → Int32) : Prop := ∀ j, vp_nar .byte (f j) = f j
theorem vp_idem (x : Int32) : vp_nar .byte (vp_nar .byte x) = vp_nar .byte x := by
  rw [vp_nar_byte, vp_nar_byte]
  congr 1
  exact Int8.toInt8_toInt32 _
theorem bF_upd {f : Nat → Int32} (h : bF f) (k : Nat) (x : Int32) : bF (upd f k (vp_nar .byte x)) := by
  intro j
  unfold upd
  split
  · exact vp_idem x
  · exact h j
theorem bF_cpy {f g : Nat → Int32} (hf : bF f) (hg : bF g) (sp dp n : Nat) : bF (va_cpy f g sp dp n) := by
  intro j
  unfold va_cpy
  split
  · exact hf _
  · exact hg _
theorem bF_0 : bF (fun _ => 0) := fun _ => by
  show vp_nar .byte 0 = 0
  rw [vp_nar_byte]; decide
theorem cpy_0 {α : Type} (f g : Nat → α) (sp dp : Nat) : va_cpy f g sp dp 0 = g := by
  funext j
  unfold va_cpy
  rw [if_neg (by omega)]
theorem cpy_S (f g : Nat → Int32) (sp dp n : Nat) : upd (va_cpy f g sp dp n) (dp + n) (f (sp + n)) = va_cpy f g sp dp (n + 1) := by
  funext j
  unfold upd va_cpy
  by_cases h : j = dp + n
  · rw [if_pos h, if_pos (by omega), h]; congr 1; omega
  · rw [if_neg h]
    by_cases h2 : dp ≤ j ∧ j < dp + n
    · rw [if_pos h2, if_pos (by omega)]
    · rw [if_neg h2, if_neg (by omega)]
theorem cpy_Sn {f g : Nat → Int32} (hf : bF f) (sp dp n : Nat) : upd (va_cpy f g sp dp n) (dp + n) (vp_nar .byte (f (sp + n))) = va_cpy f g sp dp (n + 1) := by rw [hf]; exact cpy_S f g sp dp n
/-- the text t stands in the row at a -/
def tAt (wb : Nat → Int32) (a : Nat) (t : List Nat) : Prop := (∀ j, j < t.length → wb (a + j) = nI (t.getD j 0)) ∧ (∀ x ∈ t, 32 ≤ x ∧ x ≤ 126) ∧ a + t.length ≤ 65536
theorem tAt_rg {wb : Nat → Int32} {a : Nat} {t : List Nat} (h : tAt wb a t) {j : Nat} (hj : j < t.length) : 32 ≤ t.getD j 0 ∧ t.getD j 0 ≤ 126 := by
  rw [List.getD_eq_getElem?_getD, List.getElem?_eq_getElem hj]
  exact h.2.1 _ (List.getElem_mem hj)
/-- the order of two words -/
def cmpI : List Nat → List Nat → Int32
  | [], [] => 0
  | [], _ :: _ => -1
  | _ :: _, [] => 1
  | x :: xs, y :: ys => if x = y then cmpI xs ys else if x < y then -1 else 1
theorem drop_cons {t : List Nat} {k : Nat} (h : k < t.length) : t.drop k = t.getD k 0 :: t.drop (k + 1) := by
  rw [List.drop_eq_getElem_cons h, List.getD_eq_getElem?_getD, List.getElem?_eq_getElem h]; rfl
theorem cmp_eq {t u : List Nat} {k : Nat} (h1 : k < t.length) (h2 : k < u.length) (h : t.getD k 0 = u.getD k 0) : cmpI (t.drop k) (u.drop k) = cmpI (t.drop (k + 1)) (u.drop (k + 1)) := by
  rw [drop_cons h1, drop_cons h2]
  show (if _ = _ then _ else _) = _
  rw [if_pos h]
theorem cmp_ne {t u : List Nat} {k : Nat} (h1 : k < t.length) (h2 : k < u.length) (h : t.getD k 0 ≠ u.getD k 0) : cmpI (t.drop k) (u.drop k) = if t.getD k 0 < u.getD k 0 then -1 else 1 := by
  rw [drop_cons h1, drop_cons h2]
  show (if _ = _ then _ else _) = _
  rw [if_neg h]
theorem cmp_end {t u : List Nat} {k : Nat} (hk : k = t.length ∨ k = u.length) (h1 : k ≤ t.length) (h2 : k ≤ u.length) : cmpI (t.drop k) (u.drop k) = if t.length < u.length then -1 else if t.length = u.length then 0 else 1 := by
  rcases hk with h | h
  · rw [List.drop_of_length_le (by omega : t.length ≤ k)]
    by_cases h3 : k = u.length
    · rw [List.drop_of_length_le (by omega : u.length ≤ k), if_neg (by omega), if_pos (by omega)]; rfl
    · rw [drop_cons (by omega : k < u.length), if_pos (by omega)]; rfl
  · rw [List.drop_of_length_le (by omega : u.length ≤ k)]
    by_cases h3 : k = t.length
    · rw [List.drop_of_length_le (by omega : t.length ≤ k), if_neg (by omega), if_pos (by omega)]; rfl
    · rw [drop_cons (by omega : k < t.length), if_neg (by omega), if_neg (by omega)]; rfl
/-- a word: its text, and whether it stood in signs -/
abbrev Wd : Type := List Nat × Bool
def encL (w : Wd) : Int32 := if w.1 = [] ∧ w.2 = false then -1 else if w.2 = true then nI (w.1.length + 64) else nI w.1.length
theorem encL_neg {w : Wd} (hl : w.1.length ≤ 40) : encL w < 0 ↔ w.1 = [] ∧ w.2 = false := by
  unfold encL
  by_cases h : w.1 = [] ∧ w.2 = false
  · rw [if_pos h]; exact ⟨fun _ => h, fun _ => by decide⟩
  · rw [if_neg h]
    refine ⟨fun q => ?_, fun q => absurd q h⟩
    split at q
    · exact absurd q (nI_pos (by omega))
    · exact absurd q (nI_pos (by omega))
theorem encL_quo {w : Wd} (hl : w.1.length ≤ 40) : nI 64 ≤ encL w ↔ w.2 = true := by
  unfold encL
  by_cases h : w.1 = [] ∧ w.2 = false
  · rw [if_pos h, h.2]; exact ⟨fun q => absurd q (by decide), fun q => by cases q⟩
  · rw [if_neg h]
    by_cases h2 : w.2 = true
    · rw [if_pos h2]; exact ⟨fun _ => h2, fun _ => nI_le (by omega) (by omega)⟩
    · rw [if_neg h2]; exact ⟨fun q => absurd q (nI_ge (by omega) (by omega)), fun q => absurd q h2⟩
theorem encL_len {w : Wd} (hl : w.1.length ≤ 40) (h : ¬ encL w < 0) : encL w &&& nI 63 = nI w.1.length := by
  have h' : ¬ (w.1 = [] ∧ w.2 = false) := fun q => h ((encL_neg hl).mpr q)
  unfold encL
  rw [if_neg h']
  split
  · rw [nI_and63 (by omega)]; congr 1; omega
  · rw [nI_and63 (by omega)]; congr 1; omega
theorem encL_len0 {w : Wd} (hl : w.1.length ≤ 40) (h : encL w < 0) : w.1.length = 0 := by rw [((encL_neg hl).mp h).1]; rfl
/-- a word of the text that is read, in its three rows -/
def pAt (means starts lens : Nat → Int32) (k o : Nat) (w : Wd) : Prop := starts k = nI o ∧ lens k = encL w ∧ (∀ j, j < w.1.length → means (o + j) = nI (w.1.getD j 0)) ∧ (∀ x ∈ w.1, 32 ≤ x ∧ x ≤ 126) ∧ o + w.1.length ≤ 16000 ∧ w.1.length ≤ 40
theorem rgD {t : List Nat} (h : ∀ x ∈ t, 32 ≤ x ∧ x ≤ 126) {j : Nat} (hj : j < t.length) : 32 ≤ t.getD j 0 ∧ t.getD j 0 ≤ 126 := by
  rw [List.getD_eq_getElem?_getD, List.getElem?_eq_getElem hj]
  exact h _ (List.getElem_mem hj)
theorem list_ext {t u : List Nat} (hl : t.length = u.length) (h : ∀ j, j < t.length → t.getD j 0 = u.getD j 0) : t = u := by
  refine List.ext_getElem hl (fun i h1 h2 => ?_)
  have := h i h1
  rw [List.getD_eq_getElem?_getD, List.getD_eq_getElem?_getD, List.getElem?_eq_getElem h1, List.getElem?_eq_getElem h2] at this
  exact this
theorem gD_l {α : Type} {t u : List α} {j : Nat} {d : α} (h : j < t.length) : (t ++ u).getD j d = t.getD j d := by
  rw [List.getD_eq_getElem?_getD, List.getD_eq_getElem?_getD, List.getElem?_append_left h]
theorem gD_r {α : Type} {t u : List α} {j : Nat} {d : α} (h : t.length ≤ j) : (t ++ u).getD j d = u.getD (j - t.length) d := by
  rw [List.getD_eq_getElem?_getD, List.getD_eq_getElem?_getD, List.getElem?_append_right h]
/-- what has been put into the draft: o in all; it keeps no more than 30000 -/
def outR (db : Nat → Int32) (dn : Nat) (o : List Nat) : Prop := dn = min o.length 30000 ∧ ∀ j, j < dn → db j = nI (o.getD j 0)
theorem outR_full {db : Nat → Int32} {o : List Nat} {c : Nat} (h : outR db 30000 o) : outR db 30000 (o ++ [c]) := by
  obtain ⟨h1, h2⟩ := h
  refine ⟨by rw [List.length_append]; simp; omega, fun j hj => ?_⟩
  rw [h2 j hj, gD_l (by omega)]
theorem outR_put {db : Nat → Int32} {dn : Nat} {o : List Nat} {c : Nat} (h : outR db dn o) (hn : dn ≠ 30000) : outR (upd db dn (nI c)) (dn + 1) (o ++ [c]) := by
  obtain ⟨h1, h2⟩ := h
  refine ⟨by rw [List.length_append]; simp; omega, fun j hj => ?_⟩
  unfold upd
  by_cases e : j = dn
  · have e2 : j = o.length := by omega
    rw [if_pos e, e2, gD_r (by omega)]; simp
  · rw [if_neg e, h2 j (by omega), gD_l (by omega)]
def fndV (made : Nat) (all : Nat → Option Nat) (t : Int32) : Option Nat := if 1 ≤ t.toInt ∧ t.toInt ≤ made then all t.toInt.toNat else none
theorem i8_small : ∀ n, n < 128 → (nI n).toInt8.toInt32 = nI n := by decide +kernel
