/-! the plain side 6: reading a text -/
set_option maxRecDepth 100000
/-- the bytes of the tray as numbers below 256 -/
def txR (tray : Nat → Int32) (n : Nat) (t : List Nat) : Prop := t.length = n ∧ ∀ j, j < n → t.getD j 0 < 256 ∧ tray j = (nI (t.getD j 0)).toInt8.toInt32
theorem by_and : ∀ n, n < 256 → (nI n).toInt8.toInt32 &&& nI 255 = nI n := by decide +kernel
theorem by_neg : ∀ n, n < 256 → 128 ≤ n → (nI n).toInt8.toInt32 < 0 := by decide +kernel
theorem txR_and {tray : Nat → Int32} {n : Nat} {t : List Nat} (h : txR tray n t) {j : Nat} (hj : j < n) : tray j &&& nI 255 = nI (t.getD j 0) := by
  rw [(h.2 j hj).2]; exact by_and _ (h.2 j hj).1
theorem txR_ok {tray : Nat → Int32} {n : Nat} {t : List Nat} (h : txR tray n t) {j : Nat} (hj : j < n) (hc : t.getD j 0 < 128) : tray j = nI (t.getD j 0) := by
  rw [(h.2 j hj).2]; exact i8_small _ hc
theorem txR_lt {tray : Nat → Int32} {n : Nat} {t : List Nat} (h : txR tray n t) (j : Nat) : t.getD j 0 < 256 := by
  by_cases hj : j < n
  · exact (h.2 j hj).1
  · rw [List.getD_eq_getElem?_getD, List.getElem?_eq_none (by rw [h.1]; omega)]; decide
theorem txR_ex {tray : Nat → Int32} (hb : bF tray) (n : Nat) : ∃ t, txR tray n t := by
  have key : ∀ x : Int32, vp_nar .byte x = x → ∃ c, c < 256 ∧ x = (nI c).toInt8.toInt32 := by
    intro x hx
    rw [vp_nar_byte] at hx
    refine ⟨(x &&& nI 255).toBitVec.toNat, ?_, ?_⟩
    · rw [pk_and x 8 (m := nI 255) rfl, pk_tn (by have := Nat.mod_lt x.toBitVec.toNat (show 0 < 2 ^ 8 by decide); omega)]
      exact Nat.mod_lt _ (by decide)
    · have e1 : nI (x &&& nI 255).toBitVec.toNat = x &&& nI 255 := by
        rw [pk_and x 8 (m := nI 255) rfl, pk_tn (by have := Nat.mod_lt x.toBitVec.toNat (show 0 < 2 ^ 8 by decide); omega)]
      have e2 : x.toInt8 = Int8.ofNat x.toInt8.toBitVec.toNat := by
        apply Int8.toBitVec_inj.mp
        simp
      have e3 := sc_b8 x.toInt8.toBitVec.toNat x.toInt8.toBitVec.isLt
      rw [← e2, hx] at e3
      rw [e1]
      exact e3.symm
  have key2 : ∀ n, ∃ t : List Nat, t.length = n ∧ ∀ j, j < n → t.getD j 0 < 256 ∧ tray j = (nI (t.getD j 0)).toInt8.toInt32 := by
    intro n
    induction n with
    | zero => exact ⟨[], rfl, fun j hj => absurd hj (Nat.not_lt_zero j)⟩
    | succ n ih =>
      obtain ⟨t, h1, h2⟩ := ih
      obtain ⟨c, hc, hx⟩ := key (tray n) (hb n)
      refine ⟨t ++ [c], by simp [h1], fun j hj => ?_⟩
      by_cases e : j < n
      · rw [gD_l (by omega)]; exact h2 j e
      · have e2 : j = n := by omega
        subst e2
        rw [gD_r (by omega), h1, Nat.sub_self]
        exact ⟨hc, hx⟩
  exact key2 n
/-- inside signs ": b: the last one may have been the end -/
def scanQ : List Nat → Bool → Nat → List Nat → Nat ⊕ (List Nat × Nat)
  | [], false, p, _ => .inl p
  | [], true, p, acc => .inr (acc, p)
  | c :: cs, false, p, acc => if c < 32 ∨ 126 < c then .inl p else if c = 34 then scanQ cs true (p + 1) acc else scanQ cs false (p + 1) (acc ++ [c])
  | c :: cs, true, p, acc => if c = 34 then scanQ cs false (p + 1) (acc ++ [34]) else .inr (acc, p)
theorem scanQ_end {t : List Nat} {i : Nat} {acc : List Nat} (h : t.length ≤ i) : scanQ (t.drop i) false i acc = .inl i := by
  rw [List.drop_of_length_le h]; rfl
theorem scanQ_endT {t : List Nat} {i : Nat} {acc : List Nat} (h : t.length ≤ i) : scanQ (t.drop i) true i acc = .inr (acc, i) := by
  rw [List.drop_of_length_le h]; rfl
theorem scanQ_bad {t : List Nat} {i : Nat} {acc : List Nat} (h : i < t.length) (hb : t.getD i 0 < 32 ∨ 126 < t.getD i 0) : scanQ (t.drop i) false i acc = .inl i := by
  rw [drop_cons h]; show (if _ then _ else _) = _; rw [if_pos hb]
theorem scanQ_c {t : List Nat} {i : Nat} {acc : List Nat} (h : i < t.length) (hb : ¬ (t.getD i 0 < 32 ∨ 126 < t.getD i 0)) (hq : t.getD i 0 ≠ 34) : scanQ (t.drop i) false i acc = scanQ (t.drop (i + 1)) false (i + 1) (acc ++ [t.getD i 0]) := by
  rw [drop_cons h]; show (if _ then _ else _) = _; rw [if_neg hb, if_neg hq]
theorem scanQ_q {t : List Nat} {i : Nat} {acc : List Nat} (h : i < t.length) (hq : t.getD i 0 = 34) : scanQ (t.drop i) false i acc = scanQ (t.drop (i + 1)) true (i + 1) acc := by
  rw [drop_cons h]; show (if _ then _ else _) = _; rw [if_neg (by rw [hq]; omega), if_pos hq]
theorem scanQ_qq {t : List Nat} {i : Nat} {acc : List Nat} (h : i < t.length) (hq : t.getD i 0 = 34) : scanQ (t.drop i) true i acc = scanQ (t.drop (i + 1)) false (i + 1) (acc ++ [34]) := by
  rw [drop_cons h]; show (if _ then _ else _) = _; rw [if_pos hq]
theorem scanQ_qe {t : List Nat} {i : Nat} {acc : List Nat} (hq : ¬ (i < t.length ∧ t.getD i 0 = 34)) : scanQ (t.drop i) true i acc = .inr (acc, i) := by
  by_cases h : i < t.length
  · rw [drop_cons h]; show (if _ then _ else _) = _; rw [if_neg (fun q => hq ⟨h, q⟩)]
  · exact scanQ_endT (by omega)
/-- what may stand in a cell without signs -/
abbrev okU (c : Nat) : Prop := 32 ≤ c ∧ c ≤ 126 ∧ c ≠ 34 ∧ c ≠ 44
def plain (t : List Nat) (i : Nat) : List Nat := (t.drop i).takeWhile (fun c => decide (okU c))
theorem plain_S {t : List Nat} {i : Nat} (h : i < t.length) (hc : okU (t.getD i 0)) : plain t i = t.getD i 0 :: plain t (i + 1) := by
  unfold plain
  rw [drop_cons h, List.takeWhile_cons, if_pos (by simpa using hc)]
theorem plain_0 {t : List Nat} {i : Nat} (h : ¬ (i < t.length ∧ okU (t.getD i 0))) : plain t i = [] := by
  unfold plain
  by_cases hi : i < t.length
  · rw [drop_cons hi, List.takeWhile_cons, if_neg (by simpa using fun q => h ⟨hi, q⟩)]
  · rw [List.drop_of_length_le (by omega)]; rfl
/-- a word from i on: where it is wrong, or the word and where it ends -/
def wordAt (t : List Nat) (i : Nat) : Nat ⊕ (Wd × Nat) :=
  if i < t.length ∧ t.getD i 0 = 34 then (match scanQ (t.drop (i + 1)) false (i + 1) [] with | .inl p => .inl p | .inr (u, j) => .inr ((u, true), j))
  else .inr ((plain t i, false), i + (plain t i).length)
abbrev endsAt (t : List Nat) (j : Nat) : Prop := j < t.length ∧ (t.getD j 0 = 44 ∨ t.getD j 0 = 10)
/-- a cell: no longer than mx -/
def cellAt (t : List Nat) (i : Nat) : Nat ⊕ (Wd × Nat) := match wordAt t i with
  | .inl p => .inl p
  | .inr (w, j) => if ¬ endsAt t j then .inl j else if 40 < w.1.length then .inl i else .inr (w, j)
def nameAt (t : List Nat) (i : Nat) (acc : List Wd) : Nat ⊕ (Wd × Nat) := match wordAt t i with
  | .inl p => .inl p
  | .inr (w, j) => if ¬ endsAt t j then .inl j else if 20 < w.1.length ∨ w.1.length = 0 ∨ (∃ x ∈ acc, x.1 = w.1) then .inl i else .inr (w, j)
def nameLine (t : List Nat) : Nat → Nat → List Wd → Nat ⊕ (List Wd × Nat)
  | 0, i, _ => .inl i
  | k + 1, i, acc => match nameAt t i acc with
    | .inl p => .inl p
    | .inr (w, j) => if t.getD j 0 = 44 then nameLine t k (j + 1) (acc ++ [w]) else .inr (acc ++ [w], j + 1)
def cellLine (t : List Nat) : Nat → Nat → List Wd → Nat ⊕ (List Wd × Nat)
  | 0, i, _ => .inl i
  | k + 1, i, acc => match cellAt t i with
    | .inl p => .inl p
    | .inr (w, j) => if t.getD j 0 = 44 then cellLine t k (j + 1) (acc ++ [w]) else if k ≠ 0 then .inl j else .inr (acc ++ [w], j + 1)
def linesOf (t : List Nat) (cols : Nat) : Nat → Nat → List Wd → Nat ⊕ List Wd
  | 0, i, acc => if i < t.length then .inl i else .inr acc
  | k + 1, i, acc => if i < t.length then (match cellLine t cols i [] with | .inl p => .inl p | .inr (ws, j) => linesOf t cols k j (acc ++ ws)) else .inr acc
abbrev Tab : Type := List Wd × List Wd
def parseT (t : List Nat) : Nat ⊕ Tab := match nameLine t 16 0 [] with
  | .inl p => .inl p
  | .inr (ns, i) => match linesOf t ns.length 499 i [] with
    | .inl p => .inl p
    | .inr cs => .inr (ns, cs)
