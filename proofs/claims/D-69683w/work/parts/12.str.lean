/-! Strings: rows for their fields and bytes; statics -/
set_option maxRecDepth 100000
/-- a String with its byte array at v -/
def ct_SV (E : CE) (A : Nat → Prop) (H : Heap) (a v : Nat) (t : List Nat) : Prop := ∃ (cS cV : Cell) (j : Nat), H[a]? = some cS ∧ cS.vm.isStatics = false ∧ cS.vm ≠ .unknown ∧ cS.cls = E.1.1 13 ∧ cS.slots[E.1.2 13 0]? = some (.ref v) ∧ cS.slots[E.1.2 13 1]? = some (.int 0) ∧
  H[v]? = some cV ∧ (∀ z, cV.vm ≠ .statics z) ∧ cV.vm ≠ .unknown ∧ (j = 0 ∨ (6 ≤ j ∧ j ≤ 8)) ∧ cV.cls = E.2.1 j ∧ t.length ≤ cV.slots.size ∧ cV.slots.size.toInt32 = Int32.ofNat t.length ∧ (∀ i : Nat, i < t.length → cV.slots[i]? = some (.int (nI (t.getD i 0)))) ∧ (∀ x ∈ t, x < 128) ∧ t.length < 65536 ∧ ¬ A a ∧ ¬ A v
theorem ct_S.val {E : CE} {A : Nat → Prop} {H : Heap} {a : Nat} {t : List Nat} (h : ct_S E A H a t) : ∃ v, ct_SV E A H a v t := by
  obtain ⟨v, cS, cV, j, h⟩ := h
  exact ⟨v, cS, cV, j, h⟩
theorem ct_SV.str {E : CE} {A : Nat → Prop} {H : Heap} {a v : Nat} {t : List Nat} (h : ct_SV E A H a v t) : ct_S E A H a t := by
  obtain ⟨cS, cV, j, h⟩ := h
  exact ⟨v, cS, cV, j, h⟩
/-- the bytes alone -/
def ct_SB (E : CE) (H : Heap) (v : Nat) (t : List Nat) : Prop := ∃ (cV : Cell) (j : Nat), H[v]? = some cV ∧ (∀ z, cV.vm ≠ .statics z) ∧ cV.vm ≠ .unknown ∧ (j = 0 ∨ (6 ≤ j ∧ j ≤ 8)) ∧ cV.cls = E.2.1 j ∧ t.length ≤ cV.slots.size ∧ cV.slots.size.toInt32 = Int32.ofNat t.length ∧ (∀ i : Nat, i < t.length → cV.slots[i]? = some (.int (nI (t.getD i 0)))) ∧ (∀ x ∈ t, x < 128) ∧ t.length < 65536
theorem ct_SV.bytes {E : CE} {A : Nat → Prop} {H : Heap} {a v : Nat} {t : List Nat} (h : ct_SV E A H a v t) : ct_SB E H v t := by
  obtain ⟨cS, cV, j, h1, h2, h3, h4, h5, h6, h7, h8, h9, h10, h11, h12, h13, h14, h15, h16, h17, h18⟩ := h
  exact ⟨cV, j, h7, h8, h9, h10, h11, h12, h13, h14, h15, h16⟩
theorem ct_SB.small {E : CE} {H : Heap} {v : Nat} {t : List Nat} (h : ct_SB E H v t) : t.length < 65536 ∧ ∀ x ∈ t, x < 128 := by
  obtain ⟨cV, j, h1, h2, h3, h4, h5, h6, h7, h8, h9, h10⟩ := h
  exact ⟨h10, h9⟩
theorem ct_S.small {E : CE} {A : Nat → Prop} {H : Heap} {a : Nat} {t : List Nat} (h : ct_S E A H a t) : t.length < 65536 ∧ ∀ x ∈ t, x < 128 := by
  obtain ⟨v, cS, cV, j, h1, h2, h3, h4, h5, h6, h7, h8, h9, h10, h11, h12, h13, h14, h15, h16, h17, h18⟩ := h
  exact ⟨h16, h15⟩
/-- a cell has one text -/
theorem ct_S.one {E : CE} {A B : Nat → Prop} {H : Heap} {a : Nat} {t u : List Nat} (h : ct_S E A H a t) (k : ct_S E B H a u) : t = u := by
  obtain ⟨v, cS, cV, j, h1, h2, h3, h4, h5, h6, h7, h8, h9, h10, h11, h12, h13, h14, h15, h16, h17, h18⟩ := h
  obtain ⟨v', cS', cV', j', k1, k2, k3, k4, k5, k6, k7, k8, k9, k10, k11, k12, k13, k14, k15, k16, k17, k18⟩ := k
  cases h1.symm.trans k1
  cases h5.symm.trans k5
  cases h7.symm.trans k7
  have hl : t.length = u.length := by
    have e := h13.symm.trans k13
    have := (nI_eq (a := t.length) (b := u.length) (by omega) (by omega)).mp e
    exact this
  refine List.ext_getElem hl (fun i h1 h2 => ?_)
  have e := (h14 i h1).symm.trans (k14 i h2)
  have e2 := Value.int.inj (Option.some.inj e)
  have a1 : t.getD i 0 < 128 := by rw [List.getD_eq_getElem?_getD, List.getElem?_eq_getElem h1]; exact h15 _ (List.getElem_mem h1)
  have a2 : u.getD i 0 < 128 := by rw [List.getD_eq_getElem?_getD, List.getElem?_eq_getElem h2]; exact k15 _ (List.getElem_mem h2)
  have e3 := (nI_eq (by omega) (by omega)).mp e2
  rw [List.getD_eq_getElem?_getD, List.getD_eq_getElem?_getD, List.getElem?_eq_getElem h1, List.getElem?_eq_getElem h2] at e3
  exact e3
theorem tx_lt {t : List Nat} (h : ∀ x ∈ t, x < 128) (i : Nat) : t.getD i 0 < 128 := by
  rw [List.getD_eq_getElem?_getD]
  cases e : t[i]? with
  | none => simp
  | some x => exact h x (List.mem_of_getElem? e)
theorem ct_arr {E : CE} {s : State} (G : GK E s) {j : Nat} (hj : j = 0 ∨ (6 ≤ j ∧ j ≤ 8)) {cV : Cell} (h1 : ∀ z, cV.vm ≠ .statics z) (h2 : cV.cls = E.2.1 j) : s.isArrayOf cV .byte := by
  have hA : ArrOfT s (E.2.1 j) .byte := by
    rcases hj with hj | hj
    · rw [hj]; exact (G.1.2 0 _ rfl).1
    · exact G.2.2.2.2.2.2.2.2.2.1 j hj.1 hj.2
  obtain ⟨-, k, hk, comp, hkind⟩ := hA 0 (fun _ => .null)
  exact ⟨h1, k, by rw [h2]; exact hk, comp, hkind⟩
section
variable {p : Program} {l : Launch} {e : Env} {R : Room} {s : State} {m : MethodId} {args : Array Value} {below : List Frame} {meth : Method} {c : Code} {H : Heap} {locs : List Loc} {cells slots : Nat} {Q : State → Prop}
variable {cc : ByteArray} {pc : Nat} {ls : Array Slot} {rest : List Value} {E : CE} {own nm : String} {nL : Nat} {ret : Option FieldType} {A A9 : Nat → Prop} {a v index : Nat} {t : List Nat}
theorem ct_Srecv (B : cx p s m args meth c cc own nL ret nm E) (h : ct_S E A9 H a t) : ∃ cellB : Cell, H[a]? = some cellB ∧ cellB.vm.isStatics = false ∧ s.vm.findClass "java/lang/String" = some cellB.cls := by
  obtain ⟨v, cS, cV, j, h1, h2, h3, h4, h5⟩ := h
  exact ⟨cS, h1, h2, by rw [h4]; exact (B.2.2.2.2.2.2.2.2.1.1 13 _ kJ4.1).2.1⟩
theorem ct_SgV (B : cx p s m args meth c cc own nL ret nm E) (h : ct_SV E A9 H a v t) (hl : Cond.fieldLink own index "java/lang/String" "value" "[B" ∈ lw_all) (hdg : decode cc pc = .ok (.getfield index, 3))
    (kk : W p l e R s m args below meth c H locs cells slots Q (F0 m (pc + 3) ls (.ref v :: rest))) : W p l e R s m args below meth c H locs cells slots Q (F0 m pc ls (.ref a :: rest)) := by
  obtain ⟨cS, cV, j, h1, h2, h3, h4, h5, h6⟩ := h
  obtain ⟨hS, hfc, kC, hkC, hkind⟩ := B.2.2.2.2.2.2.2.2.1.1 13 _ kJ4.1
  obtain ⟨cf, kf, fi, f, hi, hsl⟩ := hS 0 (by decide)
  exact W.getf B.1 B.2.1 B.2.2.1 (B.2.2.2.1 _ hl) hi (u_facts hfc hkC (u_lays B.2.2.2.1 kJ4.2.1 (by decide)) hi).1 h1 h3 (v := .ref v) (by rw [hsl]; exact h5) rfl rfl hdg kk
theorem ct_SgC (B : cx p s m args meth c cc own nL ret nm E) (h : ct_SV E A9 H a v t) (hl : Cond.fieldLink own index "java/lang/String" "coder" "B" ∈ lw_all) (hdg : decode cc pc = .ok (.getfield index, 3))
    (kk : W p l e R s m args below meth c H locs cells slots Q (F0 m (pc + 3) ls (.int (nI 0) :: rest))) : W p l e R s m args below meth c H locs cells slots Q (F0 m pc ls (.ref a :: rest)) := by
  obtain ⟨cS, cV, j, h1, h2, h3, h4, h5, h6, h7⟩ := h
  obtain ⟨hS, hfc, kC, hkC, hkind⟩ := B.2.2.2.2.2.2.2.2.1.1 13 _ kJ4.1
  obtain ⟨cf, kf, fi, f, hi, hsl⟩ := hS 1 (by decide)
  exact W.getf B.1 B.2.1 B.2.2.1 (B.2.2.2.1 _ hl) hi (u_facts hfc hkC (u_lays B.2.2.2.1 kJ4.2.1 (by decide)) hi).1 h1 h3 (v := .int (nI 0)) (by rw [hsl]; exact h6) rfl rfl hdg kk
theorem ct_Sald (B : cx p s m args meth c cc own nL ret nm E) (h : ct_SB E H v t) {i : Nat} (hi : i < t.length) (hdg : decode cc pc = .ok (.baload, 1))
    (kk : W p l e R s m args below meth c H locs cells slots Q (F0 m (pc + 1) ls (.int (nI (t.getD i 0)) :: rest))) : W p l e R s m args below meth c H locs cells slots Q (F0 m pc ls (.int (nI i) :: .ref v :: rest)) := by
  obtain ⟨cV, j, h1, h2, h3, h4, h5, h6, h7, h8, h9, h10⟩ := h
  have ec : (nI i).toNatClampNeg = i := nI_clamp (by omega)
  exact W.bald (v := .int (nI (t.getD i 0))) B.1 B.2.1 h1 (ct_arr B.2.2.2.2.2.2.2.2 h4 h2 h5) h3 (by rw [ec]; intro z; rcases z with z | z; exact nI_pos (n := i) (by omega) z; omega) (by rw [ec]; exact h8 i hi) rfl rfl hdg kk
theorem ct_Slen (B : cx p s m args meth c cc own nL ret nm E) (h : ct_SB E H v t) (hdg : decode cc pc = .ok (.arraylength, 1))
    (kk : W p l e R s m args below meth c H locs cells slots Q (F0 m (pc + 1) ls (.int (nI t.length) :: rest))) : W p l e R s m args below meth c H locs cells slots Q (F0 m pc ls (.ref v :: rest)) := by
  obtain ⟨cV, j, h1, h2, h3, h4, h5, h6, h7, h8, h9, h10⟩ := h
  exact W.alen (n := nI t.length) B.1 B.2.1 h1 (ct_arr B.2.2.2.2.2.2.2.2 h4 h2 h5) h7 rfl rfl hdg kk
theorem ct_gsC (B : cx p s m args meth c cc own nL ret nm E) (hS : va_S A s.heap H locs) (hA : ∀ q, A q → E.2.2.1 ≤ q) (hl : Cond.fieldLink own index "java/lang/String" "COMPACT_STRINGS" "Z" ∈ lw_all) (hdg : decode cc pc = .ok (.getstatic index, 3))
    (kk : W p l e R s m args below meth c H locs cells slots Q (F0 m (pc + 3) ls (.int (nI 1) :: rest))) : W p l e R s m args below meth c H locs cells slots Q (F0 m pc ls rest) :=
  va_gets (v := .int (nI 1)) B.1 B.2.1 (va_Z.narrow B.2.2.2.2.2.2.2.2.2.2.2.1.1 hA) hS B.2.2.1 (B.2.2.2.1 _ hl) (fun _ h => h) hdg kk
theorem ct_gsF (B : cx p s m args meth c cc own nL ret nm E) (hS : va_S A s.heap H locs) (hA : ∀ q, A q → E.2.2.1 ≤ q) (hl : Cond.fieldLink own index "jdk/internal/util/Preconditions" "SIOOBE_FORMATTER" "Ljava/util/function/BiFunction;" ∈ lw_all) (hdg : decode cc pc = .ok (.getstatic index, 3))
    (kk : ∀ r : Option Nat, W p l e R s m args below meth c H locs cells slots Q (F0 m (pc + 3) ls (va_rf r :: rest))) : W p l e R s m args below meth c H locs cells slots Q (F0 m pc ls rest) := by
  rcases B.2.2.2.2.2.2.2.2.2.2.2.1.2.1 with h | ⟨x, h⟩
  · exact va_gets (v := .null) B.1 B.2.1 (va_Z.narrow h hA) hS B.2.2.1 (B.2.2.2.1 _ hl) (fun _ h => h) hdg (kk none)
  · exact va_gets (v := .ref x) B.1 B.2.1 (va_Z.narrow h hA) hS B.2.2.1 (B.2.2.2.1 _ hl) (fun _ h => h) hdg (kk (some x))
theorem ct_gsE (B : cx p s m args meth c cc own nL ret nm E) (hS : va_S A s.heap H locs) (hA : ∀ q, A q → E.2.2.1 ≤ q) (hl : Cond.fieldLink own index "java/util/ArrayList" "DEFAULTCAPACITY_EMPTY_ELEMENTDATA" "[Ljava/lang/Object;" ∈ lw_all) (hdg : decode cc pc = .ok (.getstatic index, 3))
    (kk : W p l e R s m args below meth c H locs cells slots Q (F0 m (pc + 3) ls (.ref (E.2.2.2 3) :: rest))) : W p l e R s m args below meth c H locs cells slots Q (F0 m pc ls rest) :=
  va_gets (v := .ref (E.2.2.2 3)) B.1 B.2.1 (va_Z.narrow B.2.2.2.2.2.2.2.2.2.2.2.1.2.2.1.1 hA) hS B.2.2.1 (B.2.2.2.1 _ hl) (fun _ h => h) hdg kk
theorem n_min (B : cx p s m args meth c cc own nL ret nm E) (hl : Cond.methodLink own index Lib.Math.min.name ∈ lw_all) (hst : Cond.static Lib.Math.min.name ∈ lw_all) (hini : Cond.initialized "java/lang/Math" ∈ lw_all) (hc : Cond.code Lib.Math.min.name Lib.Math.min.code 2 (some .int) ∈ lw_all) (hsz : ls.size = nL) (hf : 1 ≤ R.frames) (hlo : (rest.map fun v => v.category).sum + 13 ≤ R.locals) (h1 : cells ≤ R.cells) (h2 : slots ≤ R.slots) {i j : Nat} (hi : i < 2147483648) (hj : j < 2147483648) (hdg : decode cc pc = .ok (.invokestatic index, 3))
    (kk : W p l e R s m args below meth c H locs cells slots Q (F0 m (pc + 3) ls (.int (nI (min i j)) :: rest))) : W p l e R s m args below meth c H locs cells slots Q (F0 m pc ls (.int (nI j) :: .int (nI i) :: rest)) :=
  va_mmin B.1 B.2.1 (B.2.2.2.2.2.2.1.trans hsz.symm) B.2.2.1 (B.2.2.2.1 _ hl) (B.2.2.2.1 _ hst) (B.2.2.2.1 _ hini) (B.2.2.2.1 _ hc) hf hlo h1 h2 hdg (by
    have e9 : (if nI j < nI i then nI j else nI i) = nI (min i j) := by
      by_cases h : j < i
      · rw [if_pos (nI_lt h (by omega)), Nat.min_eq_right (by omega)]
      · rw [if_neg (nI_nlt (by omega) (by omega)), Nat.min_eq_left (by omega)]
    rw [e9]; exact kk)
theorem n_max (B : cx p s m args meth c cc own nL ret nm E) (hl : Cond.methodLink own index Lib.Math.max.name ∈ lw_all) (hst : Cond.static Lib.Math.max.name ∈ lw_all) (hini : Cond.initialized "java/lang/Math" ∈ lw_all) (hc : Cond.code Lib.Math.max.name Lib.Math.max.code 2 (some .int) ∈ lw_all) (hsz : ls.size = nL) (hf : 1 ≤ R.frames) (hlo : (rest.map fun v => v.category).sum + 13 ≤ R.locals) (h1 : cells ≤ R.cells) (h2 : slots ≤ R.slots) {i j : Nat} (hi : i < 2147483648) (hj : j < 2147483648) (hdg : decode cc pc = .ok (.invokestatic index, 3))
    (kk : W p l e R s m args below meth c H locs cells slots Q (F0 m (pc + 3) ls (.int (nI (max i j)) :: rest))) : W p l e R s m args below meth c H locs cells slots Q (F0 m pc ls (.int (nI j) :: .int (nI i) :: rest)) :=
  va_mmax B.1 B.2.1 (B.2.2.2.2.2.2.1.trans hsz.symm) B.2.2.1 (B.2.2.2.1 _ hl) (B.2.2.2.1 _ hst) (B.2.2.2.1 _ hini) (B.2.2.2.1 _ hc) hf hlo h1 h2 hdg (by
    have e9 : (if nI i < nI j then nI j else nI i) = nI (max i j) := by
      by_cases h : i < j
      · rw [if_pos (nI_lt h (by omega)), Nat.max_eq_right (by omega)]
      · rw [if_neg (nI_nlt (by omega) (by omega)), Nat.max_eq_left (by omega)]
    rw [e9]; exact kk)
end
theorem c_char : ∀ n, n < 128 → ((nI n &&& nI 255).toUInt32 % 65536).toInt32 = nI n := by decide +kernel
theorem c_charN : ∀ n, n < 128 → narrow .char (.int (nI n)) = .int (nI n) := fun n h => (pk_charN (by omega)).1
theorem c_shr0 (n : Nat) : nI n >>> (nI 0 &&& 31) = nI n := by
  rw [nI_0]; exact sb_shr0 _
