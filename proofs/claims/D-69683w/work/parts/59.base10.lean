/-! BASE 10: lists and texts, in general; the pool -/
set_option maxRecDepth 100000
theorem ct_monoQ {l : Launch} {y : MethodName} {ws : List Cond} {rm : Room} {Pc Pc' : Array Value → State → Prop} {post post' : Option Value → Heap → Prop} {A : Nat → Prop} {mc ms : Nat} {free : Addr → Prop} (h : Met l y ws rm Pc (ctQ post A) mc ms free) (hP : ∀ a s, Pc' a s → Pc a s) (hp : ∀ v H, post v H → post' v H) : Met l y ws rm Pc' (ctQ post' A) mc ms free := by
  intro p e ha hc hk s m args below hf happ hP' hK
  obtain ⟨n, o, h1, h2, h3, h4, h5⟩ := h p e ha hc hk s m args below hf happ (hP _ _ hP') hK
  obtain ⟨⟨v, e1, h6⟩, h7⟩ := h4
  exact ⟨n, o, h1, h2, h3, ⟨⟨v, e1, hp v _ h6⟩, h7⟩, h5⟩
/-- an ArrayList: at a, its row at d (none while it has no places) -/
def alw (E : CE) (a d n cap : Nat) (md : Int32) (f : Nat → Option Nat) : va_W := match cap with
  | 0 => [(a, .inr (14, [.int md, .ref (E.2.2.2 3), .int (nI n)]))]
  | k + 1 => [(a, .inr (14, [.int md, .ref d, .int (nI n)])), (d, .inl (E.2.1 5, k + 1, .inr (.inr (.inr (.inr f)))))]
def ncA (cap : Nat) : Nat := if cap = 0 then 10 else cap + max 1 (cap / 2)
abbrev capA (n cap : Nat) : Nat := if n < cap then cap else ncA cap
abbrev cellA (n cap : Nat) : Nat := if n < cap then 0 else 1
abbrev costA (n cap : Nat) : Nat := if n < cap then 0 else ncA cap
theorem up_s {f : Nat → Option Nat} {k : Nat} {x : Option Nat} : va_up f k x k = x := if_pos rfl
theorem up_n {f : Nat → Option Nat} {k j : Nat} {x : Option Nat} (h : j ≠ k) : va_up f k x j = f j := if_neg h
set_option maxHeartbeats 1000000 in
theorem met_J10_addA (l : Launch) (E : CE) (im : va_W) (a d n cap : Nat) (md : Int32) (f : Nat → Option Nat) (x sz : Nat) (hn : n ≤ cap ∧ cap ≤ 400000) (hel : ∀ i, i < n → ∀ y, f i = some y → oI im y) (hx9 : oI im x) : Met l yJ10_add (ws_ yJ10_add cJ10_add 2 (some .boolean)) { frames := 6, cells := cellA n cap, slots := costA n cap, locals := 170 } (ctP E [.ref a, .ref x] sz (fun H => va_P E.1 ct_cl (alw E a d n cap md f ++ im) H ∧ va_D (fun q => E.2.2.1 ≤ q) (alw E a d n cap md f ++ im))) (ctQ (fun v H => ∃ d2 : Nat, ∃ f2 : Nat → Option Nat, v = some (.int (nI 1)) ∧ va_P E.1 ct_cl (alw E a d2 (n + 1) (capA n cap) (md + nI 1) f2 ++ im) H ∧ va_D (va_A (alw E a d n cap md f ++ im) sz) (alw E a d2 (n + 1) (capA n cap) (md + nI 1) f2 ++ im) ∧ (∀ j, j < n → f2 j = f j) ∧ f2 n = some x) (va_A (alw E a d n cap md f ++ im) sz)) (cellA n cap) (costA n cap) (va_A (alw E a d n cap md f ++ im) sz) := by
  by_cases hlt : n < cap
  · have e1 : cellA n cap = 0 := if_pos hlt
    have e2 : costA n cap = 0 := if_pos hlt
    have e3 : capA n cap = cap := if_pos hlt
    rw [e1, e2, e3]
    obtain ⟨k, rfl⟩ : ∃ k, cap = k + 1 := ⟨cap - 1, by omega⟩
    refine ct_monoQ (met_J10_add2 l E a d n (k + 1) md f im x sz ⟨hlt, hn.2⟩ hx9) (fun _ _ h => h) ?_
    rintro v H ⟨h1, h2, h3⟩
    exact ⟨d, _, h1, h2, h3, fun j hj => up_n (by omega), up_s⟩
  · have e1 : cellA n cap = 1 := if_neg hlt
    have e2 : costA n cap = ncA cap := if_neg hlt
    have e3 : capA n cap = ncA cap := if_neg hlt
    rw [e1, e2, e3]
    have hnc : n = cap := by omega
    rcases Nat.eq_zero_or_pos cap with h0 | h0
    · subst h0
      have e4 : ncA 0 = 10 := rfl
      rw [e4]
      refine ct_monoQ (met_J10_add0 l E a n md im x sz hnc hx9) (fun _ _ h => h) ?_
      rintro v H ⟨q2, h1, h2, h3⟩
      exact ⟨q2, _, h1, h2, h3, fun j hj => by omega, up_s⟩
    · have e4 : ncA cap = cap + max 1 (cap / 2) := if_neg (by omega)
      rw [e4]
      obtain ⟨k, rfl⟩ : ∃ k, cap = k + 1 := ⟨cap - 1, by omega⟩
      obtain ⟨k2, hk2⟩ : ∃ k2, k + 1 + max 1 ((k + 1) / 2) = k2 + 1 := ⟨k + 1 + max 1 ((k + 1) / 2) - 1, by omega⟩
      refine ct_monoQ (met_J10_add1 l E a d n (k + 1) md f im x sz ⟨h0, hn.2⟩ hnc (fun i hi => hel i (by omega)) hx9) (fun _ _ h => h) ?_
      rintro v H ⟨q2, h1, h2, h3⟩
      rw [hk2] at h2 h3 ⊢
      exact ⟨q2, _, h1, h2, h3, fun j hj => by rw [up_n (by omega), pk_cpy_in (by omega) (by omega)]; congr 1; omega, up_s⟩
abbrev capB (k cap : Nat) : Nat := if k < cap then cap else 2 * cap + 2
abbrev cellB (k cap : Nat) : Nat := if k < cap then 0 else 1
abbrev costB (k cap : Nat) : Nat := if k < cap then 0 else 2 * cap + 2
set_option maxHeartbeats 1000000 in
theorem met_J12_appendA (l : Launch) (E : CE) (a va : Nat) (ml : Int32) (k cap : Nat) (f : Nat → Int32) (c9 : Nat) (sz : Nat) (hc : k ≤ cap ∧ cap ≤ 100000) (h128 : c9 < 128) (hf : ∀ i, i < cap → fits .byte (.int (f i)) = true) : Met l yJ12_append (ws_ yJ12_append cJ12_append 2 (some (.object "java/lang/StringBuilder"))) { frames := 5, cells := cellB k cap, slots := costB k cap, locals := 125 } (ctP E [.ref a, .int (nI c9)] sz (fun H => va_P E.1 ct_cl [(a, .inr (15, [.ref va, .int (nI 0), .int ml, .int (nI k)])), (va, .inl (E.2.1 0, cap, .inl f))] H ∧ va_D (fun q => E.2.2.1 ≤ q) [(a, .inr (15, [.ref va, .int (nI 0), .int ml, .int (nI k)])), (va, .inl (E.2.1 0, cap, .inl f))])) (ctQ (fun v H => ∃ v2 : Nat, ∃ f2 : Nat → Int32, v = some (.ref a) ∧ va_P E.1 ct_cl [(a, .inr (15, [.ref v2, .int (nI 0), .int ml, .int (nI (k + 1))])), (v2, .inl (E.2.1 0, capB k cap, .inl f2))] H ∧ va_D (va_A [(a, .inr (15, [.ref va, .int (nI 0), .int ml, .int (nI k)])), (va, .inl (E.2.1 0, cap, .inl f))] sz) [(a, .inr (15, [.ref v2, .int (nI 0), .int ml, .int (nI (k + 1))])), (v2, .inl (E.2.1 0, capB k cap, .inl f2))] ∧ (∀ j, j < k → f2 j = f j) ∧ f2 k = nI c9 ∧ (∀ i, i < capB k cap → fits .byte (.int (f2 i)) = true)) (va_A [(a, .inr (15, [.ref va, .int (nI 0), .int ml, .int (nI k)])), (va, .inl (E.2.1 0, cap, .inl f))] sz)) (cellB k cap) (costB k cap) (va_A [(a, .inr (15, [.ref va, .int (nI 0), .int ml, .int (nI k)])), (va, .inl (E.2.1 0, cap, .inl f))] sz) := by
  by_cases hlt : k < cap
  · have e1 : cellB k cap = 0 := if_pos hlt
    have e2 : costB k cap = 0 := if_pos hlt
    have e3 : capB k cap = cap := if_pos hlt
    rw [e1, e2, e3]
    refine ct_monoQ (met_J12_append0 l E a va ml k cap f c9 sz hc.2 hlt h128) (fun _ _ h => h) ?_
    rintro v H ⟨h1, h2, h3⟩
    refine ⟨va, _, h1, h2, h3, fun j hj => upd_n (by omega), upd_s, fun i hi => ?_⟩
    by_cases e : i = k
    · rw [e, upd_s]; exact c_fit _ h128
    · rw [upd_n e]; exact hf i hi
  · have e1 : cellB k cap = 1 := if_neg hlt
    have e2 : costB k cap = 2 * cap + 2 := if_neg hlt
    have e3 : capB k cap = 2 * cap + 2 := if_neg hlt
    rw [e1, e2, e3]
    have hk : k = cap := by omega
    refine ct_monoQ (met_J12_append1 l E a va ml k cap f c9 sz hc.2 hk h128 hf) (fun _ _ h => h) ?_
    rintro v H ⟨v2, h1, h2, h3⟩
    refine ⟨v2, _, h1, h2, h3, fun j hj => by rw [upd_n (by omega)]; exact sb_cpy0 (by omega), upd_s, fun i hi => ?_⟩
    by_cases e : i = k
    · rw [e, upd_s]; exact c_fit _ h128
    · rw [upd_n e]
      by_cases e2 : i < cap
      · rw [sb_cpy0 e2]; exact hf i e2
      · rw [pk_cpy_out (by omega)]; decide
/-! the pool: cells that nobody changes any more -/
def sI (E : CE) (im : va_W) (a : Nat) (t : List Nat) : Prop := ∃ (v : Nat) (g : Nat → Int32), (a, .inr (13, [.ref v, .int (nI 0), .int 0, .int 0])) ∈ im ∧ (v, .inl (E.2.1 0, t.length, .inl g)) ∈ im ∧ (∀ j, j < t.length → g j = nI (t.getD j 0)) ∧ (∀ x ∈ t, x < 128) ∧ t.length < 65536
theorem sI.mono {E : CE} {im im' : va_W} {a : Nat} {t : List Nat} (h : sI E im a t) (hs : ∀ y ∈ im, y ∈ im') : sI E im' a t := by
  obtain ⟨v, g, h1, h2, h3⟩ := h
  exact ⟨v, g, hs _ h1, hs _ h2, h3⟩
theorem sI.S {E : CE} {im : va_W} {H : Heap} {a : Nat} {t : List Nat} (h : sI E im a t) (hP : va_P E.1 ct_cl im H) : ct_S E (fun _ => False) H a t := by
  obtain ⟨v, g, h1, h2, h3, h4, h5⟩ := h
  obtain ⟨i, hi⟩ := List.getElem?_of_mem h1
  obtain ⟨j, hj⟩ := List.getElem?_of_mem h2
  obtain ⟨r, z1, cS, q1, q2, q3, q4⟩ := hP i _ hi
  have e2 : H[v]? = some (arrV (E.2.1 0) t.length (fun j => .int (g j))) := hP j _ hj
  cases kJ4.1.symm.trans z1
  have a1 : cS.vm.isStatics = false := by rw [q3]; rfl
  have a2 : cS.vm ≠ .unknown := by rw [q3]; exact (fun q => by cases q)
  have a3 : ∀ z, (arrV (E.2.1 0) t.length (fun j => .int (g j))).vm ≠ .statics z := by intro z q; cases q
  have a4 : (arrV (E.2.1 0) t.length (fun j => .int (g j))).vm ≠ .unknown := by intro q; cases q
  have a5 : t.length ≤ (arrV (E.2.1 0) t.length (fun j => .int (g j))).slots.size := by rw [arrV_size]; exact Nat.le_refl _
  have a6 : (arrV (E.2.1 0) t.length (fun j => .int (g j))).slots.size.toInt32 = Int32.ofNat t.length := by rw [arrV_size]
  have a7 : ∀ i : Nat, i < t.length → (arrV (E.2.1 0) t.length (fun j => .int (g j))).slots[i]? = some (.int (nI (t.getD i 0))) := by intro i9 h9; rw [arrV_read _ _ h9, h3 i9 h9]
  exact ⟨v, cS, _, 0, q1, a1, a2, q2, q4 0 (by decide), q4 1 (by decide), e2, a3, a4, Or.inl rfl, rfl, a5, a6, a7, h4, h5, fun q => q, fun q => q⟩
theorem sI.o {E : CE} {im : va_W} {a : Nat} {t : List Nat} (h : sI E im a t) : oI im a := by
  obtain ⟨v, g, h1, -⟩ := h
  exact ⟨13, _, h1, Or.inr rfl⟩
/-- a cell of a table -/
def cI (E : CE) (im : va_W) (x : Nat) (w : Wd) : Prop := ∃ s : Nat, (x, .inr (12, [.ref s, .int (nI (if w.2 = true then 1 else 0))])) ∈ im ∧ sI E im s w.1
theorem cI.mono {E : CE} {im im' : va_W} {a : Nat} {w : Wd} (h : cI E im a w) (hs : ∀ y ∈ im, y ∈ im') : cI E im' a w := by
  obtain ⟨v, h1, h2⟩ := h
  exact ⟨v, hs _ h1, h2.mono hs⟩
theorem cI.o {E : CE} {im : va_W} {a : Nat} {w : Wd} (h : cI E im a w) : oI im a := by
  obtain ⟨v, h1, -⟩ := h
  exact ⟨12, _, h1, Or.inl rfl⟩
/-- a list in the pool -/
def alI (E : CE) (im : va_W) (a n : Nat) (f : Nat → Option Nat) : Prop := ∃ (d cap : Nat) (md : Int32), n ≤ cap ∧ cap ≤ 1000000 ∧ ∀ x ∈ alw E a d n cap md f, x ∈ im
theorem alI.mono {E : CE} {im im' : va_W} {a n : Nat} {f : Nat → Option Nat} (h : alI E im a n f) (hs : ∀ y ∈ im, y ∈ im') : alI E im' a n f := by
  obtain ⟨d, cap, md, h1, h2, h3⟩ := h
  exact ⟨d, cap, md, h1, h2, fun x hx => hs x (h3 x hx)⟩
theorem alI.obj {E : CE} {im : va_W} {a n : Nat} {f : Nat → Option Nat} (h : alI E im a n f) : ∃ (md : Int32) (e9 : Nat), ∀ x ∈ ([(a, .inr (14, [.int md, .ref e9, .int (nI n)]))] : va_W), x ∈ im := by
  obtain ⟨d, cap, md, h1, h2, h3⟩ := h
  cases cap with
  | zero => exact ⟨md, _, h3⟩
  | succ k => exact ⟨md, d, fun x hx => h3 x (by rw [List.mem_singleton.mp hx]; exact List.mem_cons_self)⟩
theorem alI.get {E : CE} {im : va_W} {a n : Nat} {f : Nat → Option Nat} (h : alI E im a n f) (hn : 0 < n) : ∃ (md : Int32) (d cap : Nat), n ≤ cap ∧ cap < 2147483648 ∧ ∀ x ∈ ([(a, .inr (14, [.int md, .ref d, .int (nI n)])), (d, .inl (E.2.1 5, cap, .inr (.inr (.inr (.inr f)))))] : va_W), x ∈ im := by
  obtain ⟨d, cap, md, h1, h2, h3⟩ := h
  cases cap with
  | zero => omega
  | succ k => exact ⟨md, d, k + 1, h1, by omega, h3⟩
theorem alw_obj {E : CE} {a d n cap : Nat} {md : Int32} {f : Nat → Option Nat} {H : Heap} (h : va_P E.1 ct_cl (alw E a d n cap md f) H) : ∃ e9 : Nat, va_P E.1 ct_cl [(a, .inr (14, [.int md, .ref e9, .int (nI n)]))] H := by
  cases cap with
  | zero => exact ⟨_, h⟩
  | succ k => exact ⟨d, h.sub [0] rfl⟩
theorem alw_get {E : CE} {a d n cap : Nat} {md : Int32} {f : Nat → Option Nat} {H : Heap} (h : va_P E.1 ct_cl (alw E a d n cap md f) H) (hc : 0 < cap) : va_P E.1 ct_cl [(a, .inr (14, [.int md, .ref d, .int (nI n)])), (d, .inl (E.2.1 5, cap, .inr (.inr (.inr (.inr f)))))] H := by
  cases cap with
  | zero => omega
  | succ k => exact h
/-- the lists of a table -/
def tL (E : CE) (im : va_W) (n c : Nat) (tb : Tab) : Prop := ∃ fn fc : Nat → Option Nat, alI E im n tb.1.length fn ∧ alI E im c tb.2.length fc ∧ (∀ k, k < tb.1.length → ∃ s, fn k = some s ∧ sI E im s (nameW tb k).1) ∧ ∀ k, k < tb.2.length → ∃ x, fc k = some x ∧ cI E im x (cellW tb k)
theorem tL.mono {E : CE} {im im' : va_W} {n c : Nat} {tb : Tab} (h : tL E im n c tb) (hs : ∀ y ∈ im, y ∈ im') : tL E im' n c tb := by
  obtain ⟨fn, fc, h1, h2, h3, h4⟩ := h
  exact ⟨fn, fc, h1.mono hs, h2.mono hs, fun k hk => by obtain ⟨s, a1, a2⟩ := h3 k hk; exact ⟨s, a1, a2.mono hs⟩, fun k hk => by obtain ⟨x, a1, a2⟩ := h4 k hk; exact ⟨x, a1, a2.mono hs⟩⟩
