/-! BASE 6: a table that is being made, stores of references -/
set_option maxRecDepth 100000
def twm (E : CE) (q : Nat → Nat) (cols rows : Nat) (f0 f1 f2 f3 f4 : Nat → Int32) : va_W := [
  (q 0, .inr (9, [.int (nI cols), .int (nI rows), .ref (q 1), .ref (q 2), .ref (q 3), .ref (q 4), .ref (q 5)])),
  (q 1, .inl (E.2.1 1, cols, .inl f0)),
  (q 2, .inl (E.2.1 0, cols, .inl f1)),
  (q 3, .inl (E.2.1 1, cols * rows, .inl f2)),
  (q 4, .inl (E.2.1 0, cols * rows, .inl f3)),
  (q 5, .inl (E.2.1 1, cols, .inl f4))]
def tf (f0 f1 f2 f3 f4 : Nat → Int32) : Nat → Nat → Int32
  | 0 => f0
  | 1 => f1
  | 2 => f2
  | 3 => f3
  | _ => f4
theorem twm_tw (E : CE) (q : Nat → Nat) (cols rows : Nat) (f0 f1 f2 f3 f4 : Nat → Int32) : twm E q cols rows f0 f1 f2 f3 f4 = tw E q cols rows (tf f0 f1 f2 f3 f4) := rfl
def q6 (a b c d e f : Nat) : Nat → Nat
  | 0 => a
  | 1 => b
  | 2 => c
  | 3 => d
  | 4 => e
  | _ => f
/-- a table lies apart from the component's own cells -/
def apT (ad q : Nat → Nat) : Prop := ∀ i, i ≠ 20 → ∀ j, j < 6 → ad i ≠ q j
theorem adr_of {ws : va_W} {n : Nat} {q : Nat → Nat} (hw : ws.map Prod.fst = (List.range n).map q) {k : Nat} {x : Nat × va_E} (hx : ws[k]? = some x) : ∃ j, j < n ∧ x.1 = q j := by
  have h1 : (ws.map Prod.fst)[k]? = some x.1 := by rw [List.getElem?_map, hx]; rfl
  rw [hw, List.getElem?_map] at h1
  cases h2 : (List.range n)[k]? with
  | none => rw [h2] at h1; cases h1
  | some j =>
    rw [h2] at h1
    exact ⟨j, List.mem_range.mp (List.mem_of_getElem? h2), (Option.some.inj h1).symm⟩
theorem tw_adr {E : CE} {q : Nat → Nat} {cols rows : Nat} {f : Nat → Nat → Int32} {k : Nat} {x : Nat × va_E} (hx : (tw E q cols rows f)[k]? = some x) : ∃ j, j < 6 ∧ x.1 = q j := adr_of (n := 6) rfl hx
theorem xw_adr {E : CE} {ad : Nat → Nat} {F : XF} {O : XO} {S : XS} {T : XT} {P : XP} {R : XR} {k : Nat} {x : Nat × va_E} (hx : (xw E ad F O S T P R)[k]? = some x) : ∃ j, j < 20 ∧ x.1 = ad j := adr_of (n := 20) rfl hx
theorem apT_N {E : CE} {s : State} {sz : Nat} {A : Nat → Prop} {ad q : Nat → Nat} {cols rows : Nat} {f : Nat → Nat → Int32} {F : XF} {O : XO} {S : XS} {T : XT} {P : XP} {R : XR} (hT : va_P E.1 ct_cl (tw E q cols rows f) s.heap) (hsz : s.heap.size = sz) (hq : apT ad q) (hAe : va_A (xw E ad F O S T P R) sz = A) : ∀ (k : Nat) (x : Nat × va_E), (tw E q cols rows f)[k]? = some x → ¬ A x.1 := by
  intro k x hx hA
  rw [← hAe] at hA
  rcases hA with ⟨k', e, hk'⟩ | hA
  · obtain ⟨j, hj, ej⟩ := tw_adr hx
    obtain ⟨i, hi, ei⟩ := xw_adr hk'
    exact hq i (by omega) j hj (ei.symm.trans ej)
  · have := (hT k x hx).lt
    omega
section
variable {p : Program} {l : Launch} {e : Env} {R : Room} {s : State} {m : MethodId} {args : Array Value} {below : List Frame} {meth : Method} {c : Code} {H : Heap} {locs : List Loc} {cells slots : Nat} {Q : State → Prop}
variable {cc : ByteArray} {pc : Nat} {ls : Array Slot} {rest : List Value} {E : CE} {own nm : String} {nL : Nat} {ret : Option FieldType} {ws ws' : va_W} {A : Nat → Prop} {a : Nat}
theorem ct_frL {C Y C' : va_W} {H1 : Heap} {locs1 : List Loc} (h : Hs E A s.heap (C ++ Y) H locs) (hP1 : va_P E.1 ct_cl C' H1) (hD1 : va_D (va_A C H.size) C') (hk : ∀ q : Nat, q < H.size → ¬ va_A C H.size q → H1[q]? = H[q]?) (hS : va_S A s.heap H1 locs1) (hAn : ∀ q, s.heap.size ≤ q → A q) : Hs E A s.heap (C' ++ Y) H1 locs1 :=
  ct_frM (X := []) (C := C) (Y := Y) (C' := C') h hP1 hD1 hk hS hAn
theorem ct_frLs {C Y C' : va_W} {H1 : Heap} {locs1 : List Loc} (h : Hs E A s.heap (C ++ Y) H locs) (hP1 : va_P E.1 ct_cl C' H1) (he : C.map Prod.fst = C'.map Prod.fst) (hk : ∀ q : Nat, q < H.size → ¬ va_A C H.size q → H1[q]? = H[q]?) (hS : va_S A s.heap H1 locs1) (hAn : ∀ q, s.heap.size ≤ q → A q) : Hs E A s.heap (C' ++ Y) H1 locs1 :=
  ct_frL h hP1 (ct_Daddr he (ct_Dl h.2.1).self) hk hS hAn
theorem ct_frR {X C C' : va_W} {H1 : Heap} {locs1 : List Loc} (h : Hs E A s.heap (X ++ C) H locs) (hP1 : va_P E.1 ct_cl C' H1) (hD1 : va_D (va_A C H.size) C') (hk : ∀ q : Nat, q < H.size → ¬ va_A C H.size q → H1[q]? = H[q]?) (hS : va_S A s.heap H1 locs1) (hAn : ∀ q, s.heap.size ≤ q → A q) : Hs E A s.heap (X ++ C') H1 locs1 :=
  ct_Hc (ct_frL (ct_Hc h) hP1 hD1 hk hS hAn)
theorem ct_frRs {X C C' : va_W} {H1 : Heap} {locs1 : List Loc} (h : Hs E A s.heap (X ++ C) H locs) (hP1 : va_P E.1 ct_cl C' H1) (he : C.map Prod.fst = C'.map Prod.fst) (hk : ∀ q : Nat, q < H.size → ¬ va_A C H.size q → H1[q]? = H[q]?) (hS : va_S A s.heap H1 locs1) (hAn : ∀ q, s.heap.size ≤ q → A q) : Hs E A s.heap (X ++ C') H1 locs1 :=
  ct_frR h hP1 (ct_Daddr he (ct_Dr h.2.1).self) hk hS hAn
theorem ct_subL {C Y : va_W} (h : Hs E A s.heap (C ++ Y) H locs) (hAn : ∀ q, s.heap.size ≤ q → A q) : ∀ q, va_A C H.size q → A q := ct_sub (ct_Hl h) hAn
theorem ct_subR {X C : va_W} (h : Hs E A s.heap (X ++ C) H locs) (hAn : ∀ q, s.heap.size ≤ q → A q) : ∀ q, va_A C H.size q → A q := ct_sub (ct_Hr h) hAn
theorem ct_aast (B : cx p s m args meth c cc own nL ret nm E) (h : Hs E A s.heap ws H locs) (q0 t qk ci : Nat) {r : vw_C} {n i v : Nat} {vs : List Value} {f : Nat → Option Nat} (ht : (ct_tys E)[t]? = some (E.2.1 t, .object r.1)) (hc : ct_cl[ci]? = some r) (ha : ws[q0]? = some (a, .inl (E.2.1 t, n, .inr (.inr (.inr (.inr f)))))) (hv : ws[qk]? = some (v, .inr (ci, vs))) (hi : i < n) (hn : n < 2147483648) (hw : ws.set q0 (a, .inl (E.2.1 t, n, .inr (.inr (.inr (.inr (va_up f i (some v))))))) = ws') (hdg : decode cc pc = .ok (.aastore, 1))
    (kk : ∀ (H : Heap) (locs : List Loc), Hs E A s.heap ws' H locs → W p l e R s m args below meth c H locs cells slots Q (F0 m (pc + 1) ls rest)) : W p l e R s m args below meth c H locs cells slots Q (F0 m pc ls (.ref v :: .int (nI i) :: .ref a :: rest)) :=
  va_astq B.1 B.2.1 B.2.2.2.2.2.2.2.2.1 h.1 h.2.1 h.2.2 q0 t qk ci ha ht hv hc (vp_in_nI hi (by omega)) hdg (fun H1 locs1 h1 h2 h3 => kk H1 locs1 (by subst hw; rw [ct_cl' hi hn] at h1 h2; exact ⟨h1, h2, h3⟩))
end
/-- the places of a table that has just been made -/
theorem fresh_of {s : State} {H : Heap} {ws C : va_W} {a : Nat} {e : va_E} (hs : s.heap.size ≤ H.size) (ha : s.heap.size ≤ a) (hD : va_D (va_A [(a, e)] H.size) ws) {k : Nat} {x : Nat × va_E} (hx : ws[k]? = some x) : s.heap.size ≤ x.1 := by
  rcases hD.2 k x hx with ⟨k', e', h⟩ | h
  · rcases k' with _ | k'
    · cases h; exact ha
    · cases h
  · omega
