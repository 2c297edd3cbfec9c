/-! the component's world: its twenty cells that change; a table's six -/
set_option maxRecDepth 100000
abbrev XF : Type := (Nat → Int32) × Nat × Nat × Int32 × (Nat → Int64) × Nat × (Nat → Int64)
abbrev XO : Type := (Nat → Int32) × Nat × (Nat → Int32) × Nat
abbrev XS : Type := Int32 × Int32
abbrev XT : Type := Nat × (Nat → Option Nat) × Nat × (Nat → Int32)
abbrev XP : Type := Option Nat × Nat × Nat × (Nat → Int32) × Nat × (Nat → Int32) × (Nat → Int32) × Nat × Nat
abbrev XR : Type := (Nat → Int32) × (Nat → Int32) × Option Nat × Int32 × Int32 × (Nat → Int64)
def xw (E : CE) (ad : Nat → Nat) (F : XF) (O : XO) (S : XS) (T : XT) (P : XP) (R : XR) : va_W := [
  (ad 0, .inr (0, [.ref (ad 1), .int (nI F.2.1), .int (nI F.2.2.1), .ref (ad 2), .ref (ad 3), .int F.2.2.2.1, .ref (ad 14), .int (nI F.2.2.2.2.2.1), .ref (ad 15), .ref (ad 16), .ref (ad 18)])),
  (ad 1, .inl (E.2.1 0, 16000, .inl F.1)),
  (ad 2, .inr (1, [.ref (ad 20), .int S.1, .int S.2])),
  (ad 3, .inr (2, [.ref (ad 2), .ref (ad 4), .ref (ad 6), .int (nI T.1), va_rf P.1, .int (nI P.2.1), .int (nI P.2.2.1), .ref (ad 7), .int (nI P.2.2.2.2.1), .ref (ad 8), .ref (ad 9), .int (nI P.2.2.2.2.2.2.2.1), .int (nI P.2.2.2.2.2.2.2.2), .ref (ad 10), .ref (ad 13)])),
  (ad 4, .inr (3, [.ref (ad 5), .int (nI T.2.2.1)])),
  (ad 5, .inl (E.2.1 0, 65536, .inl T.2.2.2)),
  (ad 6, .inl (E.2.1 3, 41, .inr (.inr (.inr (.inr T.2.1))))),
  (ad 7, .inl (E.2.1 0, 16000, .inl P.2.2.2.1)),
  (ad 8, .inl (E.2.1 1, 8000, .inl P.2.2.2.2.2.1)),
  (ad 9, .inl (E.2.1 0, 8000, .inl P.2.2.2.2.2.2.1)),
  (ad 10, .inr (4, [.ref (ad 11), .ref (ad 12), va_rf R.2.2.1, .int R.2.2.2.1, .int R.2.2.2.2.1])),
  (ad 11, .inl (E.2.1 1, 4096, .inl R.1)),
  (ad 12, .inl (E.2.1 1, 4096, .inl R.2.1)),
  (ad 13, .inl (E.2.1 2, 500, .inr (.inl R.2.2.2.2.2))),
  (ad 14, .inl (E.2.1 2, 500, .inr (.inl F.2.2.2.2.1))),
  (ad 15, .inl (E.2.1 2, 500, .inr (.inl F.2.2.2.2.2.2))),
  (ad 16, .inr (5, [.ref (ad 17), .int (nI O.2.1)])),
  (ad 17, .inl (E.2.1 0, 30000, .inl O.1)),
  (ad 18, .inr (5, [.ref (ad 19), .int (nI O.2.2.2)])),
  (ad 19, .inl (E.2.1 0, 30000, .inl O.2.2.1))]
/-- a table: q its cells' places; f 0 names, f 1 their lengths, f 2 cells, f 3 their lengths, f 4 lanes -/
def tw (E : CE) (q : Nat → Nat) (cols rows : Nat) (f : Nat → Nat → Int32) : va_W := [
  (q 0, .inr (9, [.int (nI cols), .int (nI rows), .ref (q 1), .ref (q 2), .ref (q 3), .ref (q 4), .ref (q 5)])),
  (q 1, .inl (E.2.1 1, cols, .inl (f 0))),
  (q 2, .inl (E.2.1 0, cols, .inl (f 1))),
  (q 3, .inl (E.2.1 1, cols * rows, .inl (f 2))),
  (q 4, .inl (E.2.1 0, cols * rows, .inl (f 3))),
  (q 5, .inl (E.2.1 1, cols, .inl (f 4)))]
theorem ct_nw_0 : Cond.fieldLinkNest "CommaTables$Tables" 154 "CommaTables$Words" "bytes" "[B" "CommaTables" ∈ ct_nw := List.mem_of_getElem? (i := 0) rfl
theorem ct_nw_1 : Cond.methodLinkNest "CommaTables" 15 ⟨"CommaTables$Stop", "<init>", "()V"⟩ "CommaTables" ∈ ct_nw := List.mem_of_getElem? (i := 1) rfl
theorem ct_nw_2 : Cond.methodLinkNest "CommaTables$Tables" 11 ⟨"CommaTables$Words", "<init>", "()V"⟩ "CommaTables" ∈ ct_nw := List.mem_of_getElem? (i := 2) rfl
theorem ct_nw_3 : Cond.methodLinkNest "CommaTables$Tables" 37 ⟨"CommaTables$Orders", "<init>", "()V"⟩ "CommaTables" ∈ ct_nw := List.mem_of_getElem? (i := 3) rfl
theorem ct_nw_4 : Cond.methodLinkNest "CommaTablesModel" 19 ⟨"CommaTablesModel$Trouble", "<init>", "()V"⟩ "CommaTablesModel" ∈ ct_nw := List.mem_of_getElem? (i := 4) rfl
theorem ct_nw_5 : Cond.methodLinkNest "CommaTablesModel" 36 ⟨"CommaTablesModel$Bytes", "<init>", "()V"⟩ "CommaTablesModel" ∈ ct_nw := List.mem_of_getElem? (i := 5) rfl
theorem ct_nw_6 : Cond.methodLinkNest "CommaTablesModel" 221 ⟨"CommaTablesModel$Table", "<init>", "()V"⟩ "CommaTablesModel" ∈ ct_nw := List.mem_of_getElem? (i := 6) rfl
theorem ct_nw_7 : Cond.methodLinkNest "CommaTablesModel$TableReader" 11 ⟨"CommaTablesModel$Table", "<init>", "()V"⟩ "CommaTablesModel" ∈ ct_nw := List.mem_of_getElem? (i := 7) rfl
section
variable {p : Program} {l : Launch} {e : Env} {R : Room} {s : State} {m : MethodId} {args : Array Value} {below : List Frame} {meth : Method} {c : Code} {H : Heap} {locs : List Loc} {cells slots : Nat} {Q : State → Prop}
variable {cc : ByteArray} {pc : Nat} {ls : Array Slot} {rest : List Value} {E : CE} {own nm : String} {nL : Nat} {ret : Option FieldType} {ws ws' : va_W} {A : Nat → Prop} {a : Nat}
theorem ct_getN (B : cx p s m args meth c cc own nL ret nm E) (hP : va_P E.1 ct_cl ws H) {ci : Nat} {C host : String} {T : u_T} {N index : Nat} {ty : Nat → FieldType} (K : ct_C ci C T N ty) (q0 : Nat) {fs : List Value} (he : ws[q0]? = some (a, .inr (ci, fs))) (k : Nat) (hk : k < N) (hl : Cond.fieldLinkNest own index (T k).1 (T k).2.1 (T k).2.2.1 host ∈ ct_nw) {v : Value} (hv : fs[k]? = some v) (hdg : decode cc pc = .ok (.getfield index, 3))
    (kk : W p l e R s m args below meth c H locs cells slots Q (F0 m (pc + 3) ls (v :: rest))) : W p l e R s m args below meth c H locs cells slots Q (F0 m pc ls (.ref a :: rest)) :=
  va_getN B.1 B.2.1 B.2.2.2.1 K.2.1 B.2.2.1 B.2.2.2.2.2.2.2.2.1 hP q0 he K.1 k hk (va_Nw.use rfl (B.2.2.2.2.2.2.2.2.2.1 _ hl)) (fun _ h => h) hv hdg kk
/-- the worlds of one and the same component are apart and above z0 -/
theorem ct_A0 {sz : Nat} (hD : va_D (fun q => E.2.2.1 ≤ q) ws) (hz : E.2.2.1 ≤ sz) : ∀ q, va_A ws sz q → E.2.2.1 ≤ q := by
  intro q h
  rcases h with ⟨k, e, h⟩ | h
  · exact hD.2 k _ h
  · omega
end
