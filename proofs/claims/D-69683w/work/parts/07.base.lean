/-! BASE 1: what is known all through a run (GK), the classes of the claim, String cells -/
set_option maxRecDepth 100000
/-- the surroundings of every contract: class numbers and slots, array classes, where new cells begin, constant objects -/
abbrev CE : Type := va_G × (Nat → ClassId) × Nat × (Nat → Nat)
def ct_cl : List vw_C := [(RX0, TX0, 11), (RX1, TX1, 3), (RX2, TX2, 15), (RX3, TX3, 2), (RX4, TX4, 5), (RX5, TX5, 2), (RX6, TX6, 12), (RX7, TX7, 1), (RX8, TX8, 2), (RX9, TX9, 7), (RX10, TX10, 7), (RX11, TX11, 3), (RX12, TX12, 2), (RJ4, TJ4, 4), (RJ10, TJ10, 3), (RJ12, TJ12, 4), (RJ3, TJ3, 6)]
def ct_tys (E : CE) : List (ClassId × FieldType) := [(E.2.1 0, .byte), (E.2.1 1, .int), (E.2.1 2, .long), (E.2.1 3, .object "CommaTables$Table"), (E.2.1 4, .object "CommaTablesModel$Table"), (E.2.1 5, .object "java/lang/Object")]
def ct_C (ci : Nat) (C : String) (T : u_T) (N : Nat) (ty : Nat → FieldType) : Prop := ct_cl[ci]? = some (C, T, N) ∧ (∀ w ∈ u_ws C T N, w ∈ lw_all) ∧ (∀ k, k < N → parseFieldDescriptor (T k).2.2.1 = some (ty k)) ∧ (∀ a, a < N → ∀ b, b < N → a ≠ b → (T a).2.1 ≠ (T b).2.1)
theorem kX0 : ct_C 0 RX0 TX0 11 tyX0 := ⟨rfl, in_X0, tyX0_ok, nmX0⟩
theorem kX1 : ct_C 1 RX1 TX1 3 tyX1 := ⟨rfl, in_X1, tyX1_ok, nmX1⟩
theorem kX2 : ct_C 2 RX2 TX2 15 tyX2 := ⟨rfl, in_X2, tyX2_ok, nmX2⟩
theorem kX3 : ct_C 3 RX3 TX3 2 tyX3 := ⟨rfl, in_X3, tyX3_ok, nmX3⟩
theorem kX4 : ct_C 4 RX4 TX4 5 tyX4 := ⟨rfl, in_X4, tyX4_ok, nmX4⟩
theorem kX5 : ct_C 5 RX5 TX5 2 tyX5 := ⟨rfl, in_X5, tyX5_ok, nmX5⟩
theorem kX6 : ct_C 6 RX6 TX6 12 tyX6 := ⟨rfl, in_X6, tyX6_ok, nmX6⟩
theorem kX7 : ct_C 7 RX7 TX7 1 tyX7 := ⟨rfl, in_X7, tyX7_ok, nmX7⟩
theorem kX8 : ct_C 8 RX8 TX8 2 tyX8 := ⟨rfl, in_X8, tyX8_ok, nmX8⟩
theorem kX9 : ct_C 9 RX9 TX9 7 tyX9 := ⟨rfl, in_X9, tyX9_ok, nmX9⟩
theorem kX10 : ct_C 10 RX10 TX10 7 tyX10 := ⟨rfl, in_X10, tyX10_ok, nmX10⟩
theorem kX11 : ct_C 11 RX11 TX11 3 tyX11 := ⟨rfl, in_X11, tyX11_ok, nmX11⟩
theorem kX12 : ct_C 12 RX12 TX12 2 tyX12 := ⟨rfl, in_X12, tyX12_ok, nmX12⟩
theorem kJ4 : ct_C 13 RJ4 TJ4 4 tyJ4 := ⟨rfl, in_J4, tyJ4_ok, nmJ4⟩
theorem kJ10 : ct_C 14 RJ10 TJ10 3 tyJ10 := ⟨rfl, in_J10, tyJ10_ok, nmJ10⟩
theorem kJ12 : ct_C 15 RJ12 TJ12 4 tyJ12 := ⟨rfl, in_J12, tyJ12_ok, nmJ12⟩
theorem kJ3 : ct_C 16 RJ3 TJ3 6 tyJ3 := ⟨rfl, in_J3, tyJ3_ok, nmJ3⟩
/-- words of the tables that don't ride in lw_all -/
def ct_nw : List Cond := [
  .fieldLinkNest "CommaTables$Tables" 154 "CommaTables$Words" "bytes" "[B" "CommaTables",
  .methodLinkNest "CommaTables" 15 ⟨"CommaTables$Stop", "<init>", "()V"⟩ "CommaTables",
  .methodLinkNest "CommaTables$Tables" 11 ⟨"CommaTables$Words", "<init>", "()V"⟩ "CommaTables",
  .methodLinkNest "CommaTables$Tables" 37 ⟨"CommaTables$Orders", "<init>", "()V"⟩ "CommaTables",
  .methodLinkNest "CommaTablesModel" 19 ⟨"CommaTablesModel$Trouble", "<init>", "()V"⟩ "CommaTablesModel",
  .methodLinkNest "CommaTablesModel" 36 ⟨"CommaTablesModel$Bytes", "<init>", "()V"⟩ "CommaTablesModel",
  .methodLinkNest "CommaTablesModel" 221 ⟨"CommaTablesModel$Table", "<init>", "()V"⟩ "CommaTablesModel",
  .methodLinkNest "CommaTablesModel$TableReader" 11 ⟨"CommaTablesModel$Table", "<init>", "()V"⟩ "CommaTablesModel",
  .castable "java/lang/IllegalStateException" "java/lang/IllegalStateException",
  .castable "java/lang/String" "java/lang/Object",
  .castable "CommaTablesModel$Cell" "java/lang/Object",
  .castable "[B" "java/lang/Object",
  .castable "[Ljava/lang/Object;" "java/lang/Object",
  .castable "java/lang/StringBuilder" "java/lang/Object",
  .declares ⟨"java/lang/Throwable", "<init>", "()V"⟩,
  .declares ⟨"java/lang/Exception", "<init>", "()V"⟩,
  .declares ⟨"java/lang/RuntimeException", "<init>", "()V"⟩,
  .declares ⟨"java/lang/Object", "getClass", "()Ljava/lang/Class;"⟩,
  .arrayOver (.object "CommaTables$Table"),
  .arrayOver (.object "CommaTablesModel$Table"),
  .arrayOver (.object "java/lang/Object"),
  .castable "[B" "java/lang/Cloneable",
  .privateMethod ⟨"java/lang/AbstractStringBuilder", "ensureCapacityInternal", "(I)V"⟩,
  .privateMethod ⟨"java/lang/AbstractStringBuilder", "newCapacity", "(I)I"⟩]
theorem ct_nw_tbl : ∀ w ∈ ct_nw, w ∈ lw_tbl := by
  intro w h
  simp only [ct_nw, List.mem_cons, List.not_mem_nil, or_false] at h
  rcases h with h | h | h | h | h | h | h | h | h | h | h | h | h | h | h | h | h | h | h | h | h | h | h | h
  · rw [h]; exact q183
  · rw [h]; exact q91
  · rw [h]; exact q177
  · rw [h]; exact q194
  · rw [h]; exact q701
  · rw [h]; exact q714
  · rw [h]; exact q1306
  · rw [h]; exact q798
  · rw [h]; exact q97
  · rw [h]; exact q1354
  · rw [h]; exact q1355
  · rw [h]; exact q1360
  · rw [h]; exact q1365
  · rw [h]; exact q1353
  · rw [h]; exact q102
  · rw [h]; exact q100
  · rw [h]; exact q98
  · rw [h]; exact q1359
  · rw [h]; exact q191
  · rw [h]; exact q711
  · rw [h]; exact q1103
  · rw [h]; exact q932
  · rw [h]; exact q906
  · rw [h]; exact q910
theorem ct_nw_warm {s U : State} (hW : s.WarmedH U.vm) (hz : ∀ w ∈ ct_nw, va_Nw w s) : ∀ w ∈ ct_nw, va_Nw w U := by
  intro w h
  have h0 := hz w h
  simp only [ct_nw, List.mem_cons, List.not_mem_nil, or_false] at h
  rcases h with h | h | h | h | h | h | h | h | h | h | h | h | h | h | h | h | h | h | h | h | h | h | h | h <;> rw [h] at h0 ⊢ <;>
    first
    | exact va_Nw.warmF hW h0
    | exact va_Nw.warmM hW h0
    | exact va_Nw.warmC hW h0
    | exact va_Nw.warmD hW h0
    | exact va_AO.moved hW.alike h0
    | exact Cond.privateMethod_warm hW h0
/-- a static field that holds a reference or null, with all that its words say -/
def ct_Zr (C n d : String) (A : Nat → Prop) (U : State) (H : Heap) : Prop := ∃ (c : ClassId) (k : Class) (i : Nat) (f : Field) (a : Nat) (cell : Cell) (u : RefV), U.vm.findClass C = some c ∧ U.fieldFound? C n d = some (c, k, i, f) ∧ f.isStatic = true ∧ k.statics = some a ∧ H[a]? = some cell ∧ cell.vm.isStatics = true ∧ cell.cls = c ∧ f.slot < cell.slots.size ∧ k.staticTypes[f.slot]? = some f.type ∧ cell.slots[f.slot]? = some u.v ∧ ¬ A a
theorem ct_Zr.moved {C n d : String} {A : Nat → Prop} {u U : State} {H : Heap} (hvm : u.vm.Alike U.vm) (h : ct_Zr C n d A u H) : ct_Zr C n d A U H := by
  obtain ⟨c, k, i, f, a, cell, v, h1, h2, h3, h4, h5, h6, h7, h8, h9, h10⟩ := h
  obtain ⟨k', hi', he⟩ := State.fieldFound?_setVm hvm h2
  exact ⟨c, k', i, f, a, cell, v, by rw [hvm.findClass]; exact h1, hi', h3, by rw [he]; exact h4, h5, h6, h7, h8, by rw [he]; exact h9, h10⟩
theorem ct_Zr.kept {C n d : String} {A : Nat → Prop} {U : State} {H H1 : Heap} (h : ct_Zr C n d A U H) (hq : ∀ a : Nat, a < H.size → ¬ A a → H1[a]? = H[a]?) : ct_Zr C n d A U H1 := by
  obtain ⟨c, k, i, f, a, cell, v, h1, h2, h3, h4, h5, h6, h7, h8, h9, h10, h11⟩ := h
  exact ⟨c, k, i, f, a, cell, v, h1, h2, h3, h4, by rw [hq a (Array.getElem?_eq_some_iff.mp h5).1 h11]; exact h5, h6, h7, h8, h9, h10, h11⟩
theorem ct_Zr.lays {C n d : String} {A : Nat → Prop} {U : State} {args : Array Value} (h : ct_Zr C n d A U U.heap) : (Cond.laysStatic C n d).before args U = true := by
  obtain ⟨c, k, i, f, a, cell, v, h1, h2, h3, h4, h5, h6, h7, h8, h9, h10, h11⟩ := h
  exact Cond.laysStatic_of h1 h2 h3 h4 h5 h6 h7 h8 h9
theorem ct_Zr.isRef {C n d : String} {A : Nat → Prop} {U : State} {args : Array Value} (h : ct_Zr C n d A U U.heap) : (Cond.isRef (.static C n d)).before args U = true := by
  obtain ⟨c, k, i, f, a, cell, v, h1, h2, h3, h4, h5, h6, h7, h8, h9, h10, h11⟩ := h
  have he : (Term.static C n d).eval args U none [] U = some v.v := by
    simp [Term.eval, State.fieldNamed?, h2, h3, h4, h5, h6, h10]
  simp only [Cond.before, Cond.holds, Cond.value, he]
  obtain ⟨v, ok⟩ := v
  cases v <;> first | rfl | cases ok
/-- a String of the text t (its chars below 128), as nobody changes it: its cells don't lie in A; j: the place of its array's class -/
def ct_S (E : CE) (A : Nat → Prop) (H : Heap) (a : Nat) (t : List Nat) : Prop := ∃ (v : Nat) (cS cV : Cell) (j : Nat), H[a]? = some cS ∧ cS.vm.isStatics = false ∧ cS.vm ≠ .unknown ∧ cS.cls = E.1.1 13 ∧ cS.slots[E.1.2 13 0]? = some (.ref v) ∧ cS.slots[E.1.2 13 1]? = some (.int 0) ∧
  H[v]? = some cV ∧ (∀ z, cV.vm ≠ .statics z) ∧ cV.vm ≠ .unknown ∧ (j = 0 ∨ (6 ≤ j ∧ j ≤ 8)) ∧ cV.cls = E.2.1 j ∧ t.length ≤ cV.slots.size ∧ cV.slots.size.toInt32 = Int32.ofNat t.length ∧ (∀ i : Nat, i < t.length → cV.slots[i]? = some (.int (nI (t.getD i 0)))) ∧ (∀ x ∈ t, x < 128) ∧ t.length < 65536 ∧ ¬ A a ∧ ¬ A v
theorem ct_S.kept {E : CE} {A : Nat → Prop} {H H1 : Heap} {a : Nat} {t : List Nat} (h : ct_S E A H a t) (hq : ∀ a : Nat, a < H.size → ¬ A a → H1[a]? = H[a]?) : ct_S E A H1 a t := by
  obtain ⟨v, cS, cV, j, h1, h2, h3, h4, h5, h6, h7, h8, h9, h10, h11, h12, h13, h14, h15, h16, h17, h18⟩ := h
  exact ⟨v, cS, cV, j, by rw [hq a (Array.getElem?_eq_some_iff.mp h1).1 h17]; exact h1, h2, h3, h4, h5, h6, by rw [hq v (Array.getElem?_eq_some_iff.mp h7).1 h18]; exact h7, h8, h9, h10, h11, h12, h13, h14, h15, h16, h17, h18⟩
theorem ct_S.narrow {E : CE} {A B : Nat → Prop} {H : Heap} {a : Nat} {t : List Nat} (h : ct_S E A H a t) (hAB : ∀ q, q < H.size → B q → A q) : ct_S E B H a t := by
  obtain ⟨v, cS, cV, j, h1, h2, h3, h4, h5, h6, h7, h8, h9, h10, h11, h12, h13, h14, h15, h16, h17, h18⟩ := h
  exact ⟨v, cS, cV, j, h1, h2, h3, h4, h5, h6, h7, h8, h9, h10, h11, h12, h13, h14, h15, h16, fun z => h17 (hAB a (Array.getElem?_eq_some_iff.mp h1).1 z), fun z => h18 (hAB v (Array.getElem?_eq_some_iff.mp h7).1 z)⟩
def tx_true : List Nat := [116, 114, 117, 101]
def tx_false : List Nat := [102, 97, 108, 115, 101]
def tx_least : List Nat := [57, 50, 50, 51, 51, 55, 50, 48, 51, 54, 56, 53, 52, 55, 55, 53, 56, 48, 56]
/-- the statics and constants in the heap: their cells lie below the place where new cells begin -/
def ct_GS (E : CE) (U : State) (H : Heap) : Prop :=
  va_Z "java/lang/String" "COMPACT_STRINGS" "Z" (.int 1) (fun q => E.2.2.1 ≤ q) U H ∧
  va_Zq "jdk/internal/util/Preconditions" "SIOOBE_FORMATTER" "Ljava/util/function/BiFunction;" (fun q => E.2.2.1 ≤ q) U H ∧
  (va_Z "java/util/ArrayList" "DEFAULTCAPACITY_EMPTY_ELEMENTDATA" "[Ljava/lang/Object;" (.ref (E.2.2.2 3)) (fun q => E.2.2.1 ≤ q) U H ∧ va_T (.object "java/lang/Object") (E.2.2.2 3) 0 (fun _ => .null) (fun q => E.2.2.1 ≤ q) U H) ∧
  ct_Zr "java/lang/Throwable" "UNASSIGNED_STACK" "[Ljava/lang/StackTraceElement;" (fun q => E.2.2.1 ≤ q) U H ∧
  ct_Zr "java/lang/Throwable" "SUPPRESSED_SENTINEL" "Ljava/util/List;" (fun q => E.2.2.1 ≤ q) U H ∧
  ct_S E (fun q => E.2.2.1 ≤ q) H (E.2.2.2 0) tx_true ∧ ct_S E (fun q => E.2.2.1 ≤ q) H (E.2.2.2 1) tx_false ∧ ct_S E (fun q => E.2.2.1 ≤ q) H (E.2.2.2 2) tx_least
def ct_GV (E : CE) (U : State) : Prop :=
  vk_R "CommaTables$Tables" 165 "true" (E.2.2.2 0) U ∧ vk_R "CommaTables$Tables" 171 "false" (E.2.2.2 1) U ∧ vk_R "CommaTables$Tables" 186 "9223372036854775808" (E.2.2.2 2) U ∧
  vk_R "CommaTablesModel" 67 "true" (E.2.2.2 0) U ∧ vk_R "CommaTablesModel" 75 "false" (E.2.2.2 1) U ∧ (∀ j, 6 ≤ j → j ≤ 8 → ArrOfT U (E.2.1 j) .byte) ∧ va_Mi "[Ljava/lang/Object;" (E.2.2.2 4) U
/-- all that is known all through a run -/
def GK (E : CE) (U : State) : Prop := va_K E.1 ct_cl (ct_tys E) U ∧ (∀ w ∈ ct_nw, va_Nw w U) ∧ E.2.2.1 ≤ U.heap.size ∧ ct_GS E U U.heap ∧ ct_GV E U
theorem ct_GS.moved {E : CE} {u U : State} {H : Heap} (hvm : u.vm.Alike U.vm) (h : ct_GS E u H) : ct_GS E U H := by
  obtain ⟨h1, h2, ⟨h3, h4⟩, h5, h6, h7, h8, h9⟩ := h
  exact ⟨h1.moved hvm, h2.moved hvm, ⟨h3.moved hvm, h4.moved hvm⟩, h5.moved hvm, h6.moved hvm, h7, h8, h9⟩
theorem ct_GS.kept {E : CE} {U : State} {H H1 : Heap} (h : ct_GS E U H) (hq : ∀ a : Nat, a < H.size → ¬ E.2.2.1 ≤ a → H1[a]? = H[a]?) : ct_GS E U H1 := by
  obtain ⟨h1, h2, ⟨h3, h4⟩, h5, h6, h7, h8, h9⟩ := h
  exact ⟨h1.kept hq, h2.kept hq, ⟨h3.kept hq, h4.kept hq⟩, h5.kept hq, h6.kept hq, h7.kept hq, h8.kept hq, h9.kept hq⟩
theorem ct_GV.warm {E : CE} {s U : State} (hW : s.WarmedH U.vm) (h : ct_GV E s) : ct_GV E U := by
  obtain ⟨h1, h2, h3, h4, h5, h7, h6⟩ := h
  exact ⟨h1.warm hW, h2.warm hW, h3.warm hW, h4.warm hW, h5.warm hW, fun j h8 h9 => arrOfT_moved hW.alike (h7 j h8 h9), h6.moved hW.alike⟩
theorem ct_GV.same {E : CE} {u U : State} (hv : U.vm = u.vm) (h : ct_GV E u) : ct_GV E U := by
  obtain ⟨h1, h2, h3, h4, h5, h7, h6⟩ := h
  have hal : u.vm.Alike U.vm := by rw [hv]; exact Vm.Alike.refl u.vm
  exact ⟨h1.same hv, h2.same hv, h3.same hv, h4.same hv, h5.same hv, fun j h8 h9 => arrOfT_moved hal (h7 j h8 h9), h6.moved hal⟩
/-- a callee's start, out of the caller's -/
theorem GK.go {E : CE} {s U : State} {A : Nat → Prop} {H : Heap} {locs : List Loc} (h : GK E s) (hS : va_S A s.heap H locs) (hA : ∀ q, A q → E.2.2.1 ≤ q) (hU : U.heap = H) (hW : s.WarmedH U.vm) : GK E U := by
  obtain ⟨h1, h2, h3, h4, h5⟩ := h
  refine ⟨va_K.moved hW.alike h1, ct_nw_warm hW h2, ?_, ?_, ct_GV.warm hW h5⟩
  · rw [hU]; exact Nat.le_trans h3 hS.1
  · rw [hU]; exact (h4.moved hW.alike).kept (fun a h1 h2 => hS.2.1 a h1 (fun z => h2 (hA a z)))
theorem GK.calling {E : CE} {U : State} {g : JFrame} {mk : MethodId} {a : Array Value} (h : GK E U) : GK E (U.calling g mk a) := by
  obtain ⟨h1, h2, h3, h4, h5⟩ := h
  exact ⟨va_K.moved (u := U) (U := U.calling g mk a) (Vm.Alike.refl U.vm) h1, ct_nw_warm (s := U) (U := U.calling g mk a) (State.WarmedH.refl U) h2, h3, ct_GS.moved (u := U) (U := U.calling g mk a) (Vm.Alike.refl U.vm) h4, ct_GV.same (u := U) (U := U.calling g mk a) rfl h5⟩
