/-! rows for the JDK's lists and texts: methods of a superclass, arrays of references, copies -/
set_option maxRecDepth 100000
section
variable {p : Program} {l : Launch} {e : Env} {R : Room} {s : State} {m : MethodId} {args : Array Value} {below : List Frame} {meth : Method} {c : Code} {H : Heap} {locs : List Loc} {cells slots : Nat} {Q : State → Prop}
variable {cc : ByteArray} {pc : Nat} {ls : Array Slot} {rest : List Value} {E : CE} {own nm : String} {nL : Nat} {ret : Option FieldType} {ws ws' : va_W} {A : Nat → Prop} {a : Nat}
theorem ct_selP {C : String} {y x9 : MethodName} (hw : ∀ w ∈ lw_all, w.before args s = true) (hpr : va_Nw (.privateMethod y) s) (hin : Cond.instanceMethod y ∈ lw_all) (hs : Cond.selects C x9 x9 ∈ lw_all) (hx : x9.cls = y.cls) (hy : y.cls ≠ "java/lang/invoke/MethodHandle" ∧ y.cls ≠ "java/lang/invoke/VarHandle") : (Cond.selects C y y).before args s = true := by
  obtain ⟨mk, methM, hnamed, hmethM, -, -⟩ := Cond.instanceMethod_spec (hw _ hin)
  have hfound : s.methodFound? y.cls y.name y.desc = some mk := State.methodFound?_of_named hnamed hy
  obtain ⟨c2, r2, m2, q1, q2, q3, q4, kP, hkP, hni⟩ := Cond.selects_spec (hw _ hs)
  have e1 : m2.cls = mk.cls := by
    have a1 := findClass_of_methodNamed q3
    rw [hx] at a1
    exact Option.some.inj (a1.symm.trans (findClass_of_methodNamed hnamed))
  rw [e1] at hkP
  have hsel : selectMethod {} s.vm c2 mk = .method mk := selectMethod_private hmethM ((Cond.privateMethod_at hpr) mk methM hnamed hmethM)
  simp only [Cond.before, Cond.holds, Cond.value, q1, hfound, hnamed, hsel, hkP]
  simp; exact hni
section
variable {x y : MethodName} {bytes : ByteArray} {maxL : Nat} {ry : Option FieldType} {rm : Room} {As : List Value} {b index mc ms : Nat} {Hp : Heap → Prop} {Qc : Array Value → State → Outcome → State → Prop} {free : Addr → Prop} {C : String}
theorem ct_runU (B : cx p s m args meth c cc own nL ret nm E) (hM : Met l y (ws_ y bytes maxL ry) rm (ctP E (.ref b :: As) H.size Hp) Qc mc ms free) (hsel : (Cond.selects C x y).before args s = true) (hlk : Cond.methodLink own index x ∈ lw_all) (hsm : Cond.sameMethod x.cls x.cls x.name x.desc ∈ lw_all) (hdx : va_Decl s x) (hin : Cond.instanceMethod y ∈ lw_all) (hini : Cond.initialized y.cls ∈ lw_all) (hcode : Cond.code y bytes maxL ry ∈ lw_all) {n : Nat} (hd : ct_desc x n) (hn : As.length = n) (hR : ct_room R rm maxL mc ms cells slots)
    (hS : va_S A s.heap H locs) (hA : ∀ q, A q → E.2.2.1 ≤ q) (hrecv : ∃ cellB : Cell, H[b]? = some cellB ∧ cellB.vm.isStatics = false ∧ s.vm.findClass C = some cellB.cls) (hH : Hp H) (hl : ls.size = nL) (hrest : (rest.map fun v => v.category).sum ≤ 8) (hdg : decode cc pc = .ok (.invokevirtual index, 3)) :
    va_Run p l e R s m args below meth c H locs cells slots mc ms (F0 m pc ls (As.reverse ++ .ref b :: rest)) rest (Qc (Value.ref b :: As).toArray) free := by
  obtain ⟨r1, r2, r3, r4, r5, r6⟩ := hR
  have hw := B.2.2.2.1
  have cw : va_CU R s args own C x.cls index x y bytes maxL ry (ws_ y bytes maxL ry) rm mc ms n := by
    refine ⟨⟨r1, r2, r3, r4, pay_in hw (lw_meth hcode), List.mem_cons_self⟩, hw _ hcode, hw _ hini, ⟨hd.1, hd.2.1⟩, fun sig h => ?_, hw _ hlk, hw _ hsm, hdx, hsel, hw _ hin⟩
    have h2 := hd.2.2
    rw [h] at h2
    exact (Option.some.inj h2).symm
  exact va_runU (As := As) (rest := rest) ⟨B.1, B.2.1, B.2.2.2.2.2.2.1, B.2.2.1, B.2.2.2.1⟩ hM cw ⟨ct_blind, hrecv, fun U hU hW => ⟨rfl, by rw [hU], B.2.2.2.2.2.2.2.2.go hS hA hU hW, by rw [hU]; exact hH⟩⟩ rfl hn hl rfl (lv_room hrest) hdg ⟨r5, r6⟩
theorem ct_runSU {cC : ClassId} (hat : ClassAt s C cC) (B : cx p s m args meth c cc own nL ret nm E) (hM : Met l y (ws_ y bytes maxL ry) rm (ctP E (.ref b :: As) H.size Hp) Qc mc ms free) (hlk : Cond.methodLink own index y ∈ lw_all) (hsm : Cond.sameMethod y.cls y.cls y.name y.desc ∈ lw_all) (hsu : Cond.superclass own y.cls ∈ lw_all) (hin : Cond.instanceMethod y ∈ lw_all) (hini : Cond.initialized y.cls ∈ lw_all) (hcode : Cond.code y bytes maxL ry ∈ lw_all) (hy : y.name ≠ "<init>") {n : Nat} (hd : ct_desc y n) (hn : As.length = n) (hR : ct_room R rm maxL mc ms cells slots)
    (hS : va_S A s.heap H locs) (hA : ∀ q, A q → E.2.2.1 ≤ q) (hrecv : ∃ cellB : Cell, H[b]? = some cellB ∧ cellB.vm.isStatics = false ∧ s.vm.findClass C = some cellB.cls) (hH : Hp H) (hl : ls.size = nL) (hrest : (rest.map fun v => v.category).sum ≤ 8) (hdg : decode cc pc = .ok (.invokespecial index, 3)) :
    va_Run p l e R s m args below meth c H locs cells slots mc ms (F0 m pc ls (As.reverse ++ .ref b :: rest)) rest (Qc (Value.ref b :: As).toArray) free := by
  obtain ⟨r1, r2, r3, r4, r5, r6⟩ := hR
  have hw := B.2.2.2.1
  have cw : va_CS R s args own index y bytes maxL ry (ws_ y bytes maxL ry) rm mc ms n := by
    refine ⟨⟨r1, r2, r3, r4, pay_in hw (lw_meth hcode), List.mem_cons_self⟩, hw _ hlk, hw _ hsm, hw _ hsu, hw _ hin, hw _ hini, hw _ hcode, hy, fun sig h => ?_⟩
    have h2 := hd.2.2
    rw [h] at h2
    exact (Option.some.inj h2).symm
  exact va_runSU (As := As) (rest := rest) hat ⟨B.1, B.2.1, B.2.2.2.2.2.2.1, B.2.2.1, B.2.2.2.1⟩ hM cw ⟨ct_blind, hrecv, fun U hU hW => ⟨rfl, by rw [hU], B.2.2.2.2.2.2.2.2.go hS hA hU hW, by rw [hU]; exact hH⟩⟩ rfl hn hl rfl (lv_room hrest) hdg ⟨r5, r6⟩
end
/-- a new array of references: t its class's place -/
theorem ct_newq (B : cx p s m args meth c cc own nL ret nm E) (h : Hs E A s.heap ws H locs) (hAn : ∀ q, s.heap.size ≤ q → A q) (t : Nat) {C : String} {index : Nat} (ht : (ct_tys E)[t]? = some (E.2.1 t, .object C)) (hcl : Cond.classLink own index C ∈ lw_all) (hover : va_AO C s) {n : Nat} (hn : n < 2147483648) (hbytes : n * 4 ≤ 536870912) (hcells : cells + 1 ≤ R.cells) (hslots : slots + n ≤ R.slots) (hdg : decode cc pc = .ok (.anewarray index, 3))
    (kk : ∀ (q : Nat) (H : Heap), Hs E A s.heap (ws ++ [(q, .inl (E.2.1 t, n, .inr (.inr (.inr (.inr (fun _ => none))))))]) H locs → W p l e R s m args below meth c H locs (cells + 1) (slots + n) Q (F0 m (pc + 3) ls (.ref q :: rest))) : W p l e R s m args below meth c H locs cells slots Q (F0 m pc ls (.int (nI n) :: rest)) := by
  have hK := B.2.2.2.2.2.2.2.2.1
  refine va_newq B.1 B.2.1 B.2.2.1 (B.2.2.2.1 _ hcl) hover hK h.1 h.2.1 h.2.2 hAn (nI_pos (by omega)) (nI_clamp (by omega)) hbytes hcells hslots hdg (fun q cA H1 hK1 h1 h2 h3 => ?_)
  have hc : cA = E.2.1 t := by
    obtain ⟨k1, c1, a1, a2, a3, a4⟩ := (hK1.2 (ct_tys E).length _ (by rw [List.getElem?_append_right (Nat.le_refl _), Nat.sub_self]; rfl)).2
    obtain ⟨k2, c2, b1, b2, b3, b4⟩ := (hK.2 t _ ht).2
    exact Option.some.inj (a4.symm.trans b4)
  subst hc
  exact kk q H1 ⟨h1, h2, h3⟩
/-- an object of the claim's classes that can be cast to Object -/
def anyC (E : CE) (H : Heap) (y : Nat) : Prop := ∃ (cell : Cell) (ci : Nat), H[y]? = some cell ∧ cell.vm.isStatics = false ∧ cell.cls = E.1.1 ci ∧ (ci = 12 ∨ ci = 13)
theorem anyC.any (G : GK E s) {y : Nat} (h : anyC E H y) : va_Any "java/lang/Object" s H y := by
  obtain ⟨cell, ci, h1, h2, h3, h4⟩ := h
  rcases h4 with rfl | rfl
  · have hfc : s.vm.findClass "CommaTablesModel$Cell" = some (E.1.1 12) := (G.1.1 12 _ kX12.1).2.1
    obtain ⟨kC, hkC, -⟩ := Vm.findClass_spec hfc
    refine ⟨cell, h1, h2, ⟨kC, by rw [h3]; exact hkC⟩, fun comp hc => ?_⟩
    obtain ⟨c0, t0, f1, f2, f3⟩ := Cond.castable_spec (va_Nw.use (A := #[]) rfl (G.2.1 (.castable "CommaTablesModel$Cell" "java/lang/Object") (List.mem_of_getElem? (i := 10) rfl)))
    cases hfc.symm.trans f1
    cases hc.symm.trans f2
    rw [h3]; exact f3
  · have hfc : s.vm.findClass "java/lang/String" = some (E.1.1 13) := (G.1.1 13 _ kJ4.1).2.1
    obtain ⟨kC, hkC, -⟩ := Vm.findClass_spec hfc
    refine ⟨cell, h1, h2, ⟨kC, by rw [h3]; exact hkC⟩, fun comp hc => ?_⟩
    obtain ⟨c0, t0, f1, f2, f3⟩ := Cond.castable_spec (va_Nw.use (A := #[]) rfl (G.2.1 (.castable "java/lang/String" "java/lang/Object") (List.mem_of_getElem? (i := 9) rfl)))
    cases hfc.symm.trans f1
    cases hc.symm.trans f2
    rw [h3]; exact f3
theorem ct_aastM (B : cx p s m args meth c cc own nL ret nm E) (h : Hs E A s.heap ws H locs) (q0 : Nat) {n i v : Nat} {f : Nat → Option Nat} (ha : ws[q0]? = some (a, .inl (E.2.1 5, n, .inr (.inr (.inr (.inr f)))))) (hv : anyC E H v) (hi : i < n) (hn : n < 2147483648) (hw : ws.set q0 (a, .inl (E.2.1 5, n, .inr (.inr (.inr (.inr (va_up f i (some v))))))) = ws') (hdg : decode cc pc = .ok (.aastore, 1))
    (kk : ∀ (H : Heap) (locs : List Loc), Hs E A s.heap ws' H locs → W p l e R s m args below meth c H locs cells slots Q (F0 m (pc + 1) ls rest)) : W p l e R s m args below meth c H locs cells slots Q (F0 m pc ls (.ref v :: .int (nI i) :: .ref a :: rest)) :=
  va_astqM B.1 B.2.1 B.2.2.2.2.2.2.2.2.1 h.1 h.2.1 h.2.2 q0 5 ha rfl (hv.any B.2.2.2.2.2.2.2.2) (vp_in_nI hi (by omega)) hdg (fun H1 locs1 h1 h2 h3 => kk H1 locs1 (by subst hw; rw [ct_cl' hi hn] at h1 h2; exact ⟨h1, h2, h3⟩))
/-- System.arraycopy between rows of Objects, from 0 to 0 -/
theorem ct_copyM (B : cx p s m args meth c cc own nL ret nm E) (hl : ls.size = nL) (h : Hs E A s.heap ws H locs) {index : Nat} (hlink : Cond.methodLink own index arraycopyName ∈ lw_all) (hnat : Cond.native arraycopyName ∈ lw_all) (hstat : Cond.static arraycopyName ∈ lw_all) (hini : Cond.initialized "java/lang/System" ∈ lw_all) (q0 q1 : Nat) {a0 n0 n1 n : Nat} {f g : Nat → Option Nat} (ha0 : ws[q0]? = some (a0, .inl (E.2.1 5, n0, .inr (.inr (.inr (.inr f)))))) (ha1 : ws[q1]? = some (a, .inl (E.2.1 5, n1, .inr (.inr (.inr (.inr g))))))
    (hn0 : n ≤ n0) (hn1 : n ≤ n1) (hn : n < 2147483648) (hel : ∀ i : Nat, i < n → ∀ y : Nat, f i = some y → anyC E H y) (hw : ws.set q1 (a, .inl (E.2.1 5, n1, .inr (.inr (.inr (.inr (va_cpy f g 0 0 n)))))) = ws') (hf : 1 ≤ R.frames) (hlo : (rest.map fun v => v.category).sum + (nativeFrameWords "java/lang/System" "arraycopy" 5 + 11) ≤ R.locals) (hdg : decode cc pc = .ok (.invokestatic index, 3))
    (kk : ∀ (H : Heap) (locs : List Loc), Hs E A s.heap ws' H locs → W p l e R s m args below meth c H locs cells slots Q (F0 m (pc + 3) ls rest)) : W p l e R s m args below meth c H locs cells slots Q (F0 m pc ls (.int (nI n) :: .int (nI 0) :: .ref a :: .int (nI 0) :: .ref a0 :: rest)) := by
  have e0 : (nI 0).toNatClampNeg = 0 := nI_clamp (by omega)
  have en : (nI n).toNatClampNeg = n := nI_clamp (by omega)
  refine va_copyM B.1 B.2.1 (B.2.2.2.2.2.2.1.trans hl.symm) B.2.2.1 (B.2.2.2.1 _ hlink) (B.2.2.2.1 _ hnat) (B.2.2.2.1 _ hstat) (B.2.2.2.1 _ hini) B.2.2.2.2.2.2.2.2.1 h.1 h.2.1 h.2.2 q0 q1 5 5 ha0 ha1 rfl rfl (nI_pos (by omega)) (nI_pos (by omega)) (nI_pos (by omega)) (by rw [e0, en]; omega) (by rw [e0, en]; omega) (fun i hi y hy => ?_) hf hlo hdg (fun H1 locs1 h1 h2 h3 => kk H1 locs1 ?_)
  · rw [en] at hi
    rw [e0, Nat.zero_add] at hy
    exact (hel i hi y hy).any B.2.2.2.2.2.2.2.2
  · subst hw
    rw [e0, en] at h1 h2
    exact ⟨h1, h2, h3⟩
/-- the same between rows of bytes -/
theorem ct_copyB (B : cx p s m args meth c cc own nL ret nm E) (hl : ls.size = nL) (h : Hs E A s.heap ws H locs) {index : Nat} (hlink : Cond.methodLink own index arraycopyName ∈ lw_all) (hnat : Cond.native arraycopyName ∈ lw_all) (hstat : Cond.static arraycopyName ∈ lw_all) (hini : Cond.initialized "java/lang/System" ∈ lw_all) (q0 q1 : Nat) {a0 n0 n1 n : Nat} {f g : Nat → Int32} (ha0 : ws[q0]? = some (a0, .inl (E.2.1 0, n0, .inl f))) (ha1 : ws[q1]? = some (a, .inl (E.2.1 0, n1, .inl g)))
    (hn0 : n ≤ n0) (hn1 : n ≤ n1) (hn : n < 2147483648) (hfit : ∀ i : Nat, i < n → fits .byte (.int (f i)) = true) (hw : ws.set q1 (a, .inl (E.2.1 0, n1, .inl (va_cpy f g 0 0 n))) = ws') (hf : 1 ≤ R.frames) (hlo : (rest.map fun v => v.category).sum + (nativeFrameWords "java/lang/System" "arraycopy" 5 + 11) ≤ R.locals) (hdg : decode cc pc = .ok (.invokestatic index, 3))
    (kk : ∀ (H : Heap) (locs : List Loc), Hs E A s.heap ws' H locs → W p l e R s m args below meth c H locs cells slots Q (F0 m (pc + 3) ls rest)) : W p l e R s m args below meth c H locs cells slots Q (F0 m pc ls (.int (nI n) :: .int (nI 0) :: .ref a :: .int (nI 0) :: .ref a0 :: rest)) := by
  have e0 : (nI 0).toNatClampNeg = 0 := nI_clamp (by omega)
  have en : (nI n).toNatClampNeg = n := nI_clamp (by omega)
  refine va_copyi B.1 B.2.1 (B.2.2.2.2.2.2.1.trans hl.symm) B.2.2.1 (B.2.2.2.1 _ hlink) (B.2.2.2.1 _ hnat) (B.2.2.2.1 _ hstat) (B.2.2.2.1 _ hini) B.2.2.2.2.2.2.2.2.1 h.1 h.2.1 h.2.2 q0 q1 0 0 ha0 ha1 rfl rfl rfl (nI_pos (by omega)) (nI_pos (by omega)) (nI_pos (by omega)) (by rw [e0, en]; omega) (by rw [e0, en]; omega) (fun i hi => ?_) hf hlo hdg (fun H1 locs1 h1 h2 h3 => kk H1 locs1 ?_)
  · rw [en] at hi
    rw [e0, Nat.zero_add]
    exact hfit i hi
  · subst hw
    rw [e0, en] at h1 h2
    exact ⟨h1, h2, h3⟩
/-- bytes.clone() -/
theorem ct_cloneB (B : cx p s m args meth c cc own nL ret nm E) (hl : ls.size = nL) (h : Hs E A s.heap ws H locs) (hAn : ∀ q, s.heap.size ≤ q → A q) {index : Nat} (hlink : Cond.methodLink own index ⟨"[B", "clone", "()Ljava/lang/Object;"⟩ ∈ lw_all) (hsame : Cond.sameMethod "[B" "java/lang/Object" "clone" "()Ljava/lang/Object;" ∈ lw_all) (hnat : Cond.native ⟨"java/lang/Object", "clone", "()Ljava/lang/Object;"⟩ ∈ lw_all) (hinst : Cond.instanceMethod ⟨"java/lang/Object", "clone", "()Ljava/lang/Object;"⟩ ∈ lw_all) (hsel : Cond.selects "[B" ⟨"[B", "clone", "()Ljava/lang/Object;"⟩ ⟨"java/lang/Object", "clone", "()Ljava/lang/Object;"⟩ ∈ lw_all) (q0 : Nat) {n : Nat} {f : Nat → Int32} (ha : ws[q0]? = some (a, .inl (E.2.1 0, n, .inl f))) (hfit : ∀ i : Nat, i < n → fits .byte (.int (f i)) = true)
    (hf : 1 ≤ R.frames) (hlo : (rest.map fun v => v.category).sum + 14 ≤ R.locals) (hcells : cells + 1 ≤ R.cells) (hslots : slots + n ≤ R.slots) (hdg : decode cc pc = .ok (.invokevirtual index, 3))
    (kk : ∀ (q : Nat) (H : Heap), Hs E A s.heap (ws ++ [(q, .inl (E.2.1 0, n, .inl f))]) H locs → W p l e R s m args below meth c H locs (cells + 1) (slots + n) Q (F0 m (pc + 3) ls (.ref q :: rest))) : W p l e R s m args below meth c H locs cells slots Q (F0 m pc ls (.ref a :: rest)) :=
  va_clone B.1 B.2.1 (B.2.2.2.2.2.2.1.trans hl.symm) B.2.2.1 (B.2.2.2.1 _ hlink) (B.2.2.2.1 _ hsame) (B.2.2.2.1 _ hnat) (B.2.2.2.1 _ hinst) (B.2.2.2.1 _ hsel) (B.2.2.2.2.2.2.2.2.2.1 (.castable "[B" "java/lang/Cloneable") (List.mem_of_getElem? (i := 21) rfl)) B.2.2.2.2.2.2.2.2.1 h.1 h.2.1 h.2.2 hAn q0 0 ha rfl (B.2.2.2.2.2.2.2.2.1.2 0 _ rfl).2 (fun i v hv => by
    have hi : i < (vp_cell (E.2.1 0) (n, .inl f)).slots.size := (Array.getElem?_eq_some_iff.mp hv).1
    have hsz : (vp_cell (E.2.1 0) (n, .inl f)).slots.size = n := arrV_size _ _ _
    have e9 : (vp_cell (E.2.1 0) (n, .inl f)).slots[i]? = some (.int (f i)) := arrV_read _ _ (by omega)
    rw [e9] at hv
    cases hv
    exact hfit i (by omega)) hf hlo hcells hslots hdg (fun q H1 _ h1 h2 h3 => kk q H1 ⟨h1, h2, h3⟩)
/-- pools: a world in any order -/
theorem ct_sel {im L : va_W} (hP : va_P E.1 ct_cl im H) (h : ∀ x ∈ L, x ∈ im) : va_P E.1 ct_cl L H := fun k x hx => by
  obtain ⟨j, hj⟩ := List.getElem?_of_mem (h x (List.mem_of_getElem? hx))
  exact hP j x hj
theorem ct_part {X cx9 im : va_W} (h : Hs E A s.heap (X ++ im) H locs) (is : List Nat) (hn : va_nd is = true) (hs : is.map (fun i => X[i]?) = cx9.map some) : Hs E A s.heap (cx9 ++ im) H locs := ⟨h.1.part is hs, h.2.1.part is hn hs, h.2.2⟩
theorem anyC.of {im : va_W} {y ci : Nat} {vs : List Value} (G : GK E s) (hP : va_P E.1 ct_cl im H) (h : (y, .inr (ci, vs)) ∈ im) (hc : ci = 12 ∨ ci = 13) : anyC E H y := by
  obtain ⟨j, hj⟩ := List.getElem?_of_mem h
  rcases hc with rfl | rfl
  · obtain ⟨cell, h1, h2, h3⟩ := va_recv G.1 hP kX12.1 hj
    exact ⟨cell, 12, h1, h2, Option.some.inj (h3.symm.trans (G.1.1 12 _ kX12.1).2.1), Or.inl rfl⟩
  · obtain ⟨cell, h1, h2, h3⟩ := va_recv G.1 hP kJ4.1 hj
    exact ⟨cell, 13, h1, h2, Option.some.inj (h3.symm.trans (G.1.1 13 _ kJ4.1).2.1), Or.inr rfl⟩
theorem ct_part0 {X cx9 : va_W} (h : Hs E A s.heap X H locs) (is : List Nat) (hn : va_nd is = true) (hs : is.map (fun i => X[i]?) = cx9.map some) : Hs E A s.heap cx9 H locs := by
  have h1 : Hs E A s.heap (X ++ []) H locs := by rw [List.append_nil]; exact h
  have h2 := ct_part h1 is hn hs
  rw [List.append_nil] at h2
  exact h2
theorem ct_partM {X cx9 M im : va_W} (h : Hs E A s.heap ((X ++ M) ++ im) H locs) (is : List Nat) (hn : va_nd is = true) (hs : is.map (fun i => X[i]?) = cx9.map some) : Hs E A s.heap ((cx9 ++ M) ++ im) H locs := by
  rw [List.append_assoc] at h ⊢
  exact ct_part h is hn hs
theorem ct_frN {X C C' Y : va_W} {H1 : Heap} {locs1 : List Loc} (h : Hs E A s.heap ((X ++ C) ++ Y) H locs) (hP1 : va_P E.1 ct_cl C' H1) (hD1 : va_D (va_A C H.size) C') (hk : ∀ q : Nat, q < H.size → ¬ va_A C H.size q → H1[q]? = H[q]?) (hS : va_S A s.heap H1 locs1) (hAn : ∀ q, s.heap.size ≤ q → A q) : Hs E A s.heap ((X ++ C') ++ Y) H1 locs1 := by
  rw [List.append_assoc] at h ⊢
  exact ct_frM h hP1 hD1 hk hS hAn
theorem ct_subN {X C Y : va_W} (h : Hs E A s.heap ((X ++ C) ++ Y) H locs) (hAn : ∀ q, s.heap.size ≤ q → A q) : ∀ q, va_A C H.size q → A q := ct_subR (ct_Hl h) hAn
theorem n_idiv (hx : p.tables.exec = Jvm.exec) (hb : c.code = cc) {i j : Nat} (hi : i < 2147483648) (hp : 0 < j) (hj : j < 2147483648) (hdg : decode cc pc = .ok (.idiv, 1))
    (k : W p l e R s m args below meth c H locs cells slots Q (F0 m (pc + 1) ls (.int (nI (i / j)) :: rest))) : W p l e R s m args below meth c H locs cells slots Q (F0 m pc ls (.int (nI j) :: .int (nI i) :: rest)) :=
  lv_idiv hx hb hdg (nI_ne0 hp hj) (by rw [pk_div hi hp hj]; exact k)
theorem ct_arrQ (B : cx p s m args meth c cc own nL ret nm E) (hP : va_P E.1 ct_cl ws H) (q0 : Nat) {x : vp_A} (ha : ws[q0]? = some (a, .inl (E.2.1 5, x))) : ∃ cell : Cell, H[a]? = some cell ∧ cell.vm.isStatics = false ∧ s.vm.findClass "[Ljava/lang/Object;" = some cell.cls := by
  obtain ⟨k2, c2, b1, b2, b3, b4⟩ := (B.2.2.2.2.2.2.2.2.1.2 5 _ rfl).2
  refine ⟨_, hP q0 _ ha, ?_, ?_⟩
  · obtain ⟨n, f | f | f | f | f⟩ := x <;> rfl
  · have e1 : (vp_cell (E.2.1 5) x).cls = E.2.1 5 := by obtain ⟨n, f | f | f | f | f⟩ := x <;> rfl
    show _ = some (vp_cell (E.2.1 5) x).cls
    rw [e1]
    exact b4
theorem n_if_gt (hx : p.tables.exec = Jvm.exec) (hb : c.code = cc) {i : Nat} {off : Int} {tgt : Nat} (hdg : decode cc pc = .ok (.ifCond .gt off, 3)) (ht : (pc : Int) + off = (tgt : Int)) (hi : i < 2147483648)
    (kt : 0 < i → W p l e R s m args below meth c H locs cells slots Q (F0 m tgt ls rest)) (kf : i = 0 → W p l e R s m args below meth c H locs cells slots Q (F0 m (pc + 3) ls rest)) : W p l e R s m args below meth c H locs cells slots Q (F0 m pc ls (.int (nI i) :: rest)) :=
  lv_if_gt hx hb hdg ht (fun h => kt (by rcases Nat.eq_zero_or_pos i with q | q; exact absurd h (by rw [q, nI_0]; decide); exact q)) (fun h => kf (by rcases Nat.eq_zero_or_pos i with q | q; exact q; exact absurd (by rw [← nI_0]; exact nI_lt q (by omega)) h))
/-- a field that is named through a subclass -/
theorem ct_getS (B : cx p s m args meth c cc own nL ret nm E) (hP : va_P E.1 ct_cl ws H) {ci : Nat} {C ref : String} {T : u_T} {N index : Nat} {ty : Nat → FieldType} (K : ct_C ci C T N ty) (q0 : Nat) {fs : List Value} (he : ws[q0]? = some (a, .inr (ci, fs))) (k : Nat) (hk : k < N) (hl : Cond.fieldLink own index ref (T k).2.1 (T k).2.2.1 ∈ lw_all) (hsf : Cond.sameField ref (T k).1 (T k).2.1 (T k).2.2.1 ∈ lw_all) {v : Value} (hv : fs[k]? = some v) (hdg : decode cc pc = .ok (.getfield index, 3))
    (kk : W p l e R s m args below meth c H locs cells slots Q (F0 m (pc + 3) ls (v :: rest))) : W p l e R s m args below meth c H locs cells slots Q (F0 m pc ls (.ref a :: rest)) :=
  va_get B.1 B.2.1 B.2.2.2.1 K.2.1 B.2.2.1 B.2.2.2.2.2.2.2.2.1 hP q0 he K.1 k hk (B.2.2.2.1 _ hl) (u_same (B.2.2.2.1 _ hsf)) hv hdg kk
theorem ct_putS (B : cx p s m args meth c cc own nL ret nm E) (h : Hs E A s.heap ws H locs) {ci : Nat} {C ref : String} {T : u_T} {N index : Nat} {ty : Nat → FieldType} (K : ct_C ci C T N ty) (q0 : Nat) {fs : List Value} (he : ws[q0]? = some (a, .inr (ci, fs))) (k : Nat) (hk : k < N) (hl : Cond.fieldLink own index ref (T k).2.1 (T k).2.2.1 ∈ lw_all) (hsf : Cond.sameField ref (T k).1 (T k).2.1 (T k).2.2.1 ∈ lw_all) (hfin : (T k).2.2.2 = false) {v : Value} (hn : narrow (ty k) v = v) (hfit : fits (ty k) v = true) (hlen : k < fs.length) (hw : ws.set q0 (a, .inr (ci, fs.set k v)) = ws')
    (hdg : decode cc pc = .ok (.putfield index, 3)) (kk : ∀ (H : Heap) (locs : List Loc), Hs E A s.heap ws' H locs → W p l e R s m args below meth c H locs cells slots Q (F0 m (pc + 3) ls rest)) : W p l e R s m args below meth c H locs cells slots Q (F0 m pc ls (v :: .ref a :: rest)) :=
  va_put B.1 B.2.1 B.2.2.2.1 K.2.1 ty K.2.2.1 K.2.2.2 B.2.2.1 B.2.2.2.2.2.2.2.2.1 h.1 h.2.1 h.2.2 q0 he K.1 k hk (B.2.2.2.1 _ hl) (u_same (B.2.2.2.1 _ hsf)) hfin (K.2.2.1 k hk) hn hfit hlen hdg (fun H1 locs1 h1 h2 h3 => kk H1 locs1 (by subst hw; exact ⟨h1, h2, h3⟩))
end
