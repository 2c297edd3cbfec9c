/-! BASE 12: the exception that the component keeps, as a cell of its world -/
set_option maxRecDepth 100000
section
variable {p : Program} {l : Launch} {e : Env} {R : Room} {s : State} {m : MethodId} {args : Array Value} {below : List Frame} {meth : Method} {c : Code} {H : Heap} {locs : List Loc} {cells slots : Nat} {Q : State → Prop}
variable {cc : ByteArray} {pc : Nat} {ls : Array Slot} {rest : List Value} {E : CE} {own nm : String} {nL : Nat} {ret : Option FieldType} {ws ws' : va_W} {A : Nat → Prop} {a : Nat}
set_option maxHeartbeats 2000000 in
/-- new IllegalStateException(): new, dup, <init>; its cell goes into the world -/
theorem ct_newex2 (B : cx p s m args meth c cc own nL ret nm E) (htr : l.stackTraces = false) (h : Hs E A s.heap ws H locs) (hA : ∀ q, A q → E.2.2.1 ≤ q) (hAn : ∀ q, s.heap.size ≤ q → A q) {index ic : Nat} (hcl : Cond.classLink own index "java/lang/IllegalStateException" ∈ lw_all) (hlk : Cond.methodLink own ic (Bundle.init0 "java/lang/IllegalStateException") ∈ lw_all)
    (hsz : ls.size = nL) (hf : 6 ≤ R.frames) (hlo : (rest.map fun v => v.category).sum + 90 ≤ R.locals) (hcells : cells + 1 ≤ R.cells) (hslots : slots + 6 ≤ R.slots) (hd1 : decode cc pc = .ok (.new index, 3)) (hd2 : decode cc (pc + 3) = .ok (.dup, 1)) (hd3 : decode cc (pc + 4) = .ok (.invokespecial ic, 3))
    (kk : ∀ (x : Nat) (fs : List Value) (H1 : Heap) (locs1 : List Loc), Hs E A s.heap (ws ++ [(x, .inr (16, fs))]) H1 locs1 → s.heap.size ≤ x → W p l e R s m args below meth c H1 locs1 (cells + 1) (slots + 6) Q (F0 m (pc + 7) ls (.ref x :: rest))) : W p l e R s m args below meth c H locs cells slots Q (F0 m pc ls rest) := by
  have hw := B.2.2.2.1
  have G := B.2.2.2.2.2.2.2.2
  have hfoundX : s.vm.findClass "java/lang/IllegalStateException" = some (E.1.1 16) := (G.1.1 16 _ kJ3.1).2.1
  refine W.newcK B.1 B.2.1 B.2.2.1 (hw _ hcl) (hw _ q96) (hw _ q49) rfl hd1 hcells hslots hfoundX rfl fun H1 kX hkX e1 z1 o1 => ?_
  have hborn := u_born tyJ3 hw kJ3.2.1 (G.1.1 16 _ kJ3.1) hkX e1 kJ3.2.2.1
  refine lv_dup B.1 B.2.1 hd2 rfl ?_
  intro T hT X
  have howns : e.platform.frameOwnsMonitors = true := by rw [X.admits.platform]
  have hfin : e.platform.finalization = false := by rw [X.admits.platform]
  have hpl : e.platform.magicAccessors = ({} : Platform).magicAccessors := by rw [X.admits.platform]
  have htr2 : e.platform.stackTraces = false := by rw [X.admits.platform]; exact htr
  obtain ⟨T9, Z, L, LZ, Y⟩ := ThrowableC.of_atoms (args := args) howns hfin hpl (ct_thAtoms hw G)
  obtain ⟨P1, Ps, hlen, L1, hL, hP1m, hlink1, hlink⟩ := Bundle.chain0 (args := args) hpl Y.init0 ["java/lang/RuntimeException", "java/lang/Exception"] "java/lang/IllegalStateException" (by decide) (by decide) (ct_thChain hw G)
  have hfound : s.vm.findClass "java/lang/IllegalStateException" = some P1.m.cls := findClass_of_methodNamed hP1m
  have ecls : E.1.1 16 = P1.m.cls := Option.some.inj (hfoundX.symm.trans hfound)
  obtain ⟨c1, kX', hc1, hk, hord, -, -, hn6⟩ := Cond.instantiable_spec (hw _ q96)
  cases Option.some.inj (hc1.symm.trans hfound)
  have ekX : kX = kX' := Option.some.inj (hkX.symm.trans (by rw [ecls]; exact hk))
  subst ekX
  have hcell : T.heap[H.size]? = some (freshCell P1.m.cls kX) := by rw [hT, ← ecls]; exact e1
  have hsel0 : selectMethod e.platform s.vm P1.m.cls T9.fill0 = .method T9.fill0 := by
    obtain ⟨c2, r2, m2, q1, q2, q3, q4, -⟩ := Cond.selects_spec (hw _ q104)
    cases Option.some.inj (q1.symm.trans hfound)
    cases Option.some.inj (q2.symm.trans (State.methodFound?_of_named Y.fill0 (by decide)))
    cases Option.some.inj (q3.symm.trans Y.fill0)
    rw [Launch.admits_selectMethod X.admits]; exact q4
  have hselF : selectMethod e.platform s.vm P1.m.cls T9.fill = .method T9.fill := by
    obtain ⟨c2, r2, m2, q1, q2, q3, q4, -⟩ := Cond.selects_spec (hw _ q105)
    cases Option.some.inj (q1.symm.trans hfound)
    cases Option.some.inj (q2.symm.trans (State.methodFound?_of_named Y.fill (by decide)))
    cases Option.some.inj (q3.symm.trans Y.fill)
    rw [Launch.admits_selectMethod X.admits]; exact q4
  obtain ⟨cellS0, hcS0, hiss⟩ := Y.statics
  obtain ⟨u0, hu0⟩ := Cond.staticRefV Y.unassigned L.unassignedStatic L.statics hcS0 hiss (G.2.2.2.1.2.2.2.1.isRef (args := args))
  obtain ⟨sen, hsen⟩ := Cond.staticRefV Y.sentinel L.sentinelStatic L.statics hcS0 hiss (G.2.2.2.1.2.2.2.2.1.isRef (args := args))
  obtain ⟨ci198, i198, fB, hk198, hg198, ha198, hsB, -, hnB, htB, hffB⟩ := Cond.ownField (t := .object "java/lang/Object") Y.found L.cls (by decide +kernel) (hw _ q144) (hw _ q115) e.platform hpl
  have hnA : ¬ A T9.aS := by
    obtain ⟨c0, k0, i0, f0, a0, cell0, v0, z1, z2, z3, z4, z5, z6, z7, z8, z9, z10, z11⟩ := G.2.2.2.1.2.2.2.1
    cases z2.symm.trans Y.unassigned
    cases z4.symm.trans L.statics
    exact fun q => z11 (hA _ q)
  have hltS : T9.aS < s.heap.size := (Array.getElem?_eq_some_iff.mp hcS0).1
  have hcellS : T.heap[T9.aS]? = some cellS0 := by
    rw [hT, o1 _ (Nat.lt_of_lt_of_le hltS h.2.2.1), h.2.2.2.1 _ hltS hnA]; exact hcS0
  have hknownS : cellS0.vm ≠ .unknown := by
    intro hu
    rw [hu] at hiss
    cases hiss
  have hneS : T9.aS ≠ H.size := Nat.ne_of_lt (Nat.lt_of_lt_of_le hltS h.2.2.1)
  obtain ⟨tyC, dC, hdC, hdnC⟩ := Cond.laysAt hfound hk Y.cause (hw _ q106)
  obtain ⟨tyS, dS, hdS, hdnS⟩ := Cond.laysAt hfound hk Y.stack (hw _ q108)
  obtain ⟨tyP, dP, hdP, hdnP⟩ := Cond.laysAt hfound hk Y.supp (hw _ q110)
  obtain ⟨tyB, dB, hdB, hdnB⟩ := Cond.laysAt hfound hk hffB (hw _ q114)
  have bC := Cond.laysApart hdB hdC hdnB hdnC (by rw [hnB, Y.causeName]; decide)
  have bS := Cond.laysApart hdB hdS hdnB hdnS (by rw [hnB, Y.stackName]; decide)
  have bP := Cond.laysApart hdB hdP hdnB hdnP (by rw [hnB, Y.suppName]; decide)
  have hskip : SkipFacts T9 e.platform s (fun u => u) u0 ((preparedCellV T9.toThrowableT (freshCell P1.m.cls kX) H.size u0 sen).withEntry T.cur) :=
    ⟨{ ci198 := ci198, i198 := i198, fBack := fB }, ⟨hk198, hg198, ha198, hsB⟩, by
      have := fresh_default (c := P1.m.cls) tyB
      rw [htB] at this
      simpa [preparedCellV, Cell.setSlot, Cell.withEntry, Array.getElem?_setIfInBounds, bC, bS, bP, bC.symm, bS.symm, bP.symm, defaultValue] using this, fun _ _ => rfl⟩
  obtain ⟨tm, methC, cdC, kC, vm₁, hnC, -, -, -, -, -, -, -, hW₁, st1⟩ := Steps.initCold (tb := p.tables) (e := e) (below := below) (s := s) (U := T) X.here B.1 X.warmed hpl B.2.2.1 (t := Bundle.init0 "java/lang/IllegalStateException") rfl rfl (by decide)
    (hw _ hlk) (hw _ q135) (bytes := Bundle.five) (maxL := 1) (hw _ q136)
    (f := F0 m (pc + 4) ls (.ref H.size :: .ref H.size :: rest)) rfl (a := H.size) (rest := .ref H.size :: rest) rfl (by rw [B.2.1]; exact hd3)
  cases Option.some.inj (hnC.symm.trans hP1m)
  have X₁ := X.noted hW₁
  obtain ⟨vm₂, X₂, st2⟩ := X₁.ctorPlainOffV B.1 (g := F0 m (pc + 4) ls (.ref H.size :: rest)) rfl (hsz.trans B.2.2.2.2.2.2.1.symm) T9 L Z LZ (P1 :: Ps)
    (fun P hP => by rcases List.mem_cons.mp hP with rfl | hP; exact L1; exact hL P hP) ⟨hlink1, hlink⟩ (u0 := u0) (sen := sen) (self := H.size) (cell := freshCell P1.m.cls kX) (cellS := cellS0)
    hcell (fun _ => by simp) (by simp) rfl rfl hsel0 hselF hcellS hneS hknownS hu0 hsen
    (Takes.of_laid hk hord tyC (by rw [Y.causeType]; rfl)) (Takes.of_laid hk hord tyS (by rw [Y.stackType]; exact fits_refV_array _ u0)) (Takes.of_laid hk hord tyP (by rw [Y.suppType]; exact fits_refV_object _ sen)) Y.objLocals hskip htr2 [] (by rw [B.2.1]; exact hd3)
    (by simp only [List.length_cons, hlen]; show 2 + 1 + 2 < _; omega) (by simp only [List.length_cons, hlen]; show 2 * 0 + (1 + (rest.map fun v => v.category).sum) + (13 * (2 + 1) + 41) ≤ _; omega)
  have hlt : H.size < ((T.setVm vm₁).setVm vm₂).heap.size := (Array.getElem?_eq_some_iff.mp hcell).1
  have hU := heapAt_setCell_self (s := (T.setVm vm₁).setVm vm₂) ((preparedCellV T9.toThrowableT (freshCell P1.m.cls kX) H.size u0 sen).setSlot T9.fStack.slot u0.v) hlt
  have hO : ∀ q : Nat, q ≠ H.size → ((((T.setVm vm₁).setVm vm₂).setCell H.size ((preparedCellV T9.toThrowableT (freshCell P1.m.cls kX) H.size u0 sen).setSlot T9.fStack.slot u0.v))).heap[q]? = H1[q]? := fun q hq => by
    rw [heapAt_setCell_ne _ (Ne.symm hq)]; show T.heap[q]? = _; rw [hT]
  have hZ : (((T.setVm vm₁).setVm vm₂).setCell H.size ((preparedCellV T9.toThrowableT (freshCell P1.m.cls kX) H.size u0 sen).setSlot T9.fStack.slot u0.v)).heap.size = H.size + 1 := by
    rw [← z1, ← hT]
    simp [State.setCell, State.setVm]
  have hsl : ∀ k, k < 6 → E.1.2 16 k < ((preparedCellV T9.toThrowableT (freshCell P1.m.cls kX) H.size u0 sen).setSlot T9.fStack.slot u0.v).slots.size := fun k hk => by
    obtain ⟨cell0, g1, g2, g3, g4⟩ := hborn
    cases g1.symm.trans e1
    have g5 := (Array.getElem?_eq_some_iff.mp (g4 k hk)).1
    simpa [preparedCellV, Cell.setSlot, freshCell, blank] using g5
  obtain ⟨cN, hcN⟩ : ∃ cN : Cell, cN = (preparedCellV T9.toThrowableT (freshCell P1.m.cls kX) H.size u0 sen).setSlot T9.fStack.slot u0.v := ⟨_, rfl⟩
  have hvm0 : cN.vm = .none := by rw [hcN]; rfl
  have hcl0 : cN.cls = P1.m.cls := by rw [hcN]; rfl
  rw [← hcN] at hsl
  have hat : va_at E.1 ct_cl (H.size, .inr (16, (List.range 6).map (fun k => cN.slots.getD (E.1.2 16 k) .null))) (((T.setVm vm₁).setVm vm₂).setCell H.size ((preparedCellV T9.toThrowableT (freshCell P1.m.cls kX) H.size u0 sen).setSlot T9.fStack.slot u0.v)).heap :=
    ⟨_, kJ3.1, cN, by rw [hcN]; exact hU, hcl0.trans ecls.symm, hvm0, fun k hk => by
      have hk : k < 6 := hk
      have e9 : vp_V ((List.range 6).map (fun k => cN.slots.getD (E.1.2 16 k) .null)) k = cN.slots.getD (E.1.2 16 k) .null := by
        unfold vp_V
        rw [List.getD_eq_getElem?_getD, List.getElem?_map, List.getElem?_range hk]
        rfl
      rw [e9, Array.getD_eq_getD_getElem?, Array.getElem?_eq_getElem (hsl k hk)]
      rfl⟩
  have hN9 : ∀ (k : Nat) (x : Nat × va_E), ws[k]? = some x → x.1 < H.size := fun k x hx => (h.1 k x hx).lt
  obtain ⟨t, a1, b1⟩ := kk H.size _ _ _ ⟨(h.1.kept (fun k x hx => by rw [hO _ (Nat.ne_of_lt ((h.1 k x hx).lt))]; exact o1 _ ((h.1 k x hx).lt))).app (fun k x hx => by
      have hz : k < 1 := (List.getElem?_eq_some_iff.mp hx).1
      rw [show k = 0 by omega] at hx
      cases hx
      exact hat), h.2.1.push h.1 rfl (hAn _ h.2.2.1), ⟨by rw [hZ]; have := h.2.2.1; omega, fun q h1 h2 => by rw [hO _ (Nat.ne_of_lt (Nat.lt_of_lt_of_le h1 h.2.2.1)), o1 _ (Nat.lt_of_lt_of_le h1 h.2.2.1)]; exact h.2.2.2.1 q h1 h2, fun y hy => by
      rcases List.mem_append.mp hy with h1 | h1
      · exact h.2.2.2.2 y h1
      · have hb : y.base = H.size := by
          simp only [List.mem_cons, List.not_mem_nil, or_false] at h1
          rcases h1 with rfl | rfl | rfl | rfl <;> rfl
        rw [hb]
        exact hAn _ h.2.2.1⟩⟩ h.2.2.1 _ rfl X₂
  exact ⟨t, st1 _ (fun acts => by rw [doInvoke_state]; exact st2 _ a1), b1⟩
end
