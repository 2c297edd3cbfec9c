/-! BASE 8: what is thrown is caught -/
set_option maxRecDepth 100000
/-- an IllegalStateException -/
def exC (E : CE) (H : Heap) (x : Nat) : Prop := ∃ cell : Cell, H[x]? = some cell ∧ cell.vm.isStatics = false ∧ cell.cls = E.1.1 16
theorem exC.kept {E : CE} {H H1 : Heap} {x : Nat} (h : exC E H x) (hq : H1[x]? = H[x]?) : exC E H1 x := by
  obtain ⟨cell, h1, h2⟩ := h
  exact ⟨cell, by rw [hq]; exact h1, h2⟩
theorem ct_fhC {E : CtlPost} {e : Env} {d : Bool} {acts : List Action} {s : State} {f : JFrame} {a : Addr} {Q : Handler → Pre} {x : ExceptionTableEntry} {t : List ExceptionTableEntry} {c : ClassId} {cell : Cell} {vm' : Vm} (hx : covers x f.pc = true) (h0 : x.catchType ≠ 0)
    (hg : (Jvm.resolveClass f.method.cls x.catchType).Gives e.toSetting s.vm (.ok c) vm') (hsz : vm'.classes.size ≤ s.vm.classes.size) (hcell : s.heap[a]? = some cell) (hobj : ∀ k, cell.vm ≠ .statics k)
    (hk : ∃ k, vm'.classes[cell.cls]? = some k) (hc : ∃ k, vm'.classes[c]? = some k) (hfit : vm'.assignable cell.cls c = true) :
    wp (findHandler.go f a (x :: t)) Q E e d acts s ↔ Q (.found x.handlerPc) d acts (s.setVm vm') := by
  simp only [covers] at hx
  obtain ⟨ha, ht⟩ := hg.op (op := VmOp.resolveClass f.method.cls x.catchType) rfl
  simp [findHandler.go, hx, h0, ha, ht, hsz, hcell, hobj, hk, hc, hfit, VmOp.dirties, VmOp.acts]
theorem ct_stepC {e : Env} {s s' : State} {a : Addr} {f : JFrame} {r : List Frame} {pc : Nat} (hfind : ∀ (Q : Handler → Pre) (E : CtlPost) (d : Bool) (acts : List Action), wp (findHandler f a) Q E e d acts s ↔ Q (.found pc) d acts s') :
    (stepThrowing e s a (.java f :: r)).Is (s'.setFrames (.java { f with pc := pc, stack := [.ref a] } :: r)) [] := by
  simp only [stepThrowing, searchFrame, vmDo]
  generalize hr : Sem.go _ e false [] s = res
  obtain ⟨as, rfl, ha⟩ := Sem.eq_ok_of hr (a := Handler.found pc) (s' := s') (acts' := []) (by simp [hfind _ _ _ _])
  exact ⟨rfl, ha⟩
theorem ct_caught {tb : Jvm.Tables} {e : Env} {s target : State} {g : JFrame} {c : Code} {below : List Frame} {a : Addr} {vm' : Vm} (h : At s g.method c below) {pc : Nat} (hfind : ∀ (Q : Handler → Pre) (E : CtlPost) (d : Bool) (acts : List Action), wp (findHandler g a) Q E e d acts ((s.setTop g).pushFrame (.throwing a)) ↔ Q (.found pc) d acts (((s.setTop g).pushFrame (.throwing a)).setVm vm'))
    (hrest : Steps tb e below ((s.setVm vm').setTop { g with pc := pc, stack := [.ref a] }) target) :
    Steps tb e below ((s.setTop g).pushFrame (.throwing a)) target := by
  obtain ⟨hgo, hw⟩ := h.throwing a
  refine Steps.head hgo hw ?_
  rw [stepThread_throwing (frames_entered h.top _), (ct_stepC (s := (s.setTop g).pushFrame (.throwing a)) hfind).1]
  obtain ⟨g₀, hg⟩ := Option.isSome_iff_exists.mp h.top
  obtain ⟨r, hr⟩ := State.topJava?_eq_some.mp hg
  have hr' : (s.setVm vm').frames = .java g₀ :: r := hr
  rw [State.setTop_of_frames _ hr'] at hrest
  have e1 : (((s.setTop g).pushFrame (.throwing a)).setVm vm').setFrames (.java { g with pc := pc, stack := [.ref a] } :: s.frames.tail) = (s.setVm vm').setFrames (.java { g with pc := pc, stack := [.ref a] } :: r) := by
    rw [State.pushFrame, State.setTop_of_frames _ hr, State.setFrames_setFrames, hr]
    show ((s.setVm vm').setFrames _).setFrames _ = _
    rw [State.setFrames_setFrames]
    rfl
  rw [e1]
  exact hrest
section
variable {p : Program} {l : Launch} {e : Env} {R : Room} {s : State} {m : MethodId} {args : Array Value} {below : List Frame} {meth : Method} {c : Code} {H : Heap} {locs : List Loc} {cells slots : Nat} {Q : State → Prop}
variable {cc : ByteArray} {pc : Nat} {ls : Array Slot} {rest : List Value} {E : CE} {own nm : String} {nL : Nat} {ret : Option FieldType} {ws ws' : va_W} {A : Nat → Prop} {a : Nat}
/-- the first step of a handler -/
theorem ct_into {T : State} {h1 h2 hpc ct : Nat} {x : Addr} (B : cx p s m args meth c cc own nL ret nm E) (htab : c.exceptionTable.toList.map (fun h => (h.startPc, h.endPc, h.handlerPc, h.catchType)) = [(h1, h2, hpc, ct)]) (hin : h1 ≤ pc ∧ pc < h2) (hct : ct ≠ 0) (hlk : Cond.classLink own ct "java/lang/IllegalStateException" ∈ lw_all)
    (X : Stand p l e R s m args below meth c T locs cells slots) (hex : exC E T.heap x) :
    ∃ vm', Stand p l e R s m args below meth c (T.setVm vm') locs cells slots ∧ ∀ target, Steps p.tables e below ((T.setVm vm').setTop (F0 m hpc ls [.ref x])) target → Steps p.tables e below ((T.setTop (F0 m pc ls rest)).pushFrame (.throwing x)) target := by
  obtain ⟨cell, hcell, hobj, hcls⟩ := hex
  have hfc : s.vm.findClass "java/lang/IllegalStateException" = some (E.1.1 16) := (B.2.2.2.2.2.2.2.2.1.1 16 _ kJ3.1).2.1
  have hpl : e.platform.magicAccessors = ({} : Platform).magicAccessors := by rw [X.admits.platform]
  obtain ⟨c', hc', hcl⟩ := Cond.classLink_spec B.2.2.1 (B.2.2.2.1 _ hlk) e.platform hpl
  cases hfc.symm.trans hc'
  obtain ⟨c0, t0, f1, f2, f3⟩ := Cond.castable_spec (va_Nw.use (A := args) rfl (B.2.2.2.2.2.2.2.2.2.1 (.castable "java/lang/IllegalStateException" "java/lang/IllegalStateException") (List.mem_of_getElem? (i := 8) rfl)))
  cases hfc.symm.trans f1
  cases hfc.symm.trans f2
  obtain ⟨dk, _, _, kt, hd, _, _, _, _, hkt, _, hopen⟩ := hcl.here
  have hcl₀ := X.warmed.classLinks hcl
  have hW' : s.WarmedH (T.vm.noted m.cls ct (.cls (E.1.1 16))) := X.warmed.noted hd hopen (State.rightAt_cls hcl)
  obtain ⟨kt', hkt', -⟩ := hW'.alike.2.2 _ _ hkt
  refine ⟨_, X.noted hW', fun target hrest => ?_⟩
  obtain ⟨en, hen, e1⟩ : ∃ en, c.exceptionTable.toList = [en] ∧ (en.startPc, en.endPc, en.handlerPc, en.catchType) = (h1, h2, hpc, ct) := by
    cases hl : c.exceptionTable.toList with
    | nil => rw [hl] at htab; cases htab
    | cons en t =>
      rw [hl] at htab
      cases t with
      | nil => exact ⟨en, rfl, by simpa using htab⟩
      | cons _ _ => simp at htab
  obtain ⟨es, ee, eh, ek⟩ := en
  simp only [Prod.mk.injEq] at e1
  obtain ⟨rfl, rfl, rfl, rfl⟩ := e1
  refine ct_caught (vm' := T.vm.noted m.cls ek (.cls (E.1.1 16))) (g := F0 m pc ls rest) (pc := eh) X.here (fun Q9 E9 d9 acts9 => ?_) hrest
  rw [W.findHandler_eq (meth := meth) (code := c) (by rw [Stand.throwing_vm]; exact X.method') X.code, hen]
  refine ct_fhC (c := E.1.1 16) (cell := cell) (by simp [covers, hin.1, hin.2]) hct ?_ ?_ (by rw [Stand.throwing_heap]; exact hcell) (VmData.noStatics_of hobj) ?_ ⟨kt', hkt'⟩ ?_
  · rw [Stand.throwing_vm]; exact resolveClass_links e.toSetting hcl₀
  · rw [Stand.throwing_vm]; simp
  · rw [hcls]; exact ⟨kt', hkt'⟩
  · rw [hcls, hW'.alike.assignable]; exact f3
theorem ct_callC {post : Option Value → Heap → Prop} {thr : Nat → Heap → Prop} {a9 : Array Value} {st0 : List Value} {A1 free : Nat → Prop} {mc ms h1 h2 hpc ct : Nat} (B : cx p s m args meth c cc own nL ret nm E) (htab : c.exceptionTable.toList.map (fun h => (h.startPc, h.endPc, h.handlerPc, h.catchType)) = [(h1, h2, hpc, ct)]) (hin : h1 ≤ pc ∧ pc < h2) (hct : ct ≠ 0) (hlk : Cond.classLink own ct "java/lang/IllegalStateException" ∈ lw_all)
    (hr : RunX p l e R s m args below meth c H locs cells slots mc ms (F0 m pc ls st0) rest (ctX post thr A1 a9) free) (hS : va_S A s.heap H locs) (hA : ∀ q, A1 q → A q) (hf : ∀ q, free q → A q)
    (kt : ∀ (x : Nat) (H1 : Heap) (locs1 : List Loc), thr x H1 → H.size ≤ H1.size → (∀ q : Nat, q < H.size → ¬ A1 q → H1[q]? = H[q]?) → va_S A s.heap H1 locs1 → exC E H1 x ∧ W p l e R s m args below meth c H1 locs1 (cells + mc) (slots + ms) Q (F0 m hpc ls [.ref x]))
    (kk : ∀ (v : Option Value) (H1 : Heap) (locs1 : List Loc), post v H1 → H.size ≤ H1.size → (∀ q : Nat, q < H.size → ¬ A1 q → H1[q]? = H[q]?) → va_S A s.heap H1 locs1 → W p l e R s m args below meth c H1 locs1 (cells + mc) (slots + ms) Q (F0 m (pc + 3) ls (v.toList ++ rest))) : W p l e R s m args below meth c H locs cells slots Q (F0 m pc ls st0) := by
  intro T hT X
  obtain ⟨o, st₀, t, T', L, h0, X', hL, e1, ⟨hq, hz, hk⟩, st1, st2⟩ := hr T hT X
  rw [h0] at hz hk
  have hS1 : va_S A s.heap T'.heap (locs ++ L) := ⟨Nat.le_trans hS.1 (by rw [e1]; exact hz), fun q h1 h2 => by rw [e1, hk q (Nat.lt_of_lt_of_le h1 hS.1) (fun z => h2 (hA q z))]; exact hS.2.1 q h1 h2, fun q hq => by
      rcases List.mem_append.mp hq with h | h
      · exact hS.2.2 q h
      · exact hf _ (hL q h)⟩
  rcases hq with ⟨v, rfl, hp⟩ | ⟨x, rfl, hp⟩
  · obtain ⟨t2, a1, b1⟩ := kk v T'.heap (locs ++ L) (by rw [e1]; exact hp) (by rw [e1]; exact hz) (fun q h1 h2 => by rw [e1]; exact hk q h1 h2) hS1 T' rfl X'
    exact ⟨t2, st1 v rfl t2 a1, b1⟩
  · obtain ⟨hex, hW⟩ := kt x T'.heap (locs ++ L) (by rw [e1]; exact hp) (by rw [e1]; exact hz) (fun q h1 h2 => by rw [e1]; exact hk q h1 h2) hS1
    obtain ⟨vm', X2, st3⟩ := ct_into (ls := ls) (rest := rest) B htab hin hct hlk X' hex
    obtain ⟨t2, a1, b1⟩ := hW (T'.setVm vm') rfl X2
    exact ⟨t2, st2 x rfl t2 (st3 t2 a1), b1⟩
/-- a method with one handler -/
theorem ct_startW {y : MethodName} {maxL h1 h2 hpc ct : Nat} {rm : Room} {av : List Value} {sz : Nat} {Hp : Heap → Prop} {Qc : Array Value → State → Outcome → State → Prop} {mc ms : Nat} {free : Addr → Prop}
    (hy : plainName y.cls = true) (hn : (lg_sl av).length ≤ maxL)
    (body : ∀ (p : Program) (e : Env) (s : State) (m : MethodId) (below : List Frame) (meth : Method) (c : Code) (ls : Array Slot), cx p s m av.toArray meth c cc y.cls maxL ret y.name E → c.exceptionTable.toList.map (fun h => (h.startPc, h.endPc, h.handlerPc, h.catchType)) = [(h1, h2, hpc, ct)] → s.heap.size = sz → Hp s.heap → lv_has ls maxL (lv_args 0 av) →
      W p l e rm s m av.toArray below meth c s.heap [] 0 0 (MQ below Qc av.toArray s mc ms free) (F0 m 0 ls [])) : Met l y (wsW_ y cc maxL ret [(h1, h2, hpc, ct)]) rm (ctP E av sz Hp) Qc mc ms free := by
  refine va_MetW (cc := cc) (maxL := maxL) (ret := ret) (hh := [(h1, h2, hpc, ct)]) hy rfl ?_
  intro p e s m args below meth c s₁ B hml hv
  obtain ⟨rfl, hsz, hG, hH⟩ := hv
  have hts0 := atoms_spec (ws := wsW_ y cc maxL ret [(h1, h2, hpc, ct)]) B.pre
  obtain ⟨m9, meth9, c9, hn9, h1', h2', h3', h4', h5', -⟩ := Cond.codeWith_spec (hts0 _ List.mem_cons_self)
  cases B.named.symm.trans hn9
  cases B.method.symm.trans h1'
  cases (Stand.of_body B).code.symm.trans h2'
  have hts : ∀ w ∈ lw_all, w.before _ s = true := fun w h => hts0 w (List.mem_cons_of_mem _ h)
  have hl := lv_entry av (n := maxL) hn
  rw [lg_entry_eq]
  exact body p e s m below meth c _ ⟨B.exec, B.bytes, findClass_of_methodNamed B.named, hts, B.returns, B.notSynchronized, hml, (name_of_methodNamed B.named B.method).1, hG⟩ h5' hsz hH hl
end
