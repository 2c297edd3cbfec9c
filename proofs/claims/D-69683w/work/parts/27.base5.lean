/-! BASE 5: worlds in parts, methods that throw -/
set_option maxRecDepth 100000
/-- what a method leaves, whether it returned or threw -/
def FrX (first t : State) (L : List Loc) (k n : Nat) : Prop := first.WarmedH t.vm ∧ first.sameButNew ({ t with vm := first.vm } : State) L k n
/-- a contract of a method that may throw -/
def MetX (l : Launch) (y : MethodName) (ws : List Cond) (rm : Room) (Pc : Array Value → State → Prop) (Qc : Array Value → State → Outcome → State → Prop) (mc ms : Nat) (free : Addr → Prop) : Prop :=
  MetFree l y (headSpec ws rm) Pc (fun _ _ _ _ _ => True) (fun a st o t => Qc a st o t ∧ ∃ L, FrX st t L mc ms ∧ ∀ q ∈ L, free q.base)
def MQX (below : List Frame) (Qc : Array Value → State → Outcome → State → Prop) (a : Array Value) (s : State) (mc ms : Nat) (free : Addr → Prop) : State → Prop := fun t =>
  ∃ o, t.status = .running ∧ Ended t below o ∧ Qc a s o t ∧ ∃ L, FrX s t L mc ms ∧ ∀ q ∈ L, free q.base
theorem MQX.of {below : List Frame} {Qc Qc' : Array Value → State → Outcome → State → Prop} {a : Array Value} {s t : State} {mc ms : Nat} {free : Addr → Prop} (h : MQ below Qc a s mc ms free t) (hi : ∀ o t, Qc a s o t → Qc' a s o t) : MQX below Qc' a s mc ms free t := by
  obtain ⟨o, h1, h2, h3, L, h4, h5⟩ := h
  exact ⟨o, h1, h2, hi _ _ h3, L, h4.2, h5⟩
/-- a throwing contract's end: it returned (post), or it threw x (thr); nothing outside A has changed -/
def ctX (post : Option Value → Heap → Prop) (thr : Nat → Heap → Prop) (A : Nat → Prop) : Array Value → State → Outcome → State → Prop := fun _ st o t => ((∃ v, o = .returned v ∧ post v t.heap) ∨ (∃ x, o = .threw x ∧ thr x t.heap)) ∧ va_F A st t
section
variable {l : Launch} {E : CE}
theorem ct_startX {y : MethodName} {cc : ByteArray} {maxL : Nat} {ret : Option FieldType} {rm : Room} {av : List Value} {sz : Nat} {Hp : Heap → Prop} {Qc : Array Value → State → Outcome → State → Prop} {mc ms : Nat} {free : Addr → Prop}
    (hy : plainName y.cls = true) (hn : (lg_sl av).length ≤ maxL)
    (body : ∀ (p : Program) (e : Env) (s : State) (m : MethodId) (below : List Frame) (meth : Method) (c : Code) (ls : Array Slot), cx p s m av.toArray meth c cc y.cls maxL ret y.name E → c.exceptionTable.toList = [] → s.heap.size = sz → Hp s.heap → lv_has ls maxL (lv_args 0 av) →
      W p l e rm s m av.toArray below meth c s.heap [] 0 0 (MQX below Qc av.toArray s mc ms free) (F0 m 0 ls [])) : MetX l y (ws_ y cc maxL ret) rm (ctP E av sz Hp) Qc mc ms free := by
  refine MetFree.of_bodyS (code := cc) (maxLocals := maxL) (ret := ret) hy ?_ ?_
  · intro args s m h hn
    obtain ⟨meth, c, h1, h2, h3, h4, h5, h6, -, -⟩ := Cond.code_spec hn (atoms_spec (ws := ws_ y cc maxL ret) h _ List.mem_cons_self)
    exact ⟨meth, c, h1, h2, h3, h4, h5, h6⟩
  · intro p e s m args below meth c s₁ B hml hP _
    have hh0 : s₁.heap = s.heap := by rw [B.state]; rfl
    obtain ⟨rfl, hsz, hG, hH⟩ := hP
    have hts0 := atoms_spec (ws := ws_ y cc maxL ret) B.pre
    have hno := B.noHandlers (hts0 _ List.mem_cons_self)
    have hts : ∀ w ∈ lw_all, w.before _ s = true := fun w h => hts0 w (List.mem_cons_of_mem _ h)
    have hl := lv_entry av (n := maxL) hn
    have key := body p e s m below meth c _ ⟨B.exec, B.bytes, findClass_of_methodNamed B.named, hts, B.returns, B.notSynchronized, hml, (name_of_methodNamed B.named B.method).1, hG⟩ (by simpa using hno) hsz hH hl
    rw [← lg_entry_eq] at key
    obtain ⟨t, a1, o, b1, b2, b3⟩ := key s₁ hh0 (Stand.of_body B)
    exact ⟨t, o, a1, b1, b2, ⟨b3.1, b3.2⟩⟩
end
section
variable {p : Program} {l : Launch} {e : Env} {R : Room} {s : State} {m : MethodId} {args : Array Value} {below : List Frame} {meth : Method} {c : Code} {H : Heap} {locs : List Loc} {cells slots : Nat} {Q : State → Prop}
variable {cc : ByteArray} {pc : Nat} {ls : Array Slot} {rest : List Value} {E : CE} {own nm : String} {nL : Nat} {ret : Option FieldType} {ws ws' : va_W} {A : Nat → Prop} {a : Nat}
theorem ct_mono {Q' : State → Prop} {g : JFrame} (k : W p l e R s m args below meth c H locs cells slots Q g) (h : ∀ t, Q t → Q' t) : W p l e R s m args below meth c H locs cells slots Q' g := by
  intro T hT X
  obtain ⟨t, a1, b1⟩ := k T hT X
  exact ⟨t, a1, h t b1⟩
/-- the end of a method that may throw, where it returns -/
theorem ct_toX {post : Option Value → Heap → Prop} {thr : Nat → Heap → Prop} {mc ms : Nat} {free : Addr → Prop} {g : JFrame} (k : W p l e R s m args below meth c H locs cells slots (MQ below (ctQ post A) args s mc ms free) g) : W p l e R s m args below meth c H locs cells slots (MQX below (ctX post thr A) args s mc ms free) g :=
  ct_mono k (fun _ h => MQX.of h (fun _ _ q => ⟨Or.inl q.1, q.2⟩))
theorem ct_athrow {post : Option Value → Heap → Prop} {thr : Nat → Heap → Prop} (B : cx p s m args meth c cc own nL ret nm E) (hno : c.exceptionTable.toList = []) {x : Nat} (hS : va_S A s.heap H locs) (hp : thr x H) (hdg : decode cc pc = .ok (.athrow, 1)) : W p l e R s m args below meth c H locs cells slots (MQX below (ctX post thr A) args s cells slots A) (F0 m pc ls (.ref x :: rest)) := by
  intro T hT X
  have hlocks : meth.locks = false := B.2.2.2.2.2.1
  obtain ⟨h1, h2, h3, h4, h5⟩ := X.athrowLeaves B.1 (g := F0 m pc ls (.ref x :: rest)) rfl rfl rfl (by rw [hno]; intro x hx; cases hx) (a := x) (rest := rest) rfl (by rw [B.2.1]; exact hdg)
  exact ⟨_, h1, .threw x, h2, h3, ⟨Or.inr ⟨x, rfl, by rw [show (T.setFrames (.throwing x :: below)).heap = T.heap from rfl, hT]; exact hp⟩, hS.F hT⟩, locs, ⟨h4, h5⟩, hS.2.2⟩
/-- a call of a method that may throw -/
def RunX (p : Program) (l : Launch) (e : Env) (R : Room) (s : State) (m : MethodId) (args : Array Value) (below : List Frame) (meth : Method) (c : Code) (H : Heap) (locs : List Loc) (cells slots mc ms : Nat) (g : JFrame) (rest : List Value) (Qa : State → Outcome → State → Prop) (free : Addr → Prop) : Prop :=
  ∀ T : State, T.heap = H → Stand p l e R s m args below meth c T locs cells slots → ∃ (o : Outcome) (st₀ t T' : State) (L : List Loc), st₀.heap = H ∧ Stand p l e R s m args below meth c T' (locs ++ L) (cells + mc) (slots + ms) ∧ (∀ q ∈ L, free q.base) ∧ T'.heap = t.heap ∧ Qa st₀ o t ∧
    (∀ v, o = .returned v → ∀ tg, Steps p.tables e below (T'.setTop { g with pc := g.pc + 3, stack := v.toList ++ rest }) tg → Steps p.tables e below (T.setTop g) tg) ∧
    (∀ x, o = .threw x → ∀ tg, Steps p.tables e below ((T'.setTop { g with stack := rest }).pushFrame (.throwing x)) tg → Steps p.tables e below (T.setTop g) tg)
def BackX (l : Launch) (R : Room) (p : Program) (e : Env) (below : List Frame) (s : State) (sargs : Array Value) (y : MethodName) (mc ms : Nat) (Pc : Array Value → State → Prop) (Qc : Array Value → State → Outcome → State → Prop) (free : Addr → Prop) : Prop :=
  ∀ (m : MethodId) (meth : Method) (c : Code) (U : State) (Ls : List Loc) (c0 s0 : Nat) (g : JFrame) (ig : Instr) (mk : MethodId) (a : Array Value),
    Stand p l e R s m sargs below meth c U Ls c0 s0 → g.method = m → g.locals.size = c.maxLocals → decode c.code g.pc = .ok (ig, 3) →
    2 * g.monitorRoom + (g.stack.map fun v => v.category).sum ≤ 8 → U.methodNamed? y = some mk → c0 + mc ≤ R.cells → s0 + ms ≤ R.slots → Pc a U →
    ∃ (o : Outcome) (t T' : State) (L : List Loc), Stand p l e R s m sargs below meth c T' (Ls ++ L) (c0 + mc) (s0 + ms) ∧ (∀ q ∈ L, free q.base) ∧ T'.heap = t.heap ∧ Qc a (U.calling g mk a) o t ∧
      (∀ v, o = .returned v → Steps p.tables e below (doInvoke e (U.setTop g) [] mk a).1 (T'.setTop { g with pc := g.pc + 3, stack := v.toList ++ g.stack })) ∧
      (∀ x, o = .threw x → Steps p.tables e below (doInvoke e (U.setTop g) [] mk a).1 ((T'.setTop g).pushFrame (.throwing x)))
theorem ct_backX {y : MethodName} {ws9 : List Cond} {rm : Room} {Pc : Array Value → State → Prop} {Qc : Array Value → State → Outcome → State → Prop} {mc ms : Nat} {free : Addr → Prop} {bytes : ByteArray} {maxL : Nat} {ry : Option FieldType}
    (hM : MetX l y ws9 rm Pc Qc mc ms free) (hblind : FrameBlind Pc) (hrc : rm.cells = mc) (hrs : rm.slots = ms)
    (hframes : rm.frames + 1 ≤ R.frames) (hlocals : 8 + (maxL + 11) + rm.locals ≤ R.locals)
    (hws : ∀ w ∈ ws9, ∀ a' U, s.WarmedH U.vm → w.before a' U = true) (hcode : Cond.code y bytes maxL ry ∈ ws9) (hinit : ∀ a' U, s.WarmedH U.vm → (Cond.initialized y.cls).before a' U = true) :
    BackX l R p e below s args y mc ms Pc Qc free := by
  intro m meth c U Ls c0 s0 g ig mk a X hg hsize hdg hW hn h4 h5 hp
  have h1 : (headSpec ws9 rm).pre.before a U = true := atoms_intro fun w hw => hws w hw _ _ X.warmed
  have h2 := hws _ hcode a U X.warmed
  have h3 := hinit a U X.warmed
  obtain ⟨methY, cY, hmY, hcY, -, hlY, -, -, -, -⟩ := Cond.code_spec hn h2
  obtain ⟨kY, hkY, -⟩ := className_of_methodNamed hn
  have hinitY : kY.init = .initialized := Cond.initialized_spec (findClass_of_methodNamed hn) hkY h3
  have h : At U g.method c below := by rw [hg]; exact X.here
  have happ : (headSpec ws9 rm).appliesLoose y e.platform (U.calling g mk a) = true :=
    Spec.appliesLoose_calling (g := g) h hdg hn hkY hinitY
      (X.room_calling (g := g) (R' := (headSpec ws9 rm).room) hsize hmY hcY hframes (by rw [hlY]; exact Nat.le_trans (Nat.add_le_add_right (Nat.add_le_add_right hW _) _) hlocals) (by rw [show (headSpec ws9 rm).room.cells = mc from hrc]; exact h4) (by rw [show (headSpec ws9 rm).room.slots = ms from hrs]; exact h5)) h1
  obtain ⟨mid, hmid⟩ := h.above
  have hfr : (U.setTop g).frames = (.java g :: mid) ++ below := by rw [State.frames_setTop' g h.top, hmid]; rfl
  obtain ⟨o, s₂, hsteps, -, hend, hq⟩ := Steps.callFree hM p X.admits X.cas X.clock (acts := []) hfr happ (hblind _ _ _ _ hp) trivial
  have hq : Qc a (U.calling g mk a) o s₂ ∧ ∃ L, FrX (U.calling g mk a) s₂ L mc ms ∧ ∀ q ∈ L, free q.base := hq
  obtain ⟨hq1, L, ⟨hW₂, hsb⟩, hL⟩ := hq
  rw [State.frames_setTop' g h.top] at hend
  obtain ⟨e2, q2, q3, q4, q5, q6⟩ := hsb
  have e3 : s₂ = ({ (U.calling g mk a).setFrames s₂.frames with heap := s₂.heap, slotsUsed := s₂.slotsUsed } : State).setVm s₂.vm := by
    have : s₂ = ({ s₂ with vm := (U.calling g mk a).vm } : State).setVm s₂.vm := rfl
    rw [e2] at this
    exact this
  have hW' : U.WarmedH s₂.vm := hW₂
  obtain ⟨g₀, hg0⟩ := Option.isSome_iff_exists.mp h.top
  obtain ⟨r, hr⟩ := State.topJava?_eq_some.mp hg0
  have hsame : U.sameButNew ({ U with heap := s₂.heap, slotsUsed := s₂.slotsUsed } : State) L mc ms := by
    refine ⟨?_, q2, q3, q4, q5, q6⟩
    obtain ⟨t, ht, -⟩ := State.frames_cons hr
    show ({ U with heap := s₂.heap, slotsUsed := s₂.slotsUsed } : State) = { U.setFrames U.frames with heap := s₂.heap, slotsUsed := s₂.slotsUsed }
    rw [State.setFrames_self ht]
  subst hg
  refine ⟨o, s₂, ({ U with heap := s₂.heap, slotsUsed := s₂.slotsUsed } : State).setVm s₂.vm, L,
    ⟨X.admits, X.cas, X.clock, X.frames, X.room, X.hears, X.method, X.code, (X.here.setHeapUsed s₂.heap s₂.slotsUsed).setVm hW'.alike, X.tail, State.WarmedH.trans X.warmed hW', X.limits, X.bytes, X.same.trans (hsame.setVm s.vm)⟩, hL, rfl, hq1, ?_, ?_⟩
  · intro v hv
    subst hv
    obtain ⟨c₂, i₂, len₂, hc₂, hd₂, hf₂⟩ := hend
    have hcc : c₂ = c := by
      have h1 : s₂.code? g.method = U.code? g.method := by
        rw [State.code?_eq, State.code?_eq, hW'.alike.method?]
      exact Option.some.inj (hc₂.symm.trans (h1.trans h.code))
    subst hcc
    have hlen : len₂ = 3 := by rw [hdg] at hd₂; cases hd₂; rfl
    subst hlen
    have hs₂ : s₂ = (({ U with heap := s₂.heap, slotsUsed := s₂.slotsUsed } : State).setVm s₂.vm).setTop { g with pc := g.pc + 3, stack := v.toList ++ g.stack } := by
      have hr' : (({ U with heap := s₂.heap, slotsUsed := s₂.slotsUsed } : State).setVm s₂.vm).frames = .java g₀ :: r := hr
      refine e3.trans ?_
      rw [hf₂, State.calling_eq h.top, State.setFrames_setFrames, State.setTop_of_frames _ hr', hr]
      rfl
    rw [← hs₂]
    exact hsteps
  · intro x hv
    subst hv
    have hf₂ : s₂.frames = .throwing x :: .java g :: U.frames.tail := hend
    have hs₂ : s₂ = ((({ U with heap := s₂.heap, slotsUsed := s₂.slotsUsed } : State).setVm s₂.vm).setTop g).pushFrame (.throwing x) := by
      have hr' : (({ U with heap := s₂.heap, slotsUsed := s₂.slotsUsed } : State).setVm s₂.vm).frames = .java g₀ :: r := hr
      refine e3.trans ?_
      rw [hf₂, State.calling_eq h.top, State.setFrames_setFrames, State.pushFrame, State.frames_setTop _ hr', State.setTop_of_frames _ hr', State.setFrames_setFrames, hr]
      rfl
    rw [← hs₂]
    exact hsteps
section
variable {y : MethodName} {bytes : ByteArray} {maxL : Nat} {ry : Option FieldType} {rm : Room} {As : List Value} {b index mc ms : Nat} {Hp : Heap → Prop} {Qc : Array Value → State → Outcome → State → Prop} {free : Addr → Prop}
theorem ct_runXV (B : cx p s m args meth c cc own nL ret nm E) (hM : MetX l y (ws_ y bytes maxL ry) rm (ctP E (.ref b :: As) H.size Hp) Qc mc ms free) (hw : GoodIn lw_all (wsV own index y.cls y (ws_ y bytes maxL ry))) {n : Nat} (hd : ct_desc y n) (hn : As.length = n) (hR : ct_room R rm maxL mc ms cells slots)
    (hS : va_S A s.heap H locs) (hA : ∀ q, A q → E.2.2.1 ≤ q) (hrecv : ∃ cellB : Cell, H[b]? = some cellB ∧ cellB.vm.isStatics = false ∧ s.vm.findClass y.cls = some cellB.cls) (hH : Hp H) (hl : ls.size = nL) (hrest : (rest.map fun v => v.category).sum ≤ 8) (hdg : decode cc pc = .ok (.invokevirtual index, 3)) :
    RunX p l e R s m args below meth c H locs cells slots mc ms (F0 m pc ls (As.reverse ++ .ref b :: rest)) rest (Qc (Value.ref b :: As).toArray) free := by
  obtain ⟨r1, r2, r3, r4, r5, r6⟩ := hR
  obtain ⟨⟨-, -, -, -, hws, hcw, hcode, hini, hy, hlen, hlink⟩, hinst, hsel⟩ := cwV (rm := rm) (mc := mc) (ms := ms) (R := R) n B.2.2.2.1 hw rfl r1 r2 ⟨rfl, hd⟩ ⟨r3, r4⟩
  have hK : BackX l R p e below s args y mc ms (ctP E (.ref b :: As) H.size Hp) Qc free := ct_backX (bytes := bytes) (maxL := maxL) (ry := ry) hM ct_blind r1 r2 r3 r4 hws hcw (fun a' U hW => word_at hW (Or.inl (by first | rfl | simp [Cond.onTables, Cond.keeps, Cond.steady])) hini)
  obtain ⟨cellB, hcell, hobj, hcls⟩ := hrecv
  intro T hT X
  obtain ⟨mk, methM, hnamed, hmethM, hstM, habM⟩ := Cond.instanceMethod_spec hinst
  obtain ⟨methM', cM, hmethM', -, -, -, -, -, -, hsigM⟩ := Cond.code_spec hnamed hcode
  cases hmethM.symm.trans hmethM'
  obtain ⟨c2, r2', m2, q1, q2, q3, q4, kP, hkP, hkPi⟩ := Cond.selects_spec hsel
  cases hcls.symm.trans q1
  cases (State.methodFound?_of_named hnamed hy).symm.trans q2
  cases hnamed.symm.trans q3
  have hselP : selectMethod e.platform s.vm cellB.cls mk = .method mk := by rw [Launch.admits_selectMethod X.admits]; exact q4
  obtain ⟨vm₁, X₁, hstep₁⟩ := X.invokevirtual B.1 B.2.2.1 hlink hnamed hmethM hstM hkP hkPi hy (a := b) (cell := cellB) (by rw [hT]; exact hcell)
    (fun z h => by rw [h] at hobj; cases hobj) hselP hmethM habM hkP hkPi (g := F0 m pc ls (As.reverse ++ .ref b :: rest)) rfl (argsL := As) (rest := rest) (hn.trans (hlen _ hsigM)) rfl (by rw [B.2.1]; exact hdg)
  obtain ⟨o, t, T', L, X', hL, hh, hq, st1, st2⟩ := hK m meth c (T.setVm vm₁) locs cells slots (F0 m pc ls rest) (.invokevirtual index) mk (Value.ref b :: As).toArray X₁ rfl (hl.trans B.2.2.2.2.2.2.1.symm) (by rw [B.2.1]; exact hdg) (lv_room hrest) (X₁.named hnamed) r5 r6
    ⟨rfl, by show (T.setVm vm₁).heap.size = _; rw [show (T.setVm vm₁).heap = T.heap from rfl, hT], B.2.2.2.2.2.2.2.2.go hS hA hT X₁.warmed, by show Hp (T.setVm vm₁).heap; rw [show (T.setVm vm₁).heap = T.heap from rfl, hT]; exact hH⟩
  refine ⟨o, (T.setVm vm₁).calling (F0 m pc ls rest) mk (Value.ref b :: As).toArray, t, T', L, hT, X', hL, hh, hq, fun v hv tg hs => ?_, fun x hv tg hs => ?_⟩
  · exact hstep₁ _ fun acts => by rw [doInvoke_state]; exact (st1 v hv).trans hs
  · exact hstep₁ _ fun acts => by rw [doInvoke_state]; exact (st2 x hv).trans hs
theorem ct_runXI (B : cx p s m args meth c cc own nL ret nm E) (hM : MetX l y (ws_ y bytes maxL none) rm (ctP E (.ref b :: As) H.size Hp) Qc mc ms free) (hcode : Cond.code y bytes maxL none ∈ lw_all) (hini : Cond.initialized y.cls ∈ lw_all) (hlk : Cond.methodLink own index y ∈ lw_all) (hin : Cond.instanceMethod y ∈ lw_all) (hy1 : y.name = "<init>") {n : Nat} (hd : ct_desc y n) (hn : As.length = n) (hR : ct_room R rm maxL mc ms cells slots)
    (hS : va_S A s.heap H locs) (hA : ∀ q, A q → E.2.2.1 ≤ q) (hH : Hp H) (hl : ls.size = nL) (hrest : (rest.map fun v => v.category).sum ≤ 8) (hdg : decode cc pc = .ok (.invokespecial index, 3)) :
    RunX p l e R s m args below meth c H locs cells slots mc ms (F0 m pc ls (As.reverse ++ .ref b :: rest)) rest (Qc (Value.ref b :: As).toArray) free := by
  obtain ⟨r1, r2, r3, r4, r5, r6⟩ := hR
  obtain ⟨⟨-, -, -, -, hws, hcw, hcode, hini, hy, hlen, hlink⟩, -, hinst⟩ := cwI (rm := rm) (mc := mc) (ms := ms) (R := R) n B.2.2.2.1 (lw_meth hcode) rfl r1 r2 (B.2.2.2.1 _ hini) (B.2.2.2.1 _ hlk) (B.2.2.2.1 _ hin) hy1 hd ⟨r3, r4⟩
  have hK : BackX l R p e below s args y mc ms (ctP E (.ref b :: As) H.size Hp) Qc free := ct_backX (bytes := bytes) (maxL := maxL) (ry := none) hM ct_blind r1 r2 r3 r4 hws hcw (fun a' U hW => word_at hW (Or.inl (by first | rfl | simp [Cond.onTables, Cond.keeps, Cond.steady])) hini)
  intro T hT X
  have hpl : e.platform.magicAccessors = ({} : Platform).magicAccessors := by rw [X.admits.platform]
  obtain ⟨mk, methM, cM, kP, vm₁, hnamed, hmethM, hcodeM, -, hlocalsM, -, hkP, -, hW₁, hstep₁⟩ := Steps.initColdArgs (e := e) X.here B.1 X.warmed hpl B.2.2.1 hy1 hy hlink hinst hcode (f := F0 m pc ls (As.reverse ++ .ref b :: rest)) rfl (a := b) (argsL := As) (rest := rest) (fun sig h => hn.trans (hlen sig h)) rfl (by rw [B.2.1]; exact hdg)
  have X₁ := X.noted hW₁
  obtain ⟨o, t, T', L, X', hL, hh, hq, st1, st2⟩ := hK m meth c (T.setVm vm₁) locs cells slots (F0 m pc ls rest) (.invokespecial index) mk (Value.ref b :: As).toArray X₁ rfl (hl.trans B.2.2.2.2.2.2.1.symm) (by rw [B.2.1]; exact hdg) (lv_room hrest) (X₁.named hnamed) r5 r6
    ⟨rfl, by show (T.setVm vm₁).heap.size = _; rw [show (T.setVm vm₁).heap = T.heap from rfl, hT], B.2.2.2.2.2.2.2.2.go hS hA hT X₁.warmed, by show Hp (T.setVm vm₁).heap; rw [show (T.setVm vm₁).heap = T.heap from rfl, hT]; exact hH⟩
  refine ⟨o, (T.setVm vm₁).calling (F0 m pc ls rest) mk (Value.ref b :: As).toArray, t, T', L, hT, X', hL, hh, hq, fun v hv tg hs => ?_, fun x hv tg hs => ?_⟩
  · exact hstep₁ _ fun acts => by rw [doInvoke_state]; exact (st1 v hv).trans hs
  · exact hstep₁ _ fun acts => by rw [doInvoke_state]; exact (st2 x hv).trans hs
end
/-- behind a call that may throw, in a method that has no handler: what is thrown goes on -/
theorem ct_callX {post post' : Option Value → Heap → Prop} {thr thr' : Nat → Heap → Prop} {a9 : Array Value} {st0 : List Value} {A1 free : Nat → Prop} {mc ms mc' ms' : Nat} (B : cx p s m args meth c cc own nL ret nm E) (hno : c.exceptionTable.toList = []) (hr : RunX p l e R s m args below meth c H locs cells slots mc ms (F0 m pc ls st0) rest (ctX post thr A1 a9) free) (hS : va_S A s.heap H locs) (hA : ∀ q, A1 q → A q) (hf : ∀ q, free q → A q) (hmc : cells + mc ≤ mc') (hms : slots + ms ≤ ms')
    (kt : ∀ (x : Nat) (H1 : Heap) (locs1 : List Loc), thr x H1 → H.size ≤ H1.size → (∀ q : Nat, q < H.size → ¬ A1 q → H1[q]? = H[q]?) → va_S A s.heap H1 locs1 → thr' x H1)
    (kk : ∀ (v : Option Value) (H1 : Heap) (locs1 : List Loc), post v H1 → H.size ≤ H1.size → (∀ q : Nat, q < H.size → ¬ A1 q → H1[q]? = H[q]?) → va_S A s.heap H1 locs1 → W p l e R s m args below meth c H1 locs1 (cells + mc) (slots + ms) (MQX below (ctX post' thr' A) args s mc' ms' A) (F0 m (pc + 3) ls (v.toList ++ rest))) : W p l e R s m args below meth c H locs cells slots (MQX below (ctX post' thr' A) args s mc' ms' A) (F0 m pc ls st0) := by
  intro T hT X
  obtain ⟨o, st₀, t, T', L, h0, X', hL, e1, ⟨hq, hz, hk⟩, st1, st2⟩ := hr T hT X
  rw [h0] at hz hk
  have hS1 : va_S A s.heap T'.heap (locs ++ L) := ⟨Nat.le_trans hS.1 (by rw [e1]; exact hz), fun q h1 h2 => by rw [e1, hk q (Nat.lt_of_lt_of_le h1 hS.1) (fun z => h2 (hA q z))]; exact hS.2.1 q h1 h2, fun q hq => by
      rcases List.mem_append.mp hq with h | h
      · exact hS.2.2 q h
      · exact hf _ (hL q h)⟩
  rcases hq with ⟨v, rfl, hp⟩ | ⟨x, rfl, hp⟩
  · obtain ⟨t2, a1, b1⟩ := kk v T'.heap (locs ++ L) (by rw [e1]; exact hp) (by rw [e1]; exact hz) (fun q h1 h2 => by rw [e1]; exact hk q h1 h2) hS1 T' rfl X'
    exact ⟨t2, st1 v rfl t2 a1, b1⟩
  · have hp' := kt x T'.heap (locs ++ L) (by rw [e1]; exact hp) (by rw [e1]; exact hz) (fun q h1 h2 => by rw [e1]; exact hk q h1 h2) hS1
    have hlocks : meth.locks = false := B.2.2.2.2.2.1
    have X2 := stand_widen X' hmc hms
    obtain ⟨h1, h2, h3, h4, h5⟩ := X2.leaveThrown x (g := F0 m pc ls rest) rfl rfl rfl (by rw [hno]; intro x hx; cases hx)
    exact ⟨_, st2 x rfl _ h1, .threw x, h2, h3, ⟨Or.inr ⟨x, rfl, hp'⟩, hS1.F rfl⟩, locs ++ L, ⟨h4, h5⟩, hS1.2.2⟩
/-! worlds in parts -/
theorem ct_keep {ws9 : va_W} (hT : va_P E.1 ct_cl ws9 s.heap) (hN : ∀ (k : Nat) (x : Nat × va_E), ws9[k]? = some x → ¬ A x.1) (hS : va_S A s.heap H locs) : va_P E.1 ct_cl ws9 H :=
  hT.kept (fun k x hx => hS.2.1 x.1 ((hT k x hx).lt) (hN k x hx))
theorem at_l {a b : va_W} {k : Nat} {x : Nat × va_E} (hx : a[k]? = some x) : (a ++ b)[k]? = some x := by
  rw [List.getElem?_append_left ((List.getElem?_eq_some_iff.mp hx).1)]; exact hx
theorem at_r {a b : va_W} {k : Nat} {x : Nat × va_E} (hx : b[k]? = some x) : (a ++ b)[a.length + k]? = some x := by
  rw [List.getElem?_append_right (Nat.le_add_right _ _), Nat.add_sub_cancel_left]; exact hx
theorem at_lt {a : va_W} {k : Nat} {x : Nat × va_E} (hx : a[k]? = some x) : k < a.length := (List.getElem?_eq_some_iff.mp hx).1
theorem ct_Pl {a b : va_W} (h : va_P E.1 ct_cl (a ++ b) H) : va_P E.1 ct_cl a H := fun k x hx => h k x (at_l hx)
theorem ct_Pr {a b : va_W} (h : va_P E.1 ct_cl (a ++ b) H) : va_P E.1 ct_cl b H := fun k x hx => h (a.length + k) x (at_r hx)
theorem ct_Dl {a b : va_W} (h : va_D A (a ++ b)) : va_D A a := ⟨fun i j x y hi hj e => h.1 i j x y (at_l hi) (at_l hj) e, fun k x hx => h.2 k x (at_l hx)⟩
theorem ct_Dr {a b : va_W} (h : va_D A (a ++ b)) : va_D A b := ⟨fun i j x y hi hj e => by have := h.1 _ _ x y (at_r hi) (at_r hj) e; omega, fun k x hx => h.2 _ x (at_r hx)⟩
theorem ct_Dx {a b : va_W} (h : va_D A (a ++ b)) {i j : Nat} {x y : Nat × va_E} (hi : a[i]? = some x) (hj : b[j]? = some y) : x.1 ≠ y.1 := fun q => by
  have := h.1 _ _ x y (at_l hi) (at_r hj) q
  have := at_lt hi
  omega
/-- the callee's part C of the world has become C'; the rest is as it was -/
theorem ct_frM {X C Y C' : va_W} {H1 : Heap} {locs1 : List Loc} (h : Hs E A s.heap (X ++ (C ++ Y)) H locs) (hP1 : va_P E.1 ct_cl C' H1) (hD1 : va_D (va_A C H.size) C') (hk : ∀ q : Nat, q < H.size → ¬ va_A C H.size q → H1[q]? = H[q]?) (hS : va_S A s.heap H1 locs1) (hAn : ∀ q, s.heap.size ≤ q → A q) : Hs E A s.heap (X ++ (C' ++ Y)) H1 locs1 := by
  obtain ⟨hP, hD, hS0⟩ := h
  have hsub : ∀ q, va_A C H.size q → A q := by
    intro q hq
    rcases hq with ⟨k, e, hq⟩ | hq
    · exact (ct_Dl (ct_Dr hD)).2 k _ hq
    · exact hAn q (Nat.le_trans hS0.1 hq)
  have nX : ∀ (i : Nat) (x : Nat × va_E), X[i]? = some x → ¬ va_A C H.size x.1 := by
    intro i x hx hq
    rcases hq with ⟨k, e, hq⟩ | hq
    · exact ct_Dx hD hx (at_l hq) rfl
    · have := (ct_Pl hP i x hx).lt; omega
  have nY : ∀ (i : Nat) (x : Nat × va_E), Y[i]? = some x → ¬ va_A C H.size x.1 := by
    intro i x hx hq
    rcases hq with ⟨k, e, hq⟩ | hq
    · exact ct_Dx (ct_Dr hD) hq hx rfl
    · have := (ct_Pr (ct_Pr hP) i x hx).lt; omega
  have pX : va_P E.1 ct_cl X H1 := (ct_Pl hP).kept (fun k x hx => hk x.1 ((ct_Pl hP k x hx).lt) (nX k x hx))
  have pY : va_P E.1 ct_cl Y H1 := (ct_Pr (ct_Pr hP)).kept (fun k x hx => hk x.1 ((ct_Pr (ct_Pr hP) k x hx).lt) (nY k x hx))
  refine ⟨pX.app (hP1.app pY), va_D.app (ct_Dl hD) (va_D.app (hD1.weaken (fun _ _ _ q => hsub _ q)) (ct_Dr (ct_Dr hD)) ?_) ?_, hS⟩
  · intro i j x y hi hj q
    exact nY j y hj (by rw [← q]; exact hD1.2 i x hi)
  · intro i j x y hi hj q
    by_cases hj2 : j < C'.length
    · rw [List.getElem?_append_left hj2] at hj
      exact nX i x hi (by rw [q]; exact hD1.2 j y hj)
    · rw [List.getElem?_append_right (by omega)] at hj
      exact ct_Dx hD hi (at_r hj) q
/-- the same where the callee's part keeps its places -/
theorem ct_frMs {X C Y C' : va_W} {H1 : Heap} {locs1 : List Loc} (h : Hs E A s.heap (X ++ (C ++ Y)) H locs) (hP1 : va_P E.1 ct_cl C' H1) (he : C.map Prod.fst = C'.map Prod.fst) (hk : ∀ q : Nat, q < H.size → ¬ va_A C H.size q → H1[q]? = H[q]?) (hS : va_S A s.heap H1 locs1) (hAn : ∀ q, s.heap.size ≤ q → A q) : Hs E A s.heap (X ++ (C' ++ Y)) H1 locs1 :=
  ct_frM h hP1 (ct_Daddr he (ct_Dl (ct_Dr h.2.1)).self) hk hS hAn
theorem ct_subM {X C Y : va_W} (h : Hs E A s.heap (X ++ (C ++ Y)) H locs) (hAn : ∀ q, s.heap.size ≤ q → A q) : ∀ q, va_A C H.size q → A q := by
  intro q hq
  rcases hq with ⟨k, e, hq⟩ | hq
  · exact (ct_Dl (ct_Dr h.2.1)).2 k _ hq
  · exact hAn q (Nat.le_trans h.2.2.1 hq)
theorem ct_Hc {X Y : va_W} (h : Hs E A s.heap (X ++ Y) H locs) : Hs E A s.heap (Y ++ X) H locs :=
  ⟨(ct_Pr h.1).app (ct_Pl h.1), va_D.app (ct_Dr h.2.1) (ct_Dl h.2.1) (fun _ _ _ _ hi hj q => ct_Dx h.2.1 hj hi q.symm), h.2.2⟩
theorem ct_Hl {X Y : va_W} (h : Hs E A s.heap (X ++ Y) H locs) : Hs E A s.heap X H locs := ⟨ct_Pl h.1, ct_Dl h.2.1, h.2.2⟩
theorem ct_Hr {X Y : va_W} (h : Hs E A s.heap (X ++ Y) H locs) : Hs E A s.heap Y H locs := ⟨ct_Pr h.1, ct_Dr h.2.1, h.2.2⟩
end
