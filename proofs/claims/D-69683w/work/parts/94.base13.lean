/-! BASE 13: calls of methods that have handlers -/
set_option maxRecDepth 100000
section
variable {p : Program} {l : Launch} {e : Env} {R : Room} {s : State} {m : MethodId} {args : Array Value} {below : List Frame} {meth : Method} {c : Code} {H : Heap} {locs : List Loc} {cells slots : Nat} {Q : State → Prop}
variable {cc : ByteArray} {pc : Nat} {ls : Array Slot} {rest : List Value} {E : CE} {own nm : String} {nL : Nat} {ret : Option FieldType} {A : Nat → Prop}
variable {y : MethodName} {bytes : ByteArray} {maxL : Nat} {ry : Option FieldType} {hh : List (Nat × Nat × Nat × Nat)} {rm : Room} {As : List Value} {b index mc ms : Nat} {Hp : Heap → Prop} {Qc : Array Value → State → Outcome → State → Prop} {free : Addr → Prop}
theorem ct_runVW (B : cx p s m args meth c cc own nL ret nm E) (hM : Met l y (wsW_ y bytes maxL ry hh) rm (ctP E (.ref b :: As) H.size Hp) Qc mc ms free) (hl1 : Cond.methodLink own index y ∈ lw_all) (hl2 : Cond.instanceMethod y ∈ lw_all) (hl3 : Cond.selects y.cls y y ∈ lw_all) (hl4 : Cond.initialized y.cls ∈ lw_all) (hl5 : Cond.codeWith y bytes maxL ry hh ∈ lw_all) {n : Nat} (hd : ct_desc y n) (hn : As.length = n) (hR : ct_room R rm maxL mc ms cells slots)
    (hS : va_S A s.heap H locs) (hA : ∀ q, A q → E.2.2.1 ≤ q) (hrecv : ∃ cellB : Cell, H[b]? = some cellB ∧ cellB.vm.isStatics = false ∧ s.vm.findClass y.cls = some cellB.cls) (hH : Hp H) (hl : ls.size = nL) (hrest : (rest.map fun v => v.category).sum ≤ 8) (hdg : decode cc pc = .ok (.invokevirtual index, 3)) :
    va_Run p l e R s m args below meth c H locs cells slots mc ms (F0 m pc ls (As.reverse ++ .ref b :: rest)) rest (Qc (Value.ref b :: As).toArray) free := by
  obtain ⟨r1, r2, r3, r4, r5, r6⟩ := hR
  have ht := B.2.2.2.1
  have hG : GoodIn lw_all (wsW_ y bytes maxL ry hh) := lw_methW hl5
  have hK : Back l R p e below s args y 3 8 (PreOf R mc ms (ctP E (.ref b :: As) H.size Hp)) (PostOf Qc mc ms free) := va_backW (hh := hh) (bytes := bytes) (maxL := maxL) (ret := ry) hM ct_blind r1 r2 r3 r4 (pay_in ht hG) List.mem_cons_self (fun a' U hW => word_at hW (Or.inl (by first | rfl | simp [Cond.onTables, Cond.keeps, Cond.steady])) (ht _ hl4))
  obtain ⟨cellB, hcB, hoB, hclB⟩ := hrecv
  intro T hT X
  obtain ⟨mk, methM, hnamed, hmethM, hstM, habM⟩ := Cond.instanceMethod_spec (ht _ hl2)
  obtain ⟨m9, methM', cM, hn9, hmethM', -, -, -, -, -, -, hsigM⟩ := Cond.codeWith_spec (ht _ hl5)
  cases hnamed.symm.trans hn9
  cases hmethM.symm.trans hmethM'
  obtain ⟨c2, r2', m2, q1, q2, q3, q4, kP, hkP, hkPi⟩ := Cond.selects_spec (ht _ hl3)
  cases hclB.symm.trans q1
  cases (State.methodFound?_of_named hnamed ⟨hd.1, hd.2.1⟩).symm.trans q2
  cases hnamed.symm.trans q3
  have hlen : As.length = methM.sig.parameters.length := by
    have h2 := hd.2.2
    rw [hsigM] at h2
    exact hn.trans (Option.some.inj h2).symm
  have hselP : selectMethod e.platform s.vm cellB.cls mk = .method mk := by rw [Launch.admits_selectMethod X.admits]; exact q4
  obtain ⟨vm₁, X₁, hstep₁⟩ := X.invokevirtual B.1 B.2.2.1 (ht _ hl1) hnamed hmethM hstM hkP hkPi ⟨hd.1, hd.2.1⟩ (a := b) (cell := cellB) (by rw [hT]; exact hcB)
    (fun z h => by rw [h] at hoB; cases hoB) hselP hmethM habM hkP hkPi (g := F0 m pc ls (As.reverse ++ .ref b :: rest)) rfl (argsL := As) (rest := rest) hlen rfl (by rw [B.2.1]; exact hdg)
  obtain ⟨v, ⟨U', l2, c2', s2⟩, X', ⟨g', mk', t, L, e1, e2, hq, h1, hL, h2, h3⟩, hsteps⟩ := hK m meth c ⟨T.setVm vm₁, locs, cells, slots⟩ { (F0 m pc ls (As.reverse ++ .ref b :: rest)) with stack := rest } (.invokevirtual index) mk (Value.ref b :: As).toArray X₁ rfl (hl.trans B.2.2.2.2.2.2.1.symm) (by rw [B.2.1]; exact hdg) (lv_room hrest) (X₁.named hnamed) ⟨r5, r6, rfl, hT ▸ rfl, B.2.2.2.2.2.2.2.2.go hS hA hT X₁.warmed, by show Hp T.heap; rw [hT]; exact hH⟩
  dsimp only [Pt.U, Pt.locs, Pt.cells, Pt.slots] at X' e1 e2 h1 h2 h3 hsteps
  subst h1; subst h2; subst h3
  exact ⟨v, (T.setVm vm₁).calling g' mk' (Value.ref b :: As).toArray, t, U', L, hT, X', hL, e1, e2, hq, fun target h => hstep₁ _ fun acts => by rw [doInvoke_state]; exact hsteps.trans h⟩
end
