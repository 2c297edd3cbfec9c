/-! BASE 2: contracts, the entry of a method, rows -/
set_option maxRecDepth 100000
/-- a contract's start: the arguments, the heap's size, what is known, what the heap holds -/
def ctP (E : CE) (av : List Value) (sz : Nat) (Hp : Heap → Prop) : Array Value → State → Prop := va_Pc av (fun U => U.heap.size = sz ∧ GK E U ∧ Hp U.heap)
/-- a contract's end: it returns v; post of v and the state; nothing outside A has changed -/
def ctQ (post : Option Value → Heap → Prop) (A : Nat → Prop) : Array Value → State → Outcome → State → Prop := fun _ st o t => (∃ v, o = .returned v ∧ post v t.heap) ∧ va_F A st t
/-- the heap is as it was -/
def ctR (post : Option Value → Prop) : Array Value → State → Outcome → State → Prop := fun _ st o t => (∃ v, o = .returned v ∧ post v) ∧ t.heap = st.heap
/-- what a walk leans on -/
def cx (p : Program) (s : State) (m : MethodId) (args : Array Value) (meth : Method) (c : Code) (cc : ByteArray) (own : String) (nL : Nat) (ret : Option FieldType) (nm : String) (E : CE) : Prop :=
  p.tables.exec = Jvm.exec ∧ c.code = cc ∧ s.vm.findClass own = some m.cls ∧ (∀ w ∈ lw_all, w.before args s = true) ∧ meth.sig.returnType = ret ∧ meth.locks = false ∧ c.maxLocals = nL ∧ meth.name = nm ∧ GK E s
section
variable {l : Launch} {E : CE}
theorem ct_start {y : MethodName} {cc : ByteArray} {maxL : Nat} {ret : Option FieldType} {rm : Room} {av : List Value} {sz : Nat} {Hp : Heap → Prop} {Qc : Array Value → State → Outcome → State → Prop} {mc ms : Nat} {free : Addr → Prop}
    (hy : plainName y.cls = true) (hn : (lg_sl av).length ≤ maxL)
    (body : ∀ (p : Program) (e : Env) (s : State) (m : MethodId) (below : List Frame) (meth : Method) (c : Code) (ls : Array Slot), cx p s m av.toArray meth c cc y.cls maxL ret y.name E → s.heap.size = sz → Hp s.heap → lv_has ls maxL (lv_args 0 av) →
      W p l e rm s m av.toArray below meth c s.heap [] 0 0 (MQ below Qc av.toArray s mc ms free) (F0 m 0 ls [])) : Met l y (ws_ y cc maxL ret) rm (ctP E av sz Hp) Qc mc ms free := by
  refine Met.ofW (cc := cc) (maxL := maxL) (ret := ret) hy rfl ?_
  intro p e s m args below meth c s₁ B hml hv
  obtain ⟨rfl, hsz, hG, hH⟩ := hv
  have hts := atoms_spec (ws := ws_ y cc maxL ret) B.pre
  have hts : ∀ w ∈ lw_all, w.before _ s = true := fun w h => hts w (List.mem_cons_of_mem _ h)
  have hl := lv_entry av (n := maxL) hn
  rw [lg_entry_eq]
  exact body p e s m below meth c _ ⟨B.exec, B.bytes, findClass_of_methodNamed B.named, hts, B.returns, B.notSynchronized, hml, (name_of_methodNamed B.named B.method).1, hG⟩ hsz hH hl
theorem ct_blind {av : List Value} {sz : Nat} {Hp : Heap → Prop} : FrameBlind (ctP E av sz Hp) := by
  intro a U g mk q
  obtain ⟨q0, q1, q2, q3⟩ := q
  exact ⟨q0, q1, q2.calling, q3⟩
end
section
variable {p : Program} {l : Launch} {e : Env} {R : Room} {s : State} {m : MethodId} {args : Array Value} {below : List Frame} {meth : Method} {c : Code} {H : Heap} {locs : List Loc} {cells slots : Nat} {Q : State → Prop}
variable {cc : ByteArray} {pc : Nat} {ls : Array Slot} {rest : List Value} {E : CE} {own nm : String} {nL : Nat} {ret : Option FieldType} {ws ws' : va_W} {A : Nat → Prop} {a : Nat}
/-- the world, apart, and what has changed since the start -/
def Hs (E : CE) (A : Nat → Prop) (H0 : Heap) (ws : va_W) (H : Heap) (locs : List Loc) : Prop := va_P E.1 ct_cl ws H ∧ va_D A ws ∧ va_S A H0 H locs
theorem ct_goto (B : cx p s m args meth c cc own nL ret nm E) {off : Int} {tgt : Nat} (hdg : decode cc pc = .ok (.goto off, 3)) (ht : (pc : Int) + off = (tgt : Int)) (k : W p l e R s m args below meth c H locs cells slots Q (F0 m tgt ls rest)) : W p l e R s m args below meth c H locs cells slots Q (F0 m pc ls rest) := lv_goto B.1 B.2.1 hdg ht k
/-- several roads come together -/
theorem ct_join {σ : Type} {P : σ → Prop} {g : σ → JFrame} {g0 : JFrame} (K : ∀ x, P x → W p l e R s m args below meth c H locs cells slots Q (g x)) (k : (∀ x, P x → W p l e R s m args below meth c H locs cells slots Q (g x)) → W p l e R s m args below meth c H locs cells slots Q g0) : W p l e R s m args below meth c H locs cells slots Q g0 := k K
/-- the same, where the heap has changed on the roads -/
theorem ct_joinH {σ : Type} {P : σ → Heap → List Loc → Array Slot → Prop} {g : σ → Array Slot → JFrame} {g0 : JFrame} {c1 s1 : Nat} (K : ∀ x H locs ls, P x H locs ls → W p l e R s m args below meth c H locs c1 s1 Q (g x ls)) (k : (∀ x H locs ls, P x H locs ls → W p l e R s m args below meth c H locs c1 s1 Q (g x ls)) → W p l e R s m args below meth c H locs cells slots Q g0) : W p l e R s m args below meth c H locs cells slots Q g0 := k K
/-- a loop: the heap stays -/
theorem ct_loop {σ : Type} (I : σ → Array Slot → Prop) (μ : σ → Nat) {g : σ → Array Slot → JFrame} {x0 : σ} {ls0 : Array Slot}
    (step : ∀ x ls, I x ls → (∀ x' ls', μ x' < μ x → I x' ls' → W p l e R s m args below meth c H locs cells slots Q (g x' ls')) → W p l e R s m args below meth c H locs cells slots Q (g x ls))
    (h0 : I x0 ls0) : W p l e R s m args below meth c H locs cells slots Q (g x0 ls0) := by
  have key : ∀ (n : Nat) x ls, μ x < n → I x ls → W p l e R s m args below meth c H locs cells slots Q (g x ls) := by
    intro n
    induction n with
    | zero => intro x ls h; omega
    | succ n ih => intro x ls h hI; exact step x ls hI (fun x' ls' h1 h2 => ih x' ls' (by omega) h2)
  exact key (μ x0 + 1) x0 ls0 (by omega) h0
/-- a loop that changes the heap; c1, s1: how many cells and slots are made when it stands at x -/
theorem ct_loopH {σ : Type} (I : σ → Heap → List Loc → Array Slot → Prop) (μ : σ → Nat) (c1 s1 : σ → Nat) {g : σ → Array Slot → JFrame} {x0 : σ} {H0 : Heap} {locs0 : List Loc} {ls0 : Array Slot}
    (step : ∀ x H locs ls, I x H locs ls → (∀ x' H' locs' ls', μ x' < μ x → I x' H' locs' ls' → W p l e R s m args below meth c H' locs' (c1 x') (s1 x') Q (g x' ls')) → W p l e R s m args below meth c H locs (c1 x) (s1 x) Q (g x ls))
    (h0 : I x0 H0 locs0 ls0) : W p l e R s m args below meth c H0 locs0 (c1 x0) (s1 x0) Q (g x0 ls0) := by
  have key : ∀ (n : Nat) x H locs ls, μ x < n → I x H locs ls → W p l e R s m args below meth c H locs (c1 x) (s1 x) Q (g x ls) := by
    intro n
    induction n with
    | zero => intro x H locs ls h; omega
    | succ n ih => intro x H locs ls h hI; exact step x H locs ls hI (fun x' H' locs' ls' h1 h2 => ih x' H' locs' ls' (by omega) h2)
  exact key (μ x0 + 1) x0 H0 locs0 ls0 (by omega) h0
/-! ints that are numbers -/
theorem n_const {n : Nat} (h : n < 2147483648) : Int32.ofInt (n : Int) = nI n := by
  apply Int32.toInt_inj.mp
  rw [nI_toInt (by omega), Int32.toInt_ofInt_of_le (by omega) (by omega)]
theorem n_iadd (hx : p.tables.exec = Jvm.exec) (hb : c.code = cc) {i j : Nat} (hdg : decode cc pc = .ok (.iadd, 1))
    (k : W p l e R s m args below meth c H locs cells slots Q (F0 m (pc + 1) ls (.int (nI (i + j)) :: rest))) : W p l e R s m args below meth c H locs cells slots Q (F0 m pc ls (.int (nI j) :: .int (nI i) :: rest)) :=
  lv_iadd hx hb hdg (by rw [nI_add]; exact k)
theorem n_isub (hx : p.tables.exec = Jvm.exec) (hb : c.code = cc) {i j : Nat} (hle : j ≤ i) (hdg : decode cc pc = .ok (.isub, 1))
    (k : W p l e R s m args below meth c H locs cells slots Q (F0 m (pc + 1) ls (.int (nI (i - j)) :: rest))) : W p l e R s m args below meth c H locs cells slots Q (F0 m pc ls (.int (nI j) :: .int (nI i) :: rest)) :=
  lv_isub hx hb hdg (by rw [pk_sub hle]; exact k)
theorem n_imul (hx : p.tables.exec = Jvm.exec) (hb : c.code = cc) {i j : Nat} (hdg : decode cc pc = .ok (.imul, 1))
    (k : W p l e R s m args below meth c H locs cells slots Q (F0 m (pc + 1) ls (.int (nI (i * j)) :: rest))) : W p l e R s m args below meth c H locs cells slots Q (F0 m pc ls (.int (nI j) :: .int (nI i) :: rest)) :=
  lv_imul hx hb hdg (by rw [pk_mul]; exact k)
theorem n_iinc (hx : p.tables.exec = Jvm.exec) (hb : c.code = cc) {i nL k v n : Nat} {n' : Int} {lv lv' : List (Nat × Value)} (hdg : decode cc pc = .ok (.iinc i n', 3)) (h : lv_has ls nL lv) (hk : lv[k]? = some (i, .int (nI v))) (hv : n' = (n : Int)) (hv2 : n < 2147483648) (hn : i < nL) (hl : (i, Value.int (nI (v + n))) :: lv.filter (fun q => !(q.1 == i) && !(q.1 + 1 == i && q.2.category == 2)) = lv')
    (kk : ∀ ls : Array Slot, lv_has ls nL lv' → W p l e R s m args below meth c H locs cells slots Q (F0 m (pc + 3) ls rest)) : W p l e R s m args below meth c H locs cells slots Q (F0 m pc ls rest) :=
  lv_iinc hx hb hdg h hk (by rw [hv, n_const hv2, nI_add]) hn hl kk
theorem n_icmp_lt (hx : p.tables.exec = Jvm.exec) (hb : c.code = cc) {i j : Nat} {off : Int} {tgt : Nat} (hdg : decode cc pc = .ok (.if_icmp .lt off, 3)) (ht : (pc : Int) + off = (tgt : Int)) (hi : i < 2147483648) (hj : j < 2147483648)
    (kt : i < j → W p l e R s m args below meth c H locs cells slots Q (F0 m tgt ls rest)) (kf : j ≤ i → W p l e R s m args below meth c H locs cells slots Q (F0 m (pc + 3) ls rest)) : W p l e R s m args below meth c H locs cells slots Q (F0 m pc ls (.int (nI j) :: .int (nI i) :: rest)) :=
  lv_icmp_lt hx hb hdg ht (fun h => kt ((nI_ltI hi hj).mp h)) (fun h => kf (Nat.not_lt.mp (fun q => h ((nI_ltI hi hj).mpr q))))
theorem n_icmp_ge (hx : p.tables.exec = Jvm.exec) (hb : c.code = cc) {i j : Nat} {off : Int} {tgt : Nat} (hdg : decode cc pc = .ok (.if_icmp .ge off, 3)) (ht : (pc : Int) + off = (tgt : Int)) (hi : i < 2147483648) (hj : j < 2147483648)
    (kt : j ≤ i → W p l e R s m args below meth c H locs cells slots Q (F0 m tgt ls rest)) (kf : i < j → W p l e R s m args below meth c H locs cells slots Q (F0 m (pc + 3) ls rest)) : W p l e R s m args below meth c H locs cells slots Q (F0 m pc ls (.int (nI j) :: .int (nI i) :: rest)) :=
  lv_icmp_ge hx hb hdg ht (fun h => kt ((nI_leI hj hi).mp h)) (fun h => kf (Nat.not_le.mp (fun q => h ((nI_leI hj hi).mpr q))))
theorem n_icmp_gt (hx : p.tables.exec = Jvm.exec) (hb : c.code = cc) {i j : Nat} {off : Int} {tgt : Nat} (hdg : decode cc pc = .ok (.if_icmp .gt off, 3)) (ht : (pc : Int) + off = (tgt : Int)) (hi : i < 2147483648) (hj : j < 2147483648)
    (kt : j < i → W p l e R s m args below meth c H locs cells slots Q (F0 m tgt ls rest)) (kf : i ≤ j → W p l e R s m args below meth c H locs cells slots Q (F0 m (pc + 3) ls rest)) : W p l e R s m args below meth c H locs cells slots Q (F0 m pc ls (.int (nI j) :: .int (nI i) :: rest)) :=
  lv_icmp_gt hx hb hdg ht (fun h => kt ((nI_ltI hj hi).mp h)) (fun h => kf (Nat.not_lt.mp (fun q => h ((nI_ltI hj hi).mpr q))))
theorem n_icmp_le (hx : p.tables.exec = Jvm.exec) (hb : c.code = cc) {i j : Nat} {off : Int} {tgt : Nat} (hdg : decode cc pc = .ok (.if_icmp .le off, 3)) (ht : (pc : Int) + off = (tgt : Int)) (hi : i < 2147483648) (hj : j < 2147483648)
    (kt : i ≤ j → W p l e R s m args below meth c H locs cells slots Q (F0 m tgt ls rest)) (kf : j < i → W p l e R s m args below meth c H locs cells slots Q (F0 m (pc + 3) ls rest)) : W p l e R s m args below meth c H locs cells slots Q (F0 m pc ls (.int (nI j) :: .int (nI i) :: rest)) :=
  lv_icmp_le hx hb hdg ht (fun h => kt ((nI_leI hi hj).mp h)) (fun h => kf (Nat.not_le.mp (fun q => h ((nI_leI hi hj).mpr q))))
theorem n_icmp_eq (hx : p.tables.exec = Jvm.exec) (hb : c.code = cc) {i j : Nat} {off : Int} {tgt : Nat} (hdg : decode cc pc = .ok (.if_icmp .eq off, 3)) (ht : (pc : Int) + off = (tgt : Int)) (hi : i < 2147483648) (hj : j < 2147483648)
    (kt : i = j → W p l e R s m args below meth c H locs cells slots Q (F0 m tgt ls rest)) (kf : i ≠ j → W p l e R s m args below meth c H locs cells slots Q (F0 m (pc + 3) ls rest)) : W p l e R s m args below meth c H locs cells slots Q (F0 m pc ls (.int (nI j) :: .int (nI i) :: rest)) :=
  lv_icmp_eq hx hb hdg ht (fun h => kt ((nI_eq hi hj).mp h)) (fun h => kf (fun q => h ((nI_eq hi hj).mpr q)))
theorem n_icmp_ne (hx : p.tables.exec = Jvm.exec) (hb : c.code = cc) {i j : Nat} {off : Int} {tgt : Nat} (hdg : decode cc pc = .ok (.if_icmp .ne off, 3)) (ht : (pc : Int) + off = (tgt : Int)) (hi : i < 2147483648) (hj : j < 2147483648)
    (kt : i ≠ j → W p l e R s m args below meth c H locs cells slots Q (F0 m tgt ls rest)) (kf : i = j → W p l e R s m args below meth c H locs cells slots Q (F0 m (pc + 3) ls rest)) : W p l e R s m args below meth c H locs cells slots Q (F0 m pc ls (.int (nI j) :: .int (nI i) :: rest)) :=
  lv_icmp_ne hx hb hdg ht (fun h => kt (fun q => h ((nI_eq hi hj).mpr q))) (fun h => kf ((nI_eq hi hj).mp h))
theorem n_if_eq (hx : p.tables.exec = Jvm.exec) (hb : c.code = cc) {i : Nat} {off : Int} {tgt : Nat} (hdg : decode cc pc = .ok (.ifCond .eq off, 3)) (ht : (pc : Int) + off = (tgt : Int)) (hi : i < 2147483648)
    (kt : i = 0 → W p l e R s m args below meth c H locs cells slots Q (F0 m tgt ls rest)) (kf : i ≠ 0 → W p l e R s m args below meth c H locs cells slots Q (F0 m (pc + 3) ls rest)) : W p l e R s m args below meth c H locs cells slots Q (F0 m pc ls (.int (nI i) :: rest)) :=
  lv_if_eq hx hb hdg ht (fun h => kt ((nI_eq hi (by omega)).mp (h.trans nI_0.symm))) (fun h => kf (fun q => h (by rw [q]; exact nI_0)))
theorem n_if_ne (hx : p.tables.exec = Jvm.exec) (hb : c.code = cc) {i : Nat} {off : Int} {tgt : Nat} (hdg : decode cc pc = .ok (.ifCond .ne off, 3)) (ht : (pc : Int) + off = (tgt : Int)) (hi : i < 2147483648)
    (kt : i ≠ 0 → W p l e R s m args below meth c H locs cells slots Q (F0 m tgt ls rest)) (kf : i = 0 → W p l e R s m args below meth c H locs cells slots Q (F0 m (pc + 3) ls rest)) : W p l e R s m args below meth c H locs cells slots Q (F0 m pc ls (.int (nI i) :: rest)) :=
  lv_if_ne hx hb hdg ht (fun h => kt (fun q => h (by rw [q]; exact nI_0))) (fun h => kf ((nI_eq hi (by omega)).mp (h.trans nI_0.symm)))
theorem n_if_le (hx : p.tables.exec = Jvm.exec) (hb : c.code = cc) {i : Nat} {off : Int} {tgt : Nat} (hdg : decode cc pc = .ok (.ifCond .le off, 3)) (ht : (pc : Int) + off = (tgt : Int)) (hi : i < 2147483648)
    (kt : i = 0 → W p l e R s m args below meth c H locs cells slots Q (F0 m tgt ls rest)) (kf : 0 < i → W p l e R s m args below meth c H locs cells slots Q (F0 m (pc + 3) ls rest)) : W p l e R s m args below meth c H locs cells slots Q (F0 m pc ls (.int (nI i) :: rest)) :=
  lv_if_le hx hb hdg ht (fun h => kt (by rcases Nat.eq_zero_or_pos i with q | q; exact q; exact absurd h (nI_nle q hi))) (fun h => kf (by rcases Nat.eq_zero_or_pos i with q | q; exact absurd (by rw [q, nI_0]; decide) h; exact q))
theorem n_if_lt (hx : p.tables.exec = Jvm.exec) (hb : c.code = cc) {i : Nat} {off : Int} (hdg : decode cc pc = .ok (.ifCond .lt off, 3)) (hi : i < 2147483648)
    (kf : W p l e R s m args below meth c H locs cells slots Q (F0 m (pc + 3) ls rest)) (ht : ((pc : Int) + off).toNat = ((pc : Int) + off) := by decide) : W p l e R s m args below meth c H locs cells slots Q (F0 m pc ls (.int (nI i) :: rest)) :=
  lv_if_lt (tgt := ((pc : Int) + off).toNat) hx hb hdg ht.symm (fun h => absurd h (nI_pos hi)) (fun _ => kf)
theorem n_if_ge (hx : p.tables.exec = Jvm.exec) (hb : c.code = cc) {i : Nat} {off : Int} {tgt : Nat} (hdg : decode cc pc = .ok (.ifCond .ge off, 3)) (ht : (pc : Int) + off = (tgt : Int)) (hi : i < 2147483648)
    (kt : W p l e R s m args below meth c H locs cells slots Q (F0 m tgt ls rest)) : W p l e R s m args below meth c H locs cells slots Q (F0 m pc ls (.int (nI i) :: rest)) :=
  lv_if_ge hx hb hdg ht (fun _ => kt) (fun h => absurd (nI_pos' hi) h)
/-! fields and arrays -/
theorem ct_get (B : cx p s m args meth c cc own nL ret nm E) (hP : va_P E.1 ct_cl ws H) {ci : Nat} {C : String} {T : u_T} {N index : Nat} {ty : Nat → FieldType} (K : ct_C ci C T N ty) (q0 : Nat) {fs : List Value} (he : ws[q0]? = some (a, .inr (ci, fs))) (k : Nat) (hk : k < N) (hl : Cond.fieldLink own index (T k).1 (T k).2.1 (T k).2.2.1 ∈ lw_all) {v : Value} (hv : fs[k]? = some v) (hdg : decode cc pc = .ok (.getfield index, 3))
    (kk : W p l e R s m args below meth c H locs cells slots Q (F0 m (pc + 3) ls (v :: rest))) : W p l e R s m args below meth c H locs cells slots Q (F0 m pc ls (.ref a :: rest)) :=
  va_get B.1 B.2.1 B.2.2.2.1 K.2.1 B.2.2.1 B.2.2.2.2.2.2.2.2.1 hP q0 he K.1 k hk (B.2.2.2.1 _ hl) (fun _ h => h) hv hdg kk
theorem ct_put (B : cx p s m args meth c cc own nL ret nm E) (h : Hs E A s.heap ws H locs) {ci : Nat} {C : String} {T : u_T} {N index : Nat} {ty : Nat → FieldType} (K : ct_C ci C T N ty) (q0 : Nat) {fs : List Value} (he : ws[q0]? = some (a, .inr (ci, fs))) (k : Nat) (hk : k < N) (hl : Cond.fieldLink own index (T k).1 (T k).2.1 (T k).2.2.1 ∈ lw_all) (hfin : (T k).2.2.2 = false) {v : Value} (hn : narrow (ty k) v = v) (hfit : fits (ty k) v = true) (hlen : k < fs.length) (hw : ws.set q0 (a, .inr (ci, fs.set k v)) = ws')
    (hdg : decode cc pc = .ok (.putfield index, 3)) (kk : ∀ (H : Heap) (locs : List Loc), Hs E A s.heap ws' H locs → W p l e R s m args below meth c H locs cells slots Q (F0 m (pc + 3) ls rest)) : W p l e R s m args below meth c H locs cells slots Q (F0 m pc ls (v :: .ref a :: rest)) :=
  va_put B.1 B.2.1 B.2.2.2.1 K.2.1 ty K.2.2.1 K.2.2.2 B.2.2.1 B.2.2.2.2.2.2.2.2.1 h.1 h.2.1 h.2.2 q0 he K.1 k hk (B.2.2.2.1 _ hl) (fun _ h => h) hfin (K.2.2.1 k hk) hn hfit hlen hdg (fun H1 locs1 h1 h2 h3 => kk H1 locs1 (by subst hw; exact ⟨h1, h2, h3⟩))
theorem ct_putF (B : cx p s m args meth c cc own nL ret "<init>" E) (h : Hs E A s.heap ws H locs) {ci : Nat} {T : u_T} {N index : Nat} {ty : Nat → FieldType} (K : ct_C ci own T N ty) (q0 : Nat) {fs : List Value} (he : ws[q0]? = some (a, .inr (ci, fs))) (k : Nat) (hk : k < N) (hl : Cond.fieldLink own index (T k).1 (T k).2.1 (T k).2.2.1 ∈ lw_all) (hfin : (T k).2.2.2 = true) (ho : (T k).1 = own) {v : Value} (hn : narrow (ty k) v = v) (hfit : fits (ty k) v = true) (hlen : k < fs.length) (hw : ws.set q0 (a, .inr (ci, fs.set k v)) = ws')
    (hdg : decode cc pc = .ok (.putfield index, 3)) (kk : ∀ (H : Heap) (locs : List Loc), Hs E A s.heap ws' H locs → W p l e R s m args below meth c H locs cells slots Q (F0 m (pc + 3) ls rest)) : W p l e R s m args below meth c H locs cells slots Q (F0 m pc ls (v :: .ref a :: rest)) :=
  va_putF B.1 B.2.1 B.2.2.2.1 K.2.1 ty K.2.2.1 K.2.2.2 B.2.2.1 B.2.2.2.2.2.2.2.2.1 h.1 h.2.1 h.2.2 q0 he K.1 k hk (B.2.2.2.1 _ hl) (fun _ h => h) hfin B.2.2.2.2.2.2.2.1 ho (K.2.2.1 k hk) hn hfit hlen hdg (fun H1 locs1 h1 h2 h3 => kk H1 locs1 (by subst hw; exact ⟨h1, h2, h3⟩))
theorem ct_cl' {n i : Nat} (hi : i < n) (hn : n < 2147483648) : (nI i).toNatClampNeg = i := nI_clamp (by omega)
theorem ct_bald (B : cx p s m args meth c cc own nL ret nm E) (hP : va_P E.1 ct_cl ws H) (q0 : Nat) {n i : Nat} {f : Nat → Int32} (ha : ws[q0]? = some (a, .inl (E.2.1 0, n, .inl f))) (hi : i < n) (hn : n < 2147483648) (hdg : decode cc pc = .ok (.baload, 1))
    (kk : W p l e R s m args below meth c H locs cells slots Q (F0 m (pc + 1) ls (.int (f i) :: rest))) : W p l e R s m args below meth c H locs cells slots Q (F0 m pc ls (.int (nI i) :: .ref a :: rest)) :=
  va_bald B.1 B.2.1 B.2.2.2.2.2.2.2.2.1 hP q0 0 ha rfl (vp_in_nI hi (by omega)) hdg (by rw [ct_cl' hi hn]; exact kk)
theorem ct_iald (B : cx p s m args meth c cc own nL ret nm E) (hP : va_P E.1 ct_cl ws H) (q0 : Nat) {n i : Nat} {f : Nat → Int32} (ha : ws[q0]? = some (a, .inl (E.2.1 1, n, .inl f))) (hi : i < n) (hn : n < 2147483648) (hdg : decode cc pc = .ok (.iaload, 1))
    (kk : W p l e R s m args below meth c H locs cells slots Q (F0 m (pc + 1) ls (.int (f i) :: rest))) : W p l e R s m args below meth c H locs cells slots Q (F0 m pc ls (.int (nI i) :: .ref a :: rest)) :=
  va_iald B.1 B.2.1 B.2.2.2.2.2.2.2.2.1 hP q0 1 ha rfl (vp_in_nI hi (by omega)) hdg (by rw [ct_cl' hi hn]; exact kk)
theorem ct_lald (B : cx p s m args meth c cc own nL ret nm E) (hP : va_P E.1 ct_cl ws H) (q0 : Nat) {n i : Nat} {f : Nat → Int64} (ha : ws[q0]? = some (a, .inl (E.2.1 2, n, .inr (.inl f)))) (hi : i < n) (hn : n < 2147483648) (hdg : decode cc pc = .ok (.laload, 1))
    (kk : W p l e R s m args below meth c H locs cells slots Q (F0 m (pc + 1) ls (.long (f i) :: rest))) : W p l e R s m args below meth c H locs cells slots Q (F0 m pc ls (.int (nI i) :: .ref a :: rest)) :=
  va_lald B.1 B.2.1 B.2.2.2.2.2.2.2.2.1 hP q0 2 ha rfl (vp_in_nI hi (by omega)) hdg (by rw [ct_cl' hi hn]; exact kk)
/-- references: t is the place of the array's class (3, 4, 5) -/
theorem ct_aald (B : cx p s m args meth c cc own nL ret nm E) (hP : va_P E.1 ct_cl ws H) (q0 t : Nat) {C : String} {n i : Nat} {f : Nat → Option Nat} (ht : (ct_tys E)[t]? = some (E.2.1 t, .object C)) (ha : ws[q0]? = some (a, .inl (E.2.1 t, n, .inr (.inr (.inr (.inr f)))))) (hi : i < n) (hn : n < 2147483648) (hdg : decode cc pc = .ok (.aaload, 1))
    (kk : W p l e R s m args below meth c H locs cells slots Q (F0 m (pc + 1) ls (va_rf (f i) :: rest))) : W p l e R s m args below meth c H locs cells slots Q (F0 m pc ls (.int (nI i) :: .ref a :: rest)) :=
  va_aldq B.1 B.2.1 B.2.2.2.2.2.2.2.2.1 hP q0 t ha ht (vp_in_nI hi (by omega)) hdg (by rw [ct_cl' hi hn]; exact kk)
theorem ct_bast (B : cx p s m args meth c cc own nL ret nm E) (h : Hs E A s.heap ws H locs) (q0 : Nat) {n i : Nat} {x : Int32} {f : Nat → Int32} (ha : ws[q0]? = some (a, .inl (E.2.1 0, n, .inl f))) (hi : i < n) (hn : n < 2147483648) (hw : ws.set q0 (a, .inl (E.2.1 0, n, .inl (upd f i (vp_nar .byte x)))) = ws') (hdg : decode cc pc = .ok (.bastore, 1))
    (kk : ∀ (H : Heap) (locs : List Loc), Hs E A s.heap ws' H locs → W p l e R s m args below meth c H locs cells slots Q (F0 m (pc + 1) ls rest)) : W p l e R s m args below meth c H locs cells slots Q (F0 m pc ls (.int x :: .int (nI i) :: .ref a :: rest)) :=
  va_bast B.1 B.2.1 B.2.2.2.2.2.2.2.2.1 h.1 h.2.1 h.2.2 q0 0 ha rfl (vp_in_nI hi (by omega)) hdg (fun H1 locs1 h1 h2 h3 => kk H1 locs1 (by subst hw; rw [ct_cl' hi hn] at h1 h2; exact ⟨h1, h2, h3⟩))
theorem ct_iast (B : cx p s m args meth c cc own nL ret nm E) (h : Hs E A s.heap ws H locs) (q0 : Nat) {n i : Nat} {x : Int32} {f : Nat → Int32} (ha : ws[q0]? = some (a, .inl (E.2.1 1, n, .inl f))) (hi : i < n) (hn : n < 2147483648) (hw : ws.set q0 (a, .inl (E.2.1 1, n, .inl (upd f i x))) = ws') (hdg : decode cc pc = .ok (.iastore, 1))
    (kk : ∀ (H : Heap) (locs : List Loc), Hs E A s.heap ws' H locs → W p l e R s m args below meth c H locs cells slots Q (F0 m (pc + 1) ls rest)) : W p l e R s m args below meth c H locs cells slots Q (F0 m pc ls (.int x :: .int (nI i) :: .ref a :: rest)) :=
  va_iast B.1 B.2.1 B.2.2.2.2.2.2.2.2.1 h.1 h.2.1 h.2.2 q0 1 ha rfl (vp_in_nI hi (by omega)) hdg (fun H1 locs1 h1 h2 h3 => kk H1 locs1 (by subst hw; rw [ct_cl' hi hn] at h1 h2; exact ⟨h1, h2, h3⟩))
theorem ct_last (B : cx p s m args meth c cc own nL ret nm E) (h : Hs E A s.heap ws H locs) (q0 : Nat) {n i : Nat} {x : Int64} {f : Nat → Int64} (ha : ws[q0]? = some (a, .inl (E.2.1 2, n, .inr (.inl f)))) (hi : i < n) (hn : n < 2147483648) (hw : ws.set q0 (a, .inl (E.2.1 2, n, .inr (.inl (vp_updL f i x)))) = ws') (hdg : decode cc pc = .ok (.lastore, 1))
    (kk : ∀ (H : Heap) (locs : List Loc), Hs E A s.heap ws' H locs → W p l e R s m args below meth c H locs cells slots Q (F0 m (pc + 1) ls rest)) : W p l e R s m args below meth c H locs cells slots Q (F0 m pc ls (.long x :: .int (nI i) :: .ref a :: rest)) :=
  va_last B.1 B.2.1 B.2.2.2.2.2.2.2.2.1 h.1 h.2.1 h.2.2 q0 2 ha rfl (vp_in_nI hi (by omega)) hdg (fun H1 locs1 h1 h2 h3 => kk H1 locs1 (by subst hw; rw [ct_cl' hi hn] at h1 h2; exact ⟨h1, h2, h3⟩))
theorem ct_alen (B : cx p s m args meth c cc own nL ret nm E) (hP : va_P E.1 ct_cl ws H) (q0 t : Nat) {cA : ClassId} {x : vp_A} {ty : FieldType} (ha : ws[q0]? = some (a, .inl (cA, x))) (ht : (ct_tys E)[t]? = some (cA, ty)) (hdg : decode cc pc = .ok (.arraylength, 1))
    (kk : W p l e R s m args below meth c H locs cells slots Q (F0 m (pc + 1) ls (.int (nI x.1) :: rest))) : W p l e R s m args below meth c H locs cells slots Q (F0 m pc ls (.ref a :: rest)) :=
  va_alen (v := nI x.1) B.1 B.2.1 B.2.2.2.2.2.2.2.2.1 hP q0 t ha ht rfl hdg kk
/-- a new array of bytes, ints or longs: t its class's place -/
theorem ct_newa (B : cx p s m args meth c cc own nL ret nm E) (h : Hs E A s.heap ws H locs) (hA : ∀ q, s.heap.size ≤ q → A q) {atype : ArrayType} {ty : FieldType} (t : Nat) (hty : newarray.typeOf atype = ty) (harr : Cond.arrayClass (newarray.typeOf atype) ∈ lw_all) (ht : (ct_tys E)[t]? = some (E.2.1 t, ty)) (hp : va_RA s (E.2.1 t) ty = (s.vm.findClass ("[" ++ ty.toString) = some (E.2.1 t)))
    {n : Nat} {a0 : vp_A} (ha : ∀ cA : ClassId, vp_cell cA a0 = arrV cA n (fun _ => defaultValue ty)) (hn : n < 2147483648) (hbytes : n * componentBytes ty ≤ 536870912) (hcells : cells + 1 ≤ R.cells) (hslots : slots + n ≤ R.slots) (hdg : decode cc pc = .ok (.newarray atype, 2))
    (kk : ∀ (q : Nat) (H : Heap), Hs E A s.heap (ws ++ [(q, .inl (E.2.1 t, a0))]) H locs → s.heap.size ≤ q → W p l e R s m args below meth c H locs (cells + 1) (slots + n) Q (F0 m (pc + 2) ls (.ref q :: rest))) : W p l e R s m args below meth c H locs cells slots Q (F0 m pc ls (.int (nI n) :: rest)) := by
  have hK := B.2.2.2.2.2.2.2.2.1
  subst hty
  refine va_newaK B.1 B.2.1 (B.2.2.2.1 _ harr) rfl hdg rfl (nI_pos (by omega)) (nI_clamp (by omega)) hbytes hcells hslots rfl fun H1 cA e1 z1 o1 hAr hNm => ?_
  have hc : cA = E.2.1 t := by
    have h1 := (hK.2 t _ ht).2
    rw [hp] at h1
    exact Option.some.inj (hNm.symm.trans h1)
  subst hc
  have hk : ∀ (k : Nat) (x : Nat × va_E), ws[k]? = some x → H1[x.1]? = H[x.1]? := fun k x hx => o1 x.1 ((h.1 k x hx).lt)
  refine kk H.size H1 ⟨(h.1.kept hk).app (fun k x hx => ?_), h.2.1.push h.1 rfl (hA _ h.2.2.1), ⟨Nat.le_trans h.2.2.1 (by omega), fun x h1 h2 => (o1 x (Nat.lt_of_lt_of_le h1 h.2.2.1)).trans (h.2.2.2.1 x h1 h2), h.2.2.2.2⟩⟩ h.2.2.1
  have hz : k < 1 := (List.getElem?_eq_some_iff.mp hx).1
  rw [show k = 0 by omega] at hx
  cases hx
  show H1[H.size]? = some (vp_cell _ _)
  rw [ha]
  exact e1
theorem ct_new (B : cx p s m args meth c cc own nL ret nm E) (h : Hs E A s.heap ws H locs) (hA : ∀ q, s.heap.size ≤ q → A q) {ci : Nat} {C : String} {T : u_T} {N index : Nat} {ty : Nat → FieldType} (K : ct_C ci C T N ty) (hcl : Cond.classLink own index C ∈ lw_all) (hinst : Cond.instantiable C N ∈ lw_all) (hini : Cond.initialized C ∈ lw_all) {fs : List Value} (hfs : ∀ j, j < N → defaultValue (ty j) = vp_V fs j) (hcells : cells + 1 ≤ R.cells) (hslots : slots + N ≤ R.slots) (hdg : decode cc pc = .ok (.new index, 3))
    (kk : ∀ (q : Nat) (H : Heap), Hs E A s.heap (ws ++ [(q, .inr (ci, fs))]) H locs → s.heap.size ≤ q → W p l e R s m args below meth c H locs (cells + 1) (slots + N) Q (F0 m (pc + 3) ls (.ref q :: rest))) : W p l e R s m args below meth c H locs cells slots Q (F0 m pc ls rest) := by
  have hK := B.2.2.2.2.2.2.2.2.1
  have hKn := hK.1 ci _ K.1
  refine W.newcK B.1 B.2.1 B.2.2.1 (B.2.2.2.1 _ hcl) (B.2.2.2.1 _ hinst) (B.2.2.2.1 _ hini) rfl hdg hcells hslots hKn.2.1 rfl fun H1 kC hkC e1 z1 o1 => ?_
  have hk : ∀ (k : Nat) (x : Nat × va_E), ws[k]? = some x → H1[x.1]? = H[x.1]? := fun k x hx => o1 x.1 ((h.1 k x hx).lt)
  refine kk H.size H1 ⟨(h.1.kept hk).app (fun k x hx => ?_), h.2.1.push h.1 rfl (hA _ h.2.2.1), ⟨Nat.le_trans h.2.2.1 (by omega), fun x h1 h2 => (o1 x (Nat.lt_of_lt_of_le h1 h.2.2.1)).trans (h.2.2.2.1 x h1 h2), h.2.2.2.2⟩⟩ h.2.2.1
  have hz : k < 1 := (List.getElem?_eq_some_iff.mp hx).1
  rw [show k = 0 by omega] at hx
  cases hx
  exact ⟨_, K.1, (u_born ty B.2.2.2.1 K.2.1 hKn hkC e1 K.2.2.1).to hfs⟩
/-! the end of a method -/
theorem ct_ret {post : Option Value → Heap → Prop} {v : Option Value} (hS : va_S A s.heap H locs) (hp : post v H) : ∀ t : State, t.heap = H → s.WarmedH t.vm → ctQ post A args s (.returned v) t := fun t ht _ => ⟨⟨v, rfl, by rw [ht]; exact hp⟩, hS.F ht⟩
theorem ct_retR {post : Option Value → Prop} {v : Option Value} (hp : post v) : ∀ t : State, t.heap = s.heap → s.WarmedH t.vm → ctR post args s (.returned v) t := fun _ ht _ => ⟨⟨v, rfl, hp⟩, ht⟩
theorem ct_iretR (B : cx p s m args meth c cc own nL ret nm E) {post : Option Value → Prop} {v : Int32} {ty : FieldType} (hr : ret = some ty) (hn : narrow ty (.int v) = .int v) (hp : post (some (.int v))) (hdg : decode cc pc = .ok (.ireturn, 1)) : W p l e R s m args below meth c s.heap [] cells slots (MQ below (ctR post) args s cells slots (fun _ => False)) (F0 m pc ls [.int v]) :=
  W.zret B.1 B.2.1 (B.2.2.2.2.1.trans hr) hn (ct_retR hp) (fun _ h => by cases h) hdg (hlocks := B.2.2.2.2.2.1)
theorem ct_lretR (B : cx p s m args meth c cc own nL (some .long) nm E) {post : Option Value → Prop} {v : Int64} (hp : post (some (.long v))) (hdg : decode cc pc = .ok (.lreturn, 1)) : W p l e R s m args below meth c s.heap [] cells slots (MQ below (ctR post) args s cells slots (fun _ => False)) (F0 m pc ls [.long v]) :=
  W.lret B.1 B.2.1 B.2.2.2.2.1 (ct_retR hp) (fun _ h => by cases h) hdg (hlocks := B.2.2.2.2.2.1)
theorem ct_iret (B : cx p s m args meth c cc own nL ret nm E) {post : Option Value → Heap → Prop} {v : Int32} {ty : FieldType} (hr : ret = some ty) (hn : narrow ty (.int v) = .int v) (hS : va_S A s.heap H locs) (hp : post (some (.int v)) H) (hdg : decode cc pc = .ok (.ireturn, 1)) : W p l e R s m args below meth c H locs cells slots (MQ below (ctQ post A) args s cells slots A) (F0 m pc ls [.int v]) :=
  W.zret B.1 B.2.1 (B.2.2.2.2.1.trans hr) hn (ct_ret hS hp) hS.2.2 hdg (hlocks := B.2.2.2.2.2.1)
theorem ct_vret (B : cx p s m args meth c cc own nL none nm E) {post : Option Value → Heap → Prop} (hS : va_S A s.heap H locs) (hp : post none H) (hdg : decode cc pc = .ok (.return_, 1)) : W p l e R s m args below meth c H locs cells slots (MQ below (ctQ post A) args s cells slots A) (F0 m pc ls []) :=
  W.vret B.1 B.2.1 B.2.2.2.2.1 (ct_ret hS hp) hS.2.2 hdg (hlocks := B.2.2.2.2.2.1)
theorem ct_aret {nmR : String} (B : cx p s m args meth c cc own nL (some (.object nmR)) nm E) {post : Option Value → Heap → Prop} {r : Option Nat} (hS : va_S A s.heap H locs) (hp : post (some (va_rf r)) H) (hdg : decode cc pc = .ok (.areturn, 1)) : W p l e R s m args below meth c H locs cells slots (MQ below (ctQ post A) args s cells slots A) (F0 m pc ls [va_rf r]) :=
  W.aret B.1 B.2.1 B.2.2.2.2.1 (Or.inl ⟨_, rfl⟩) (by cases r with | none => exact Or.inl rfl | some x => exact Or.inr ⟨x, rfl⟩) (ct_ret hS hp) hS.2.2 hdg (hlocks := B.2.2.2.2.2.1)
/-! calls -/
/-- what a call's room must be -/
def ct_room (R rm : Room) (maxL mc ms cells slots : Nat) : Prop := rm.cells = mc ∧ rm.slots = ms ∧ rm.frames + 1 ≤ R.frames ∧ 8 + (maxL + 11) + rm.locals ≤ R.locals ∧ cells + mc ≤ R.cells ∧ slots + ms ≤ R.slots
def ct_desc (y : MethodName) (n : Nat) : Prop := y.cls ≠ "java/lang/invoke/MethodHandle" ∧ y.cls ≠ "java/lang/invoke/VarHandle" ∧ (parseMethodDescriptor y.desc).map (fun d => d.parameters.length) = some n
section
variable {y : MethodName} {bytes : ByteArray} {maxL : Nat} {ry : Option FieldType} {rm : Room} {As : List Value} {b index mc ms : Nat} {Hp : Heap → Prop} {Qc : Array Value → State → Outcome → State → Prop} {free : Addr → Prop}
theorem ct_runV (B : cx p s m args meth c cc own nL ret nm E) (hM : Met l y (ws_ y bytes maxL ry) rm (ctP E (.ref b :: As) H.size Hp) Qc mc ms free) (hw : GoodIn lw_all (wsV own index y.cls y (ws_ y bytes maxL ry))) {n : Nat} (hd : ct_desc y n) (hn : As.length = n) (hR : ct_room R rm maxL mc ms cells slots)
    (hS : va_S A s.heap H locs) (hA : ∀ q, A q → E.2.2.1 ≤ q) (hrecv : ∃ cellB : Cell, H[b]? = some cellB ∧ cellB.vm.isStatics = false ∧ s.vm.findClass y.cls = some cellB.cls) (hH : Hp H) (hl : ls.size = nL) (hrest : (rest.map fun v => v.category).sum ≤ 8) (hdg : decode cc pc = .ok (.invokevirtual index, 3)) :
    va_Run p l e R s m args below meth c H locs cells slots mc ms (F0 m pc ls (As.reverse ++ .ref b :: rest)) rest (Qc (Value.ref b :: As).toArray) free := by
  obtain ⟨r1, r2, r3, r4, r5, r6⟩ := hR
  refine va_runV (C := y.cls) (As := As) (rest := rest) ⟨B.1, B.2.1, B.2.2.2.2.2.2.1, B.2.2.1, B.2.2.2.1⟩ hM (cwV n B.2.2.2.1 hw rfl r1 r2 ⟨rfl, hd⟩ ⟨r3, r4⟩) ⟨ct_blind, hrecv, fun U hU hW => ⟨rfl, by rw [hU], B.2.2.2.2.2.2.2.2.go hS hA hU hW, by rw [hU]; exact hH⟩⟩ rfl hn hl rfl (lv_room hrest) hdg ⟨r5, r6⟩
theorem ct_runS (B : cx p s m args meth c cc own nL ret nm E) (hM : Met l y (ws_ y bytes maxL ry) rm (ctP E As H.size Hp) Qc mc ms free) (hw : GoodIn lw_all (va_wsS own index y (ws_ y bytes maxL ry))) {n : Nat} (hd : ct_desc y n) (hn : As.length = n) (hR : ct_room R rm maxL mc ms cells slots)
    (hS : va_S A s.heap H locs) (hA : ∀ q, A q → E.2.2.1 ≤ q) (hH : Hp H) (hl : ls.size = nL) (hrest : (rest.map fun v => v.category).sum ≤ 8) (hdg : decode cc pc = .ok (.invokestatic index, 3)) :
    va_Run p l e R s m args below meth c H locs cells slots mc ms (F0 m pc ls (As.reverse ++ rest)) rest (Qc As.toArray) free := by
  obtain ⟨r1, r2, r3, r4, r5, r6⟩ := hR
  refine va_runS (As := As) (rest := rest) ⟨B.1, B.2.1, B.2.2.2.2.2.2.1, B.2.2.1, B.2.2.2.1⟩ hM (va_cwS n B.2.2.2.1 hw rfl r1 r2 hd ⟨r3, r4⟩) ⟨ct_blind, fun U hU hW => ⟨rfl, by rw [hU], B.2.2.2.2.2.2.2.2.go hS hA hU hW, by rw [hU]; exact hH⟩⟩ rfl hn hl rfl (lv_room hrest) hdg ⟨r5, r6⟩
theorem ct_runI (B : cx p s m args meth c cc own nL ret nm E) (hM : Met l y (ws_ y bytes maxL none) rm (ctP E (.ref b :: As) H.size Hp) Qc mc ms free) (hcode : Cond.code y bytes maxL none ∈ lw_all) (hini : Cond.initialized y.cls ∈ lw_all) (hlk : Cond.methodLink own index y ∈ lw_all) (hin : Cond.instanceMethod y ∈ lw_all) (hy1 : y.name = "<init>") {n : Nat} (hd : ct_desc y n) (hn : As.length = n) (hR : ct_room R rm maxL mc ms cells slots)
    (hS : va_S A s.heap H locs) (hA : ∀ q, A q → E.2.2.1 ≤ q) (hH : Hp H) (hl : ls.size = nL) (hrest : (rest.map fun v => v.category).sum ≤ 8) (hdg : decode cc pc = .ok (.invokespecial index, 3)) :
    va_Run p l e R s m args below meth c H locs cells slots mc ms (F0 m pc ls (As.reverse ++ .ref b :: rest)) rest (Qc (Value.ref b :: As).toArray) free := by
  obtain ⟨r1, r2, r3, r4, r5, r6⟩ := hR
  refine va_runI (As := As) (rest := rest) ⟨B.1, B.2.1, B.2.2.2.2.2.2.1, B.2.2.1, B.2.2.2.1⟩ hM (cwI n B.2.2.2.1 (lw_meth hcode) rfl r1 r2 (B.2.2.2.1 _ hini) (B.2.2.2.1 _ hlk) (B.2.2.2.1 _ hin) hy1 hd ⟨r3, r4⟩) ⟨ct_blind, fun U hU hW => ⟨rfl, by rw [hU], B.2.2.2.2.2.2.2.2.go hS hA hU hW, by rw [hU]; exact hH⟩⟩ rfl hn hl rfl (lv_room hrest) hdg ⟨r5, r6⟩
end
/-- behind a call that leaves the heap alone -/
theorem ct_callR {post : Option Value → Prop} {a9 : Array Value} {st0 : List Value} (hr : va_Run p l e R s m args below meth c H locs cells slots 0 0 (F0 m pc ls st0) rest (ctR post a9) (fun _ => False))
    (kk : ∀ v, post v → W p l e R s m args below meth c H locs cells slots Q (F0 m (pc + 3) ls (v.toList ++ rest))) : W p l e R s m args below meth c H locs cells slots Q (F0 m pc ls st0) := by
  intro T hT X
  obtain ⟨v, st₀, t, T', L, h0, X', hL, e1, e2, ⟨⟨v2, hv, hp⟩, hh⟩, st⟩ := hr T hT X
  cases hv
  obtain ⟨t2, a1, b1⟩ := kk v hp T' (by rw [e1, hh, h0]) (Stand.forget X' (fun q h => (hL q h).elim))
  exact ⟨t2, st t2 a1, b1⟩
/-- behind a call that changes no more than A1 -/
theorem ct_callQ {post : Option Value → Heap → Prop} {a9 : Array Value} {st0 : List Value} {A1 free : Nat → Prop} {mc ms : Nat} (hr : va_Run p l e R s m args below meth c H locs cells slots mc ms (F0 m pc ls st0) rest (ctQ post A1 a9) free) (hS : va_S A s.heap H locs) (hA : ∀ q, A1 q → A q) (hf : ∀ q, free q → A q)
    (kk : ∀ (v : Option Value) (H1 : Heap) (locs1 : List Loc), post v H1 → H.size ≤ H1.size → (∀ q : Nat, q < H.size → ¬ A1 q → H1[q]? = H[q]?) → va_S A s.heap H1 locs1 → W p l e R s m args below meth c H1 locs1 (cells + mc) (slots + ms) Q (F0 m (pc + 3) ls (v.toList ++ rest))) : W p l e R s m args below meth c H locs cells slots Q (F0 m pc ls st0) := by
  intro T hT X
  obtain ⟨v, st₀, t, T', L, h0, X', hL, e1, e2, ⟨⟨v2, hv, hp⟩, hz, hk⟩, st⟩ := hr T hT X
  cases hv
  rw [h0] at hz hk
  obtain ⟨t2, a1, b1⟩ := kk v T'.heap (locs ++ L) (by rw [e1]; exact hp) (by rw [e1]; exact hz) (fun q h1 h2 => by rw [e1]; exact hk q h1 h2)
    ⟨Nat.le_trans hS.1 (by rw [e1]; exact hz), fun q h1 h2 => by rw [e1, hk q (Nat.lt_of_lt_of_le h1 hS.1) (fun z => h2 (hA q z))]; exact hS.2.1 q h1 h2, fun q hq => by
      rcases List.mem_append.mp hq with h | h
      · exact hS.2.2 q h
      · exact hf _ (hL q h)⟩ T' rfl X'
  exact ⟨t2, st t2 a1, b1⟩
/-- the receiver's class, out of the world -/
theorem ct_recv (B : cx p s m args meth c cc own nL ret nm E) (hP : va_P E.1 ct_cl ws H) {ci : Nat} {C : String} {T : u_T} {N : Nat} {ty : Nat → FieldType} (K : ct_C ci C T N ty) (q0 : Nat) {fs : List Value} (he : ws[q0]? = some (a, .inr (ci, fs))) : ∃ cellB : Cell, H[a]? = some cellB ∧ cellB.vm.isStatics = false ∧ s.vm.findClass C = some cellB.cls := va_recv B.2.2.2.2.2.2.2.2.1 hP K.1 he
theorem ct_objInit (B : cx p s m args meth c cc own nL ret nm E) {idx : Nat} (hl : Cond.methodLink own idx Lib.objectInit ∈ lw_all) (hi : Cond.instanceMethod Lib.objectInit ∈ lw_all) (hc : Cond.code Lib.objectInit ⟨#[0xb1]⟩ 1 none ∈ lw_all) (hsz : ls.size = nL) (hd : decode cc pc = .ok (.invokespecial idx, 3)) (hf : 1 ≤ R.frames) (hlo : (rest.map fun v => v.category).sum + 12 ≤ R.locals)
    (kk : W p l e R s m args below meth c H locs cells slots Q (F0 m (pc + 3) ls rest)) : W p l e R s m args below meth c H locs cells slots Q (F0 m pc ls (.ref a :: rest)) :=
  W.objInit B.1 B.2.1 B.2.2.1 (B.2.2.2.1 _ hl) (B.2.2.2.1 _ hi) (B.2.2.2.1 _ hc) rfl (hsz.trans B.2.2.2.2.2.2.1.symm) rfl hd hf (by show 2 * 0 + _ + 12 ≤ _; omega) kk
end
