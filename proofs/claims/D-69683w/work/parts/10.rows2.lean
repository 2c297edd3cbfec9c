/-! BASE 3: entering and leaving methods that change the world -/
set_option maxRecDepth 100000
theorem lg_lt0 (x y : Int64) : lg_cmp x y < 0 ↔ x < y := by
  unfold lg_cmp
  by_cases h1 : y < x
  · rw [if_pos h1]
    exact ⟨fun h => absurd h (by decide), fun h => absurd h1 (by have := Int64.lt_iff_toInt_lt.mp h; intro q; have := Int64.lt_iff_toInt_lt.mp q; omega)⟩
  · rw [if_neg h1]
    by_cases h2 : x = y
    · rw [if_pos h2]
      exact ⟨fun h => absurd h (by decide), fun h => by rw [h2] at h; exact absurd h (by have := Int64.lt_iff_toInt_lt (x := y) (y := y); intro q; have := this.mp q; omega)⟩
    · rw [if_neg h2]
      refine ⟨fun _ => ?_, fun _ => by decide⟩
      have a1 : ¬ y.toInt < x.toInt := fun q => h1 (Int64.lt_iff_toInt_lt.mpr q)
      have a2 : ¬ x.toInt = y.toInt := fun q => h2 (Int64.toInt_inj.mp q)
      exact Int64.lt_iff_toInt_lt.mpr (by omega)
theorem lg_gt0 (x y : Int64) : 0 < lg_cmp x y ↔ y < x := by
  unfold lg_cmp
  by_cases h1 : y < x
  · rw [if_pos h1]; exact ⟨fun _ => h1, fun _ => by decide⟩
  · rw [if_neg h1]
    by_cases h2 : x = y
    · rw [if_pos h2]; exact ⟨fun h => absurd h (by decide), fun h => absurd h h1⟩
    · rw [if_neg h2]; exact ⟨fun h => absurd h (by decide), fun h => absurd h h1⟩
theorem lg_eq0 (x y : Int64) : lg_cmp x y = 0 ↔ x = y := by
  unfold lg_cmp
  by_cases h1 : y < x
  · rw [if_pos h1]
    refine ⟨fun h => absurd h (by decide), fun h => ?_⟩
    rw [h] at h1
    have := Int64.lt_iff_toInt_lt.mp h1
    omega
  · rw [if_neg h1]
    by_cases h2 : x = y
    · rw [if_pos h2]; exact ⟨fun _ => h2, fun _ => rfl⟩
    · rw [if_neg h2]; exact ⟨fun h => absurd h (by decide), fun h => absurd h h2⟩
section
variable {p : Program} {l : Launch} {e : Env} {R : Room} {s : State} {m : MethodId} {args : Array Value} {below : List Frame} {meth : Method} {c : Code} {H : Heap} {locs : List Loc} {cells slots : Nat} {Q : State → Prop}
variable {cc : ByteArray} {pc : Nat} {ls : Array Slot} {rest : List Value} {E : CE} {own nm : String} {nL : Nat} {ret : Option FieldType} {ws ws' : va_W} {A : Nat → Prop} {a : Nat}
theorem ct_enter {sz : Nat} (G : GK E s) (hsz : s.heap.size = sz) (hP : va_P E.1 ct_cl ws s.heap) (hD : va_D (fun q => E.2.2.1 ≤ q) ws) : ∃ A : Nat → Prop, va_A ws sz = A ∧ Hs E A s.heap ws s.heap [] ∧ (∀ q, A q → E.2.2.1 ≤ q) ∧ (∀ q, s.heap.size ≤ q → A q) :=
  ⟨_, rfl, ⟨hP, hD.self, va_S.rf⟩, ct_A0 hD (by rw [← hsz]; exact G.2.2.1), fun q h => Or.inr (by rw [← hsz]; exact h)⟩
theorem ct_sub (h : Hs E A s.heap ws H locs) (hAn : ∀ q, s.heap.size ≤ q → A q) : ∀ q, va_A ws H.size q → A q := by
  intro q hq
  rcases hq with ⟨k, e, hq⟩ | hq
  · exact h.2.1.2 k _ hq
  · exact hAn q (Nat.le_trans h.2.2.1 hq)
theorem ct_Daddr {B : Nat → Prop} (he : ws.map Prod.fst = ws'.map Prod.fst) (h : va_D B ws) : va_D B ws' := by
  have key : ∀ (k : Nat) (q : Nat × va_E), ws'[k]? = some q → ∃ q0, ws[k]? = some q0 ∧ q0.1 = q.1 := by
    intro k q hk
    have h1 : (ws'.map Prod.fst)[k]? = some q.1 := by rw [List.getElem?_map, hk]; rfl
    rw [← he, List.getElem?_map] at h1
    cases h2 : ws[k]? with
    | none => rw [h2] at h1; cases h1
    | some q0 => rw [h2] at h1; exact ⟨q0, rfl, Option.some.inj h1⟩
  refine ⟨fun i j x y hi hj hxy => ?_, fun k q hk => ?_⟩
  · obtain ⟨x0, a1, a2⟩ := key i x hi
    obtain ⟨y0, b1, b2⟩ := key j y hj
    exact h.1 i j x0 y0 a1 b1 (a2.trans (hxy.trans b2.symm))
  · obtain ⟨q0, a1, a2⟩ := key k q hk
    rw [← a2]
    exact h.2 k q0 a1
theorem ct_D0 (h : Hs E A s.heap ws H locs) (hA : ∀ q, A q → E.2.2.1 ≤ q) : va_D (fun q => E.2.2.1 ≤ q) ws := h.2.1.weaken (fun _ _ _ z => hA _ z)
/-- behind a call: the world that came back, at the same places -/
theorem ct_again {H1 : Heap} {locs1 : List Loc} (h : Hs E A s.heap ws H locs) (hP1 : va_P E.1 ct_cl ws' H1) (he : ws.map Prod.fst = ws'.map Prod.fst) (hS1 : va_S A s.heap H1 locs1) : Hs E A s.heap ws' H1 locs1 := ⟨hP1, ct_Daddr he h.2.1, hS1⟩
theorem ct_gen {g : JFrame} (h : Hs E A s.heap ws H locs) (k : ∀ (H : Heap) (locs : List Loc), Hs E A s.heap ws H locs → W p l e R s m args below meth c H locs cells slots Q g) : W p l e R s m args below meth c H locs cells slots Q g := k H locs h
theorem ct_aretR (B : cx p s m args meth c cc own nL ret nm E) {rt : FieldType} {post : Option Value → Prop} {r : Option Nat} (hr : ret = some rt) (hrt : (∃ n, rt = .object n) ∨ ∃ t, rt = .array t) (hp : post (some (va_rf r))) (hdg : decode cc pc = .ok (.areturn, 1)) : W p l e R s m args below meth c s.heap [] cells slots (MQ below (ctR post) args s cells slots (fun _ => False)) (F0 m pc ls [va_rf r]) :=
  W.aret B.1 B.2.1 (B.2.2.2.2.1.trans hr) hrt (by cases r with | none => exact Or.inl rfl | some x => exact Or.inr ⟨x, rfl⟩) (ct_retR hp) (fun _ h => by cases h) hdg (hlocks := B.2.2.2.2.2.1)
theorem ct_vretR (B : cx p s m args meth c cc own nL none nm E) {post : Option Value → Prop} (hp : post none) (hdg : decode cc pc = .ok (.return_, 1)) : W p l e R s m args below meth c s.heap [] cells slots (MQ below (ctR post) args s cells slots (fun _ => False)) (F0 m pc ls []) :=
  W.vret B.1 B.2.1 B.2.2.2.2.1 (ct_retR hp) (fun _ h => by cases h) hdg (hlocks := B.2.2.2.2.2.1)
theorem ct_aretQ (B : cx p s m args meth c cc own nL ret nm E) {rt : FieldType} {post : Option Value → Heap → Prop} {r : Option Nat} (hr : ret = some rt) (hrt : (∃ n, rt = .object n) ∨ ∃ t, rt = .array t) (hS : va_S A s.heap H locs) (hp : post (some (va_rf r)) H) (hdg : decode cc pc = .ok (.areturn, 1)) : W p l e R s m args below meth c H locs cells slots (MQ below (ctQ post A) args s cells slots A) (F0 m pc ls [va_rf r]) :=
  W.aret B.1 B.2.1 (B.2.2.2.2.1.trans hr) hrt (by cases r with | none => exact Or.inl rfl | some x => exact Or.inr ⟨x, rfl⟩) (ct_ret hS hp) hS.2.2 hdg (hlocks := B.2.2.2.2.2.1)
theorem ct_lret (B : cx p s m args meth c cc own nL (some .long) nm E) {post : Option Value → Heap → Prop} {v : Int64} (hS : va_S A s.heap H locs) (hp : post (some (.long v)) H) (hdg : decode cc pc = .ok (.lreturn, 1)) : W p l e R s m args below meth c H locs cells slots (MQ below (ctQ post A) args s cells slots A) (F0 m pc ls [.long v]) :=
  W.lret B.1 B.2.1 B.2.2.2.2.1 (ct_ret hS hp) hS.2.2 hdg (hlocks := B.2.2.2.2.2.1)
/-- a local or a value that is a reference or null -/
theorem q_aload_n (hx : p.tables.exec = Jvm.exec) (hb : c.code = cc) {k : Fin 4} {i : Nat} {r : Option Nat} (hdg : decode cc pc = .ok (.aload_n k, 1)) (hi : (k : Nat) = i) (hl : ls[i]? = some (.val (va_rf r)))
    (kk : W p l e R s m args below meth c H locs cells slots Q (F0 m (pc + 1) ls (va_rf r :: rest))) : W p l e R s m args below meth c H locs cells slots Q (F0 m pc ls rest) := by
  cases r with
  | none => exact lv_aload_nN hx hb hdg hi hl kk
  | some x => exact lv_aload_n hx hb hdg hi hl kk
theorem q_aload (hx : p.tables.exec = Jvm.exec) (hb : c.code = cc) {i : Nat} {r : Option Nat} (hdg : decode cc pc = .ok (.aload i, 2)) (hl : ls[i]? = some (.val (va_rf r)))
    (kk : W p l e R s m args below meth c H locs cells slots Q (F0 m (pc + 2) ls (va_rf r :: rest))) : W p l e R s m args below meth c H locs cells slots Q (F0 m pc ls rest) := by
  cases r with
  | none => exact lv_aloadN hx hb hdg hl kk
  | some x => exact lv_aload hx hb hdg hl kk
theorem q_astore_n (hx : p.tables.exec = Jvm.exec) (hb : c.code = cc) {k : Fin 4} {i nL : Nat} {r : Option Nat} {lv lv' : List (Nat × Value)} (hdg : decode cc pc = .ok (.astore_n k, 1)) (hi : (k : Nat) = i) (h : lv_has ls nL lv) (hn : i < nL) (hl : (i, va_rf r) :: lv.filter (fun q => !(q.1 == i) && !(q.1 + 1 == i && q.2.category == 2)) = lv')
    (kk : ∀ ls : Array Slot, lv_has ls nL lv' → W p l e R s m args below meth c H locs cells slots Q (F0 m (pc + 1) ls rest)) : W p l e R s m args below meth c H locs cells slots Q (F0 m pc ls (va_rf r :: rest)) := by
  cases r with
  | none => exact lv_astore_nN hx hb hdg hi h hn hl kk
  | some x => exact lv_astore_n hx hb hdg hi h hn hl kk
theorem q_ifnull (hx : p.tables.exec = Jvm.exec) (hb : c.code = cc) {r : Option Nat} {off : Int} {tgt : Nat} (hdg : decode cc pc = .ok (.ifnull off, 3)) (ht : (pc : Int) + off = (tgt : Int))
    (kt : r = none → W p l e R s m args below meth c H locs cells slots Q (F0 m tgt ls rest)) (kf : ∀ x, r = some x → W p l e R s m args below meth c H locs cells slots Q (F0 m (pc + 3) ls rest)) : W p l e R s m args below meth c H locs cells slots Q (F0 m pc ls (va_rf r :: rest)) := by
  cases r with
  | none => exact lv_ifnullN hx hb hdg ht (kt rfl)
  | some x => exact lv_ifnull hx hb hdg (kf x rfl)
theorem q_ifnonnull (hx : p.tables.exec = Jvm.exec) (hb : c.code = cc) {r : Option Nat} {off : Int} {tgt : Nat} (hdg : decode cc pc = .ok (.ifnonnull off, 3)) (ht : (pc : Int) + off = (tgt : Int))
    (kt : ∀ x, r = some x → W p l e R s m args below meth c H locs cells slots Q (F0 m tgt ls rest)) (kf : r = none → W p l e R s m args below meth c H locs cells slots Q (F0 m (pc + 3) ls rest)) : W p l e R s m args below meth c H locs cells slots Q (F0 m pc ls (va_rf r :: rest)) := by
  cases r with
  | none => exact lv_ifnonnullN hx hb hdg (kf rfl)
  | some x => exact lv_ifnonnull hx hb hdg ht (kt x rfl)
theorem ct_runIN {y : MethodName} {bytes : ByteArray} {maxL : Nat} {rm : Room} {As : List Value} {b index mc ms : Nat} {Hp : Heap → Prop} {Qc : Array Value → State → Outcome → State → Prop} {free : Addr → Prop} {host : String} (B : cx p s m args meth c cc own nL ret nm E) (hM : Met l y (ws_ y bytes maxL none) rm (ctP E (.ref b :: As) H.size Hp) Qc mc ms free) (hcode : Cond.code y bytes maxL none ∈ lw_all) (hini : Cond.initialized y.cls ∈ lw_all) (hlk : va_Nw (.methodLinkNest own index y host) s) (hin : Cond.instanceMethod y ∈ lw_all) (hy1 : y.name = "<init>") {n : Nat} (hd : ct_desc y n) (hn : As.length = n) (hR : ct_room R rm maxL mc ms cells slots)
    (hS : va_S A s.heap H locs) (hA : ∀ q, A q → E.2.2.1 ≤ q) (hH : Hp H) (hl : ls.size = nL) (hrest : (rest.map fun v => v.category).sum ≤ 8) (hdg : decode cc pc = .ok (.invokespecial index, 3)) :
    va_Run p l e R s m args below meth c H locs cells slots mc ms (F0 m pc ls (As.reverse ++ .ref b :: rest)) rest (Qc (Value.ref b :: As).toArray) free := by
  obtain ⟨r1, r2, r3, r4, r5, r6⟩ := hR
  refine va_runIN (As := As) (rest := rest) ⟨B.1, B.2.1, B.2.2.2.2.2.2.1, B.2.2.1, B.2.2.2.1⟩ hM ⟨va_cnB n B.2.2.2.1 (lw_meth hcode) rfl r1 r2 hlk (B.2.2.2.1 _ hini) hd ⟨r3, r4⟩, hy1, B.2.2.2.1 _ hin⟩ ⟨ct_blind, fun U hU hW => ⟨rfl, by rw [hU], B.2.2.2.2.2.2.2.2.go hS hA hU hW, by rw [hU]; exact hH⟩⟩ rfl hn hl rfl (lv_room hrest) hdg ⟨r5, r6⟩
theorem l_if_lt (hx : p.tables.exec = Jvm.exec) (hb : c.code = cc) {x y : Int64} {off : Int} {tgt : Nat} (hd1 : decode cc pc = .ok (.lcmp, 1)) (hd2 : decode cc (pc + 1) = .ok (.ifCond .lt off, 3)) (ht : ((pc + 1 : Nat) : Int) + off = (tgt : Int))
    (kt : x < y → W p l e R s m args below meth c H locs cells slots Q (F0 m tgt ls rest)) (kf : y ≤ x → W p l e R s m args below meth c H locs cells slots Q (F0 m (pc + 4) ls rest)) : W p l e R s m args below meth c H locs cells slots Q (F0 m pc ls (.long y :: .long x :: rest)) :=
  W.lcmp hx hb hd1 (lv_if_lt hx hb hd2 ht (fun h => kt ((lg_lt0 x y).mp h)) (fun h => kf (Int64.not_lt.mp (fun q => h ((lg_lt0 x y).mpr q)))))
theorem l_if_ge (hx : p.tables.exec = Jvm.exec) (hb : c.code = cc) {x y : Int64} {off : Int} {tgt : Nat} (hd1 : decode cc pc = .ok (.lcmp, 1)) (hd2 : decode cc (pc + 1) = .ok (.ifCond .ge off, 3)) (ht : ((pc + 1 : Nat) : Int) + off = (tgt : Int))
    (kt : y ≤ x → W p l e R s m args below meth c H locs cells slots Q (F0 m tgt ls rest)) (kf : x < y → W p l e R s m args below meth c H locs cells slots Q (F0 m (pc + 4) ls rest)) : W p l e R s m args below meth c H locs cells slots Q (F0 m pc ls (.long y :: .long x :: rest)) :=
  W.lcmp hx hb hd1 (lv_if_ge hx hb hd2 ht (fun h => kt (Int64.not_lt.mp (fun q => absurd ((lg_lt0 x y).mpr q) (Int32.not_lt.mpr h)))) (fun h => kf ((lg_lt0 x y).mp (Int32.not_le.mp h))))
theorem l_if_gt (hx : p.tables.exec = Jvm.exec) (hb : c.code = cc) {x y : Int64} {off : Int} {tgt : Nat} (hd1 : decode cc pc = .ok (.lcmp, 1)) (hd2 : decode cc (pc + 1) = .ok (.ifCond .gt off, 3)) (ht : ((pc + 1 : Nat) : Int) + off = (tgt : Int))
    (kt : y < x → W p l e R s m args below meth c H locs cells slots Q (F0 m tgt ls rest)) (kf : x ≤ y → W p l e R s m args below meth c H locs cells slots Q (F0 m (pc + 4) ls rest)) : W p l e R s m args below meth c H locs cells slots Q (F0 m pc ls (.long y :: .long x :: rest)) :=
  W.lcmp hx hb hd1 (lv_if_gt hx hb hd2 ht (fun h => kt ((lg_gt0 x y).mp h)) (fun h => kf (Int64.not_lt.mp (fun q => h ((lg_gt0 x y).mpr q)))))
theorem l_if_le (hx : p.tables.exec = Jvm.exec) (hb : c.code = cc) {x y : Int64} {off : Int} {tgt : Nat} (hd1 : decode cc pc = .ok (.lcmp, 1)) (hd2 : decode cc (pc + 1) = .ok (.ifCond .le off, 3)) (ht : ((pc + 1 : Nat) : Int) + off = (tgt : Int))
    (kt : x ≤ y → W p l e R s m args below meth c H locs cells slots Q (F0 m tgt ls rest)) (kf : y < x → W p l e R s m args below meth c H locs cells slots Q (F0 m (pc + 4) ls rest)) : W p l e R s m args below meth c H locs cells slots Q (F0 m pc ls (.long y :: .long x :: rest)) :=
  W.lcmp hx hb hd1 (lv_if_le hx hb hd2 ht (fun h => kt (Int64.not_lt.mp (fun q => absurd ((lg_gt0 x y).mpr q) (Int32.not_lt.mpr h)))) (fun h => kf ((lg_gt0 x y).mp (Int32.not_le.mp h))))
theorem l_if_eq (hx : p.tables.exec = Jvm.exec) (hb : c.code = cc) {x y : Int64} {off : Int} {tgt : Nat} (hd1 : decode cc pc = .ok (.lcmp, 1)) (hd2 : decode cc (pc + 1) = .ok (.ifCond .eq off, 3)) (ht : ((pc + 1 : Nat) : Int) + off = (tgt : Int))
    (kt : x = y → W p l e R s m args below meth c H locs cells slots Q (F0 m tgt ls rest)) (kf : x ≠ y → W p l e R s m args below meth c H locs cells slots Q (F0 m (pc + 4) ls rest)) : W p l e R s m args below meth c H locs cells slots Q (F0 m pc ls (.long y :: .long x :: rest)) :=
  W.lcmp hx hb hd1 (lv_if_eq hx hb hd2 ht (fun h => kt ((lg_eq0 x y).mp h)) (fun h => kf (fun q => h ((lg_eq0 x y).mpr q))))
theorem l_if_ne (hx : p.tables.exec = Jvm.exec) (hb : c.code = cc) {x y : Int64} {off : Int} {tgt : Nat} (hd1 : decode cc pc = .ok (.lcmp, 1)) (hd2 : decode cc (pc + 1) = .ok (.ifCond .ne off, 3)) (ht : ((pc + 1 : Nat) : Int) + off = (tgt : Int))
    (kt : x ≠ y → W p l e R s m args below meth c H locs cells slots Q (F0 m tgt ls rest)) (kf : x = y → W p l e R s m args below meth c H locs cells slots Q (F0 m (pc + 4) ls rest)) : W p l e R s m args below meth c H locs cells slots Q (F0 m pc ls (.long y :: .long x :: rest)) :=
  W.lcmp hx hb hd1 (lv_if_ne hx hb hd2 ht (fun h => kt (fun q => h ((lg_eq0 x y).mpr q))) (fun h => kf ((lg_eq0 x y).mp h)))
theorem b_if_eq {P : Prop} {i9 : Decidable P} (hx : p.tables.exec = Jvm.exec) (hb : c.code = cc) {off : Int} {tgt : Nat} (hdg : decode cc pc = .ok (.ifCond .eq off, 3)) (ht : (pc : Int) + off = (tgt : Int))
    (kt : ¬ P → W p l e R s m args below meth c H locs cells slots Q (F0 m tgt ls rest)) (kf : P → W p l e R s m args below meth c H locs cells slots Q (F0 m (pc + 3) ls rest)) : W p l e R s m args below meth c H locs cells slots Q (F0 m pc ls (.int (if P then 1 else 0) :: rest)) :=
  lv_if_eq hx hb hdg ht (fun h => kt (fun q => by rw [if_pos q] at h; exact absurd h (by decide))) (fun h => kf (Decidable.byContradiction (fun q => h (by rw [if_neg q]))))
theorem b_if_ne {P : Prop} {i9 : Decidable P} (hx : p.tables.exec = Jvm.exec) (hb : c.code = cc) {off : Int} {tgt : Nat} (hdg : decode cc pc = .ok (.ifCond .ne off, 3)) (ht : (pc : Int) + off = (tgt : Int))
    (kt : P → W p l e R s m args below meth c H locs cells slots Q (F0 m tgt ls rest)) (kf : ¬ P → W p l e R s m args below meth c H locs cells slots Q (F0 m (pc + 3) ls rest)) : W p l e R s m args below meth c H locs cells slots Q (F0 m pc ls (.int (if P then 1 else 0) :: rest)) :=
  lv_if_ne hx hb hdg ht (fun h => kt (Decidable.byContradiction (fun q => h (by rw [if_neg q])))) (fun h => kf (fun q => by rw [if_pos q] at h; exact absurd h (by decide)))
end
theorem vp_b {n : Nat} (h : n < 128) : vp_nar .byte (nI n) = nI n := by
  have key : ∀ n, n < 128 → (nI n).toInt8.toInt32 = nI n := by decide +kernel
  rw [vp_nar_byte]; exact key n h
theorem nI_and63 {n : Nat} (h : n < 2147483648) : nI n &&& nI 63 = nI (n % 64) := pk_andN (by omega) 6 (by decide)
theorem nI_lt0 (n : Nat) (h : n < 2147483648) : ¬ nI n < 0 := nI_pos (by omega)
