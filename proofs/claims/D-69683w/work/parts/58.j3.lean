/-! the JDK's lists -/
def oI (im : va_W) (x : Nat) : Prop := ∃ (ci : Nat) (vs : List Value), (x, .inr (ci, vs)) ∈ im ∧ (ci = 12 ∨ ci = 13)
theorem oI.any {E : CE} {s : State} {H : Heap} {im : va_W} {x : Nat} (G : GK E s) (hP : va_P E.1 ct_cl im H) (h : oI im x) : anyC E H x := by
  obtain ⟨ci, vs, h1, h2⟩ := h
  exact anyC.of G hP h1 h2
theorem oI.mono {im im' : va_W} {x : Nat} (h : oI im x) (hs : ∀ y ∈ im, y ∈ im') : oI im' x := by
  obtain ⟨ci, vs, h1, h2⟩ := h
  exact ⟨ci, vs, hs _ h1, h2⟩
section
variable {p : Program} {l : Launch} {e : Env} {R : Room} {s : State} {m : MethodId} {args : Array Value} {below : List Frame} {meth : Method} {c : Code} {H : Heap} {locs : List Loc} {cells slots : Nat} {Q : State → Prop}
variable {cc : ByteArray} {pc : Nat} {ls : Array Slot} {rest : List Value} {E : CE} {own nm : String} {nL : Nat} {ret : Option FieldType} {A : Nat → Prop}
/-- the row of an empty list has no places -/
theorem ct_len0 (B : cx p s m args meth c cc own nL ret nm E) (hS : va_S A s.heap H locs) (hA : ∀ q, A q → E.2.2.1 ≤ q) (hdg : decode cc pc = .ok (.arraylength, 1))
    (kk : W p l e R s m args below meth c H locs cells slots Q (F0 m (pc + 1) ls (.int (nI 0) :: rest))) : W p l e R s m args below meth c H locs cells slots Q (F0 m pc ls (.ref (E.2.2.2 3) :: rest)) := by
  obtain ⟨cell, h1, h2, h3, h4, h5, h6, h7⟩ := B.2.2.2.2.2.2.2.2.2.2.2.1.2.2.1.2
  have e1 : H[E.2.2.2 3]? = some cell := by rw [hS.2.1 _ (Array.getElem?_eq_some_iff.mp h1).1 (fun q => h7 (hA _ q))]; exact h1
  exact W.alen (n := nI 0) B.1 B.2.1 e1 h2 h5 rfl rfl hdg kk
end
theorem c_half {n : Nat} (h : n < 2147483648) : nI n >>> (nI 1 &&& 31) = nI (n / 2) := by
  have k := pk_shrN (n := n) (by omega) (nI 1 &&& 31) 1 (by decide)
  rw [Nat.pow_one] at k
  exact k
set_option maxHeartbeats 4000000 in
set_option maxRecDepth 100000 in
theorem met_J10_size (l : Launch) (E : CE) (a e9 n : Nat) (md : Int32) (sz : Nat)  : Met l yJ10_size (ws_ yJ10_size cJ10_size 1 (some .int)) { frames := 0, cells := 0, slots := 0, locals := 0 } (ctP E [.ref a] sz (fun H => va_P E.1 ct_cl [(a, .inr (14, [.int md, .ref e9, .int (nI n)]))] H)) (ctR (fun v => v = some (.int (nI n)))) 0 0 (fun _ => False) := by
  refine ct_start (by decide) (Nat.le_of_ble_eq_true rfl) ?_
  intro p e s m below meth c ls B hsz hH hl
  have hC := hH
  have hx := B.1
  have hb := B.2.1
  have hl : lv_has ls 1 [(0, .ref a)] := hl
  refine lv_aload_n hx hb dJ10_size_0 rfl (lv_at hl 0 rfl) ?_
  refine ct_get (v := .int (nI n)) B hC kJ10 0 rfl 2 (Nat.le_of_ble_eq_true rfl) q817 rfl dJ10_size_1 ?_
  exact ct_iretR (ty := .int) (v := (nI n)) B rfl rfl (rfl) dJ10_size_4
set_option maxHeartbeats 4000000 in
set_option maxRecDepth 100000 in
theorem met_J10_elementData (l : Launch) (E : CE) (a d n cap : Nat) (md : Int32) (f : Nat → Option Nat) (i : Nat) (sz : Nat) (hi : i < cap ∧ cap < 2147483648) : Met l yJ10_elementData (ws_ yJ10_elementData cJ10_elementData 2 (some (.object "java/lang/Object"))) { frames := 0, cells := 0, slots := 0, locals := 0 } (ctP E [.ref a, .int (nI i)] sz (fun H => va_P E.1 ct_cl [(a, .inr (14, [.int md, .ref d, .int (nI n)])), (d, .inl (E.2.1 5, cap, .inr (.inr (.inr (.inr f)))))] H)) (ctR (fun v => v = some (va_rf (f i)))) 0 0 (fun _ => False) := by
  refine ct_start (by decide) (Nat.le_of_ble_eq_true rfl) ?_
  intro p e s m below meth c ls B hsz hH hl
  have hC := hH
  have hx := B.1
  have hb := B.2.1
  have hl : lv_has ls 2 [(0, .ref a), (1, .int (nI i))] := hl
  refine lv_aload_n hx hb dJ10_elementData_0 rfl (lv_at hl 0 rfl) ?_
  refine ct_get (v := .ref d) B hC kJ10 0 rfl 1 (Nat.le_of_ble_eq_true rfl) q816 rfl dJ10_elementData_1 ?_
  refine lv_iload_n hx hb dJ10_elementData_4 rfl (lv_at hl 1 rfl) ?_
  refine ct_aald B hC 1 5 rfl rfl (by omega) (by omega) dJ10_elementData_5 ?_
  exact ct_aretR (r := f i) B rfl (Or.inl ⟨_, rfl⟩) (rfl) dJ10_elementData_6
set_option maxHeartbeats 4000000 in
set_option maxRecDepth 100000 in
theorem met_J10_get (l : Launch) (E : CE) (a d n cap : Nat) (md : Int32) (f : Nat → Option Nat) (i : Nat) (sz : Nat) (hi : i < n) (hn : n ≤ cap ∧ cap < 2147483648) : Met l yJ10_get (ws_ yJ10_get cJ10_get 2 (some (.object "java/lang/Object"))) { frames := 2, cells := 0, slots := 0, locals := 43 } (ctP E [.ref a, .int (nI i)] sz (fun H => va_P E.1 ct_cl [(a, .inr (14, [.int md, .ref d, .int (nI n)])), (d, .inl (E.2.1 5, cap, .inr (.inr (.inr (.inr f)))))] H)) (ctR (fun v => v = some (va_rf (f i)))) 0 0 (fun _ => False) := by
  refine ct_start (by decide) (Nat.le_of_ble_eq_true rfl) ?_
  intro p e s m below meth c ls B hsz hH hl
  have hC := hH
  have hx := B.1
  have hb := B.2.1
  have hl : lv_has ls 2 [(0, .ref a), (1, .int (nI i))] := hl
  refine lv_iload_n hx hb dJ10_get_0 rfl (lv_at hl 1 rfl) ?_
  refine lv_aload_n hx hb dJ10_get_1 rfl (lv_at hl 0 rfl) ?_
  refine ct_get (v := .int (nI n)) B hC kJ10 0 rfl 2 (Nat.le_of_ble_eq_true rfl) q817 rfl dJ10_get_2 ?_
  refine ct_callR (ct_runS (As := [.int (nI i), .int (nI n)]) (rest := []) B (met_J16_checkIndex l E  i n s.heap.size (by omega) (by omega)) (lw_S q1041 q1042 q73 q1043) (n := 2) ⟨by decide, by decide, by decide +kernel⟩ rfl ⟨rfl, rfl, (Nat.le_of_ble_eq_true rfl), (Nat.le_of_ble_eq_true rfl), (Nat.le_of_ble_eq_true rfl), (Nat.le_of_ble_eq_true rfl)⟩ (va_S.rf (A := fun _ => False)) (fun _ h => h.elim) trivial hl.1 (Nat.le_of_ble_eq_true rfl) dJ10_get_5) (fun v hv => ?_)
  subst hv
  refine W.eq (g2 := F0 m 8 ls [.int (nI i)]) rfl ?_
  refine lv_pop hx hb dJ10_get_8 rfl ?_
  refine lv_aload_n hx hb dJ10_get_9 rfl (lv_at hl 0 rfl) ?_
  refine lv_iload_n hx hb dJ10_get_10 rfl (lv_at hl 1 rfl) ?_
  refine ct_callR (ct_runV (As := [.int (nI i)]) (rest := []) B (met_J10_elementData l E a d n cap md f i s.heap.size (by omega)) (lw_V q1045 q1046 q1047 q66 q1048) (n := 1) ⟨by decide, by decide, by decide +kernel⟩ rfl ⟨rfl, rfl, (Nat.le_of_ble_eq_true rfl), (Nat.le_of_ble_eq_true rfl), (Nat.le_of_ble_eq_true rfl), (Nat.le_of_ble_eq_true rfl)⟩ (va_S.rf (A := fun _ => False)) (fun _ h => h.elim) (ct_recv B hC kJ10 0 rfl) (hC.sub [0, 1] rfl) hl.1 (Nat.le_of_ble_eq_true rfl) dJ10_get_11) (fun v hv => ?_)
  subst hv
  refine W.eq (g2 := F0 m 14 ls [va_rf (f i)]) rfl ?_
  exact ct_aretR (r := f i) B rfl (Or.inl ⟨_, rfl⟩) (rfl) dJ10_get_14
set_option maxHeartbeats 4000000 in
set_option maxRecDepth 100000 in
theorem met_J8_init (l : Launch) (E : CE) (a : Nat) (sz : Nat)  : Met l yJ8_init (ws_ yJ8_init cJ8_init 1 none) { frames := 1, cells := 0, slots := 0, locals := 20 } (ctP E [.ref a] sz (fun H => va_P E.1 ct_cl ([(a, .inr (14, [.int 0, .null, .int 0]))]) H ∧ va_D (fun q => E.2.2.1 ≤ q) ([(a, .inr (14, [.int 0, .null, .int 0]))]))) (ctQ (fun v H => v = none ∧ va_P E.1 ct_cl ([(a, .inr (14, [.int 0, .null, .int 0]))]) H ∧ va_D (va_A ([(a, .inr (14, [.int 0, .null, .int 0]))]) sz) ([(a, .inr (14, [.int 0, .null, .int 0]))])) (va_A ([(a, .inr (14, [.int 0, .null, .int 0]))]) sz)) 0 0 (va_A ([(a, .inr (14, [.int 0, .null, .int 0]))]) sz) := by
  refine ct_start (by decide) (Nat.le_of_ble_eq_true rfl) ?_
  intro p e s m below meth c ls B hsz hH hl
  obtain ⟨hP, hD⟩ := hH
  obtain ⟨A, hAe, h, hA, hAn⟩ := ct_enter B.2.2.2.2.2.2.2.2 hsz hP hD
  rw [hAe]
  refine ct_gen h (fun H locs h => ?_)
  have hx := B.1
  have hb := B.2.1
  have hl : lv_has ls 1 [(0, .ref a)] := hl
  refine lv_aload_n hx hb dJ8_init_0 rfl (lv_at hl 0 rfl) ?_
  refine ct_objInit B q813 q87 q88 hl.1 dJ8_init_1 (Nat.le_of_ble_eq_true rfl) (Nat.le_of_ble_eq_true rfl) ?_
  have h : Hs E A s.heap ([(a, .inr (14, [.int 0, .null, .int 0]))]) H locs := h
  exact ct_vret B h.2.2 ⟨rfl, h.1, h.2.1⟩ dJ8_init_4
set_option maxHeartbeats 4000000 in
set_option maxRecDepth 100000 in
theorem met_J9_init (l : Launch) (E : CE) (a : Nat) (sz : Nat)  : Met l yJ9_init (ws_ yJ9_init cJ9_init 1 none) { frames := 2, cells := 0, slots := 0, locals := 40 } (ctP E [.ref a] sz (fun H => va_P E.1 ct_cl ([(a, .inr (14, [.int 0, .null, .int 0]))]) H ∧ va_D (fun q => E.2.2.1 ≤ q) ([(a, .inr (14, [.int 0, .null, .int 0]))]))) (ctQ (fun v H => v = none ∧ va_P E.1 ct_cl ([(a, .inr (14, [.int (nI 0), .null, .int 0]))]) H ∧ va_D (va_A ([(a, .inr (14, [.int 0, .null, .int 0]))]) sz) ([(a, .inr (14, [.int (nI 0), .null, .int 0]))])) (va_A ([(a, .inr (14, [.int 0, .null, .int 0]))]) sz)) 0 0 (va_A ([(a, .inr (14, [.int 0, .null, .int 0]))]) sz) := by
  refine ct_start (by decide) (Nat.le_of_ble_eq_true rfl) ?_
  intro p e s m below meth c ls B hsz hH hl
  obtain ⟨hP, hD⟩ := hH
  obtain ⟨A, hAe, h, hA, hAn⟩ := ct_enter B.2.2.2.2.2.2.2.2 hsz hP hD
  rw [hAe]
  refine ct_gen h (fun H locs h => ?_)
  have hx := B.1
  have hb := B.2.1
  have hl : lv_has ls 1 [(0, .ref a)] := hl
  refine lv_aload_n hx hb dJ9_init_0 rfl (lv_at hl 0 rfl) ?_
  have h : Hs E A s.heap ([(a, .inr (14, [.int 0, .null, .int 0]))] ++ ([])) H locs := h
  refine ct_callQ (ct_runI (b := a) (As := []) (rest := []) B (met_J8_init l E a H.size) q812 q64 q810 q811 rfl (n := 0) ⟨by decide, by decide, by decide +kernel⟩ rfl ⟨rfl, rfl, (Nat.le_of_ble_eq_true rfl), (Nat.le_of_ble_eq_true rfl), (Nat.le_of_ble_eq_true rfl), (Nat.le_of_ble_eq_true rfl)⟩ h.2.2 hA ⟨(ct_Pl h.1), (ct_Dl (ct_D0 h hA))⟩ hl.1 (Nat.le_of_ble_eq_true rfl) dJ9_init_1) h.2.2 (ct_subL h hAn) (ct_subL h hAn) (fun v H locs hv hz hk hS => ?_)
  obtain ⟨rfl, hP1, hD1⟩ := hv
  have h : Hs E A s.heap ([(a, .inr (14, [.int 0, .null, .int 0]))] ++ ([])) H locs := ct_frL h hP1 hD1 hk hS hAn
  have h : Hs E A s.heap ([(a, .inr (14, [.int 0, .null, .int 0]))]) H locs := h
  clear hP1 hD1 hS hz hk
  refine W.eq (g2 := F0 m 4 ls []) rfl ?_
  refine lv_aload_n hx hb dJ9_init_4 rfl (lv_at hl 0 rfl) ?_
  refine lv_iconst (v := nI 0) hx hb dJ9_init_5 (by decide) ?_
  refine ct_put (ws' := [(a, .inr (14, [.int (nI 0), .null, .int 0]))]) B h kJ10 0 rfl 0 (Nat.le_of_ble_eq_true rfl) q818 rfl rfl rfl (Nat.le_of_ble_eq_true rfl) rfl dJ9_init_6 (fun H locs h => ?_)
  have h : Hs E A s.heap ([(a, .inr (14, [.int (nI 0), .null, .int 0]))]) H locs := h
  exact ct_vret B h.2.2 ⟨rfl, h.1, h.2.1⟩ dJ9_init_9
set_option maxHeartbeats 4000000 in
set_option maxRecDepth 100000 in
theorem met_J10_init (l : Launch) (E : CE) (a : Nat) (sz : Nat)  : Met l yJ10_init (ws_ yJ10_init cJ10_init 1 none) { frames := 3, cells := 0, slots := 0, locals := 60 } (ctP E [.ref a] sz (fun H => va_P E.1 ct_cl ([(a, .inr (14, [.int 0, .null, .int 0]))]) H ∧ va_D (fun q => E.2.2.1 ≤ q) ([(a, .inr (14, [.int 0, .null, .int 0]))]))) (ctQ (fun v H => v = none ∧ va_P E.1 ct_cl ([(a, .inr (14, [.int 0, .ref (E.2.2.2 3), .int (nI 0)]))]) H ∧ va_D (va_A ([(a, .inr (14, [.int 0, .null, .int 0]))]) sz) ([(a, .inr (14, [.int 0, .ref (E.2.2.2 3), .int (nI 0)]))])) (va_A ([(a, .inr (14, [.int 0, .null, .int 0]))]) sz)) 0 0 (va_A ([(a, .inr (14, [.int 0, .null, .int 0]))]) sz) := by
  refine ct_start (by decide) (Nat.le_of_ble_eq_true rfl) ?_
  intro p e s m below meth c ls B hsz hH hl
  obtain ⟨hP, hD⟩ := hH
  obtain ⟨A, hAe, h, hA, hAn⟩ := ct_enter B.2.2.2.2.2.2.2.2 hsz hP hD
  rw [hAe]
  refine ct_gen h (fun H locs h => ?_)
  have hx := B.1
  have hb := B.2.1
  have hl : lv_has ls 1 [(0, .ref a)] := hl
  refine lv_aload_n hx hb dJ10_init_0 rfl (lv_at hl 0 rfl) ?_
  have h : Hs E A s.heap ([(a, .inr (14, [.int 0, .null, .int 0]))] ++ ([])) H locs := h
  refine ct_callQ (ct_runI (b := a) (As := []) (rest := []) B (met_J9_init l E a H.size) q809 q65 q807 q808 rfl (n := 0) ⟨by decide, by decide, by decide +kernel⟩ rfl ⟨rfl, rfl, (Nat.le_of_ble_eq_true rfl), (Nat.le_of_ble_eq_true rfl), (Nat.le_of_ble_eq_true rfl), (Nat.le_of_ble_eq_true rfl)⟩ h.2.2 hA ⟨(ct_Pl h.1), (ct_Dl (ct_D0 h hA))⟩ hl.1 (Nat.le_of_ble_eq_true rfl) dJ10_init_1) h.2.2 (ct_subL h hAn) (ct_subL h hAn) (fun v H locs hv hz hk hS => ?_)
  obtain ⟨rfl, hP1, hD1⟩ := hv
  have h : Hs E A s.heap ([(a, .inr (14, [.int (nI 0), .null, .int 0]))] ++ ([])) H locs := ct_frL h hP1 hD1 hk hS hAn
  have h : Hs E A s.heap ([(a, .inr (14, [.int (nI 0), .null, .int 0]))]) H locs := h
  clear hP1 hD1 hS hz hk
  refine W.eq (g2 := F0 m 4 ls []) rfl ?_
  refine lv_aload_n hx hb dJ10_init_4 rfl (lv_at hl 0 rfl) ?_
  refine ct_gsE B h.2.2 hA q814 dJ10_init_5 ?_
  refine ct_put (ws' := [(a, .inr (14, [.int (nI 0), .ref (E.2.2.2 3), .int 0]))]) B h kJ10 0 rfl 1 (Nat.le_of_ble_eq_true rfl) q816 rfl rfl rfl (Nat.le_of_ble_eq_true rfl) rfl dJ10_init_8 (fun H locs h => ?_)
  have h : Hs E A s.heap ([(a, .inr (14, [.int 0, .ref (E.2.2.2 3), .int (nI 0)]))]) H locs := h
  exact ct_vret B h.2.2 ⟨rfl, h.1, h.2.1⟩ dJ10_init_11
set_option maxHeartbeats 4000000 in
set_option maxRecDepth 100000 in
theorem met_J15_copyOf_3 (l : Launch) (E : CE) (d cap n2 k9 : Nat) (f : Nat → Option Nat) (im : va_W) (sz : Nat) (hn : cap ≤ n2 ∧ n2 ≤ 1000000) (hk9 : k9 = E.2.2.2 4) (hel : ∀ i, i < cap → ∀ y, f i = some y → oI im y) : Met l yJ15_copyOf_3 (ws_ yJ15_copyOf_3 cJ15_copyOf_3 4 (some (.array (.object "java/lang/Object")))) { frames := 1, cells := 1, slots := n2, locals := 60 } (ctP E [.ref d, .int (nI n2), .ref k9] sz (fun H => va_P E.1 ct_cl ([(d, .inl (E.2.1 5, cap, .inr (.inr (.inr (.inr f)))))] ++ im) H ∧ va_D (fun q => E.2.2.1 ≤ q) ([(d, .inl (E.2.1 5, cap, .inr (.inr (.inr (.inr f)))))] ++ im))) (ctQ (fun v H => ∃ q2 : Nat, v = some (.ref q2) ∧ va_P E.1 ct_cl ([(d, .inl (E.2.1 5, cap, .inr (.inr (.inr (.inr f))))), (q2, .inl (E.2.1 5, n2, .inr (.inr (.inr (.inr (va_cpy f (fun _ => none) 0 0 cap))))))] ++ im) H ∧ va_D (va_A ([(d, .inl (E.2.1 5, cap, .inr (.inr (.inr (.inr f)))))] ++ im) sz) ([(d, .inl (E.2.1 5, cap, .inr (.inr (.inr (.inr f))))), (q2, .inl (E.2.1 5, n2, .inr (.inr (.inr (.inr (va_cpy f (fun _ => none) 0 0 cap))))))] ++ im)) (va_A ([(d, .inl (E.2.1 5, cap, .inr (.inr (.inr (.inr f)))))] ++ im) sz)) 1 n2 (va_A ([(d, .inl (E.2.1 5, cap, .inr (.inr (.inr (.inr f)))))] ++ im) sz) := by
  refine ct_start (by decide) (Nat.le_of_ble_eq_true rfl) ?_
  intro p e s m below meth c ls B hsz hH hl
  obtain ⟨hP, hD⟩ := hH
  obtain ⟨A, hAe, h, hA, hAn⟩ := ct_enter B.2.2.2.2.2.2.2.2 hsz hP hD
  rw [hAe]
  refine ct_gen h (fun H locs h => ?_)
  have hx := B.1
  have hb := B.2.1
  have hl : lv_has ls 4 [(0, .ref d), (1, .int (nI n2)), (2, .ref k9)] := hl
  subst hk9
  refine lv_aload_n hx hb dJ15_copyOf_3_0 rfl (lv_at hl 2 rfl) ?_
  refine va_ldcM hx hb B.2.2.1 (B.2.2.2.1 _ q1102) B.2.2.2.2.2.2.2.2.2.2.2.2.2.2.2.2.2.2 dJ15_copyOf_3_1 ?_
  refine lv_acmp_ne (rx := (some (E.2.2.2 4))) (ry := (some (E.2.2.2 4))) (tgt := 13) hx hb dJ15_copyOf_3_3 (by decide) (fun c_1 => absurd c_1 (fun q9 => q9 rfl)) (fun c_1 => ?_)
  refine lv_iload_n hx hb dJ15_copyOf_3_6 rfl (lv_at hl 1 rfl) ?_
  refine ct_newq B h hAn 5 rfl q1104 (B.2.2.2.2.2.2.2.2.2.1 _ (List.mem_of_getElem? (i := 20) rfl)) (by omega) (by omega) (by first | omega | (dsimp only; omega)) (by first | omega | (dsimp only; omega)) dJ15_copyOf_3_7 (fun q1 H h => ?_)
  have h : Hs E A s.heap ([(q1, .inl (E.2.1 5, n2, .inr (.inr (.inr (.inr (fun _ => none))))))] ++ ([(d, .inl (E.2.1 5, cap, .inr (.inr (.inr (.inr f)))))] ++ im)) H locs := ct_Hc h
  have h : Hs E A s.heap ([(q1, .inl (E.2.1 5, n2, .inr (.inr (.inr (.inr (fun _ => none)))))), (d, .inl (E.2.1 5, cap, .inr (.inr (.inr (.inr f)))))] ++ im) H locs := h
  refine lv_goto (tgt := 24) hx hb dJ15_copyOf_3_10 (by decide) ?_
  refine lv_astore_n (lv' := [(3, .ref q1), (0, .ref d), (1, .int (nI n2)), (2, .ref (E.2.2.2 4))]) hx hb dJ15_copyOf_3_24 rfl hl (by decide) rfl (fun ls hl => ?_)
  refine lv_aload_n hx hb dJ15_copyOf_3_25 rfl (lv_at hl 1 rfl) ?_
  refine lv_iconst (v := nI 0) hx hb dJ15_copyOf_3_26 (by decide) ?_
  refine lv_aload_n hx hb dJ15_copyOf_3_27 rfl (lv_at hl 0 rfl) ?_
  refine lv_iconst (v := nI 0) hx hb dJ15_copyOf_3_28 (by decide) ?_
  refine lv_aload_n hx hb dJ15_copyOf_3_29 rfl (lv_at hl 1 rfl) ?_
  refine ct_alen B h.1 1 5 rfl rfl dJ15_copyOf_3_30 ?_
  refine lv_iload_n hx hb dJ15_copyOf_3_31 rfl (lv_at hl 2 rfl) ?_
  refine n_min B q934 q590 q70 q591 hl.1 (Nat.le_of_ble_eq_true rfl) (Nat.le_of_ble_eq_true rfl) (by first | omega | (dsimp only; omega)) (by first | omega | (dsimp only; omega)) (by omega) (by omega) dJ15_copyOf_3_32 ?_
  refine W.eq (g2 := F0 m 35 ls [.int (nI (min cap n2)), .int (nI 0), .ref q1, .int (nI 0), .ref d]) rfl ?_
  refine W.eq (g2 := F0 m 35 ls [.int (nI cap), .int (nI 0), .ref q1, .int (nI 0), .ref d]) (by rw [Nat.min_eq_left (show cap ≤ n2 by omega)] <;> rfl) ?_
  refine ct_copyM (ws' := [(q1, .inl (E.2.1 5, n2, .inr (.inr (.inr (.inr (va_cpy f (fun _ => none) 0 0 cap)))))), (d, .inl (E.2.1 5, cap, .inr (.inr (.inr (.inr f)))))] ++ im) B hl.1 h q935 q937 q936 q72 1 0 rfl rfl (by omega) (by omega) (by omega) (fun i9 h9 y9 e9 => (hel i9 h9 y9 e9).any B.2.2.2.2.2.2.2.2 (ct_Pr h.1)) rfl (Nat.le_of_ble_eq_true rfl) (Nat.le_of_ble_eq_true rfl) dJ15_copyOf_3_35 (fun H locs h => ?_)
  refine lv_aload_n hx hb dJ15_copyOf_3_38 rfl (lv_at hl 0 rfl) ?_
  have h : Hs E A s.heap ([(d, .inl (E.2.1 5, cap, .inr (.inr (.inr (.inr f))))), (q1, .inl (E.2.1 5, n2, .inr (.inr (.inr (.inr (va_cpy f (fun _ => none) 0 0 cap))))))] ++ im) H locs := ct_part h [1, 0] rfl rfl
  refine W.widen (k := 1) (n := n2) (by first | omega | (dsimp only; omega)) (by first | omega | (dsimp only; omega)) ?_
  exact ct_aretQ (r := some (q1)) B rfl (Or.inr ⟨_, rfl⟩) h.2.2 ⟨q1, rfl, h.1, h.2.1⟩ dJ15_copyOf_3_39
set_option maxHeartbeats 4000000 in
set_option maxRecDepth 100000 in
theorem met_J15_copyOf_2 (l : Launch) (E : CE) (d cap n2 : Nat) (f : Nat → Option Nat) (im : va_W) (sz : Nat) (hn : cap ≤ n2 ∧ n2 ≤ 1000000) (hel : ∀ i, i < cap → ∀ y, f i = some y → oI im y) : Met l yJ15_copyOf_2 (ws_ yJ15_copyOf_2 cJ15_copyOf_2 2 (some (.array (.object "java/lang/Object")))) { frames := 2, cells := 1, slots := n2, locals := 83 } (ctP E [.ref d, .int (nI n2)] sz (fun H => va_P E.1 ct_cl ([(d, .inl (E.2.1 5, cap, .inr (.inr (.inr (.inr f)))))] ++ im) H ∧ va_D (fun q => E.2.2.1 ≤ q) ([(d, .inl (E.2.1 5, cap, .inr (.inr (.inr (.inr f)))))] ++ im))) (ctQ (fun v H => ∃ q2 : Nat, v = some (.ref q2) ∧ va_P E.1 ct_cl ([(d, .inl (E.2.1 5, cap, .inr (.inr (.inr (.inr f))))), (q2, .inl (E.2.1 5, n2, .inr (.inr (.inr (.inr (va_cpy f (fun _ => none) 0 0 cap))))))] ++ im) H ∧ va_D (va_A ([(d, .inl (E.2.1 5, cap, .inr (.inr (.inr (.inr f)))))] ++ im) sz) ([(d, .inl (E.2.1 5, cap, .inr (.inr (.inr (.inr f))))), (q2, .inl (E.2.1 5, n2, .inr (.inr (.inr (.inr (va_cpy f (fun _ => none) 0 0 cap))))))] ++ im)) (va_A ([(d, .inl (E.2.1 5, cap, .inr (.inr (.inr (.inr f)))))] ++ im) sz)) 1 n2 (va_A ([(d, .inl (E.2.1 5, cap, .inr (.inr (.inr (.inr f)))))] ++ im) sz) := by
  refine ct_start (by decide) (Nat.le_of_ble_eq_true rfl) ?_
  intro p e s m below meth c ls B hsz hH hl
  obtain ⟨hP, hD⟩ := hH
  obtain ⟨A, hAe, h, hA, hAn⟩ := ct_enter B.2.2.2.2.2.2.2.2 hsz hP hD
  rw [hAe]
  refine ct_gen h (fun H locs h => ?_)
  have hx := B.1
  have hb := B.2.1
  have hl : lv_has ls 2 [(0, .ref d), (1, .int (nI n2))] := hl
  refine lv_aload_n hx hb dJ15_copyOf_2_0 rfl (lv_at hl 0 rfl) ?_
  refine lv_iload_n hx hb dJ15_copyOf_2_1 rfl (lv_at hl 1 rfl) ?_
  refine lv_aload_n hx hb dJ15_copyOf_2_2 rfl (lv_at hl 0 rfl) ?_
  refine va_getC hx hb (B.2.2.2.2.2.2.1.trans hl.1.symm) B.2.2.1 (B.2.2.2.1 _ q1078) (va_Nw.use (A := _) rfl (B.2.2.2.2.2.2.2.2.2.1 _ (List.mem_of_getElem? (i := 17) rfl))) (B.2.2.2.1 _ q1358) (B.2.2.2.1 _ q1079) (B.2.2.2.1 _ q1098) B.2.2.2.2.2.2.2.2.2.2.2.2.2.2.2.2.2.2 (ct_arrQ B h.1 0 rfl) (Nat.le_of_ble_eq_true rfl) (Nat.le_of_ble_eq_true rfl) dJ15_copyOf_2_3 ?_
  have h : Hs E A s.heap ([] ++ ([(d, .inl (E.2.1 5, cap, .inr (.inr (.inr (.inr f)))))] ++ im)) H locs := h
  refine ct_callQ (ct_runS (As := [.ref d, .int (nI n2), .ref (E.2.2.2 4)]) (rest := []) B (met_J15_copyOf_3 l E d cap n2 (E.2.2.2 4) f im H.size (by omega) rfl hel) (lw_S q1099 q1100 q71 q1101) (n := 3) ⟨by decide, by decide, by decide +kernel⟩ rfl ⟨rfl, rfl, (Nat.le_of_ble_eq_true rfl), (Nat.le_of_ble_eq_true rfl), (by first | omega | (dsimp only; omega)), (by first | omega | (dsimp only; omega))⟩ h.2.2 hA ⟨(ct_Pr h.1), (ct_Dr (ct_D0 h hA))⟩ hl.1 (Nat.le_of_ble_eq_true rfl) dJ15_copyOf_2_6) h.2.2 (ct_subR h hAn) (ct_subR h hAn) (fun v H locs hv hz hk hS => ?_)
  obtain ⟨q1, rfl, hP1, hD1⟩ := hv
  have h : Hs E A s.heap ([] ++ ([(d, .inl (E.2.1 5, cap, .inr (.inr (.inr (.inr f))))), (q1, .inl (E.2.1 5, n2, .inr (.inr (.inr (.inr (va_cpy f (fun _ => none) 0 0 cap))))))] ++ im)) H locs := ct_frR h hP1 hD1 hk hS hAn
  have h : Hs E A s.heap ([(d, .inl (E.2.1 5, cap, .inr (.inr (.inr (.inr f))))), (q1, .inl (E.2.1 5, n2, .inr (.inr (.inr (.inr (va_cpy f (fun _ => none) 0 0 cap))))))] ++ im) H locs := h
  clear hP1 hD1 hS hz hk
  refine W.eq (g2 := F0 m 9 ls [.ref q1]) rfl ?_
  have h : Hs E A s.heap ([(d, .inl (E.2.1 5, cap, .inr (.inr (.inr (.inr f))))), (q1, .inl (E.2.1 5, n2, .inr (.inr (.inr (.inr (va_cpy f (fun _ => none) 0 0 cap))))))] ++ im) H locs := h
  refine W.widen (k := 1) (n := n2) (by first | omega | (dsimp only; omega)) (by first | omega | (dsimp only; omega)) ?_
  exact ct_aretQ (r := some (q1)) B rfl (Or.inr ⟨_, rfl⟩) h.2.2 ⟨q1, rfl, h.1, h.2.1⟩ dJ15_copyOf_2_9
set_option maxHeartbeats 4000000 in
set_option maxRecDepth 100000 in
theorem met_J10_grow_21 (l : Launch) (E : CE) (a d n cap : Nat) (md : Int32) (f : Nat → Option Nat) (im : va_W) (mn : Nat) (sz : Nat) (hc : 0 < cap ∧ cap ≤ 400000) (hm : mn = cap + 1) (hel : ∀ i, i < cap → ∀ y, f i = some y → oI im y) : Met l yJ10_grow_2 (ws_ yJ10_grow_2 cJ10_grow_2 4 (some (.array (.object "java/lang/Object")))) { frames := 3, cells := 1, slots := cap + max 1 (cap / 2), locals := 104 } (ctP E [.ref a, .int (nI mn)] sz (fun H => va_P E.1 ct_cl ([(a, .inr (14, [.int md, .ref d, .int (nI n)])), (d, .inl (E.2.1 5, cap, .inr (.inr (.inr (.inr f)))))] ++ im) H ∧ va_D (fun q => E.2.2.1 ≤ q) ([(a, .inr (14, [.int md, .ref d, .int (nI n)])), (d, .inl (E.2.1 5, cap, .inr (.inr (.inr (.inr f)))))] ++ im))) (ctQ (fun v H => ∃ q2 : Nat, v = some (.ref q2) ∧ va_P E.1 ct_cl ([(a, .inr (14, [.int md, .ref q2, .int (nI n)])), (q2, .inl (E.2.1 5, cap + max 1 (cap / 2), .inr (.inr (.inr (.inr (va_cpy f (fun _ => none) 0 0 cap))))))] ++ im) H ∧ va_D (va_A ([(a, .inr (14, [.int md, .ref d, .int (nI n)])), (d, .inl (E.2.1 5, cap, .inr (.inr (.inr (.inr f)))))] ++ im) sz) ([(a, .inr (14, [.int md, .ref q2, .int (nI n)])), (q2, .inl (E.2.1 5, cap + max 1 (cap / 2), .inr (.inr (.inr (.inr (va_cpy f (fun _ => none) 0 0 cap))))))] ++ im)) (va_A ([(a, .inr (14, [.int md, .ref d, .int (nI n)])), (d, .inl (E.2.1 5, cap, .inr (.inr (.inr (.inr f)))))] ++ im) sz)) 1 (cap + max 1 (cap / 2)) (va_A ([(a, .inr (14, [.int md, .ref d, .int (nI n)])), (d, .inl (E.2.1 5, cap, .inr (.inr (.inr (.inr f)))))] ++ im) sz) := by
  refine ct_start (by decide) (Nat.le_of_ble_eq_true rfl) ?_
  intro p e s m below meth c ls B hsz hH hl
  obtain ⟨hP, hD⟩ := hH
  obtain ⟨A, hAe, h, hA, hAn⟩ := ct_enter B.2.2.2.2.2.2.2.2 hsz hP hD
  rw [hAe]
  refine ct_gen h (fun H locs h => ?_)
  have hx := B.1
  have hb := B.2.1
  have hl : lv_has ls 4 [(0, .ref a), (1, .int (nI mn))] := hl
  refine lv_aload_n hx hb dJ10_grow_2_0 rfl (lv_at hl 0 rfl) ?_
  refine ct_get (v := .ref d) B h.1 kJ10 0 rfl 1 (Nat.le_of_ble_eq_true rfl) q816 rfl dJ10_grow_2_1 ?_
  refine ct_alen B h.1 1 5 rfl rfl dJ10_grow_2_4 ?_
  refine lv_istore_n (lv' := [(2, .int (nI cap)), (0, .ref a), (1, .int (nI mn))]) hx hb dJ10_grow_2_5 rfl hl (by decide) rfl (fun ls hl => ?_)
  refine lv_iload_n hx hb dJ10_grow_2_6 rfl (lv_at hl 0 rfl) ?_
  refine n_if_gt (tgt := 20) hx hb dJ10_grow_2_7 (by decide) (by omega) (fun c_1 => ?_) (fun c_1 => absurd c_1 (by omega))
  refine lv_iload_n hx hb dJ10_grow_2_20 rfl (lv_at hl 0 rfl) ?_
  refine lv_iload_n hx hb dJ10_grow_2_21 rfl (lv_at hl 2 rfl) ?_
  refine lv_iload_n hx hb dJ10_grow_2_22 rfl (lv_at hl 0 rfl) ?_
  refine n_isub hx hb (by omega) dJ10_grow_2_23 ?_
  refine W.eq (g2 := F0 m 24 ls [.int (nI 1), .int (nI cap)]) (by rw [(show mn - cap = 1 by omega)]) ?_
  refine lv_iload_n hx hb dJ10_grow_2_24 rfl (lv_at hl 0 rfl) ?_
  refine lv_iconst (v := nI 1) hx hb dJ10_grow_2_25 (by decide) ?_
  refine lv_ishr hx hb dJ10_grow_2_26 ?_
  refine W.eq (g2 := F0 m 27 ls [.int (nI (cap / 2)), .int (nI 1), .int (nI cap)]) (by rw [(c_half (show cap < 2147483648 by omega))]) ?_
  refine ct_callR (ct_runS (As := [.int (nI cap), .int (nI 1), .int (nI (cap / 2))]) (rest := []) B (met_J13_newLength l E cap 1 (cap / 2) H.size (by omega) (by omega)) (lw_S q1074 q914 q69 q915) (n := 3) ⟨by decide, by decide, by decide +kernel⟩ rfl ⟨rfl, rfl, (Nat.le_of_ble_eq_true rfl), (Nat.le_of_ble_eq_true rfl), (by first | omega | (dsimp only; omega)), (by first | omega | (dsimp only; omega))⟩ h.2.2 hA trivial hl.1 (Nat.le_of_ble_eq_true rfl) dJ10_grow_2_27) (fun v hv => ?_)
  subst hv
  refine W.eq (g2 := F0 m 30 ls [.int (nI (cap + max 1 (cap / 2)))]) rfl ?_
  refine lv_istore_n (lv' := [(3, .int (nI (cap + max 1 (cap / 2)))), (2, .int (nI cap)), (0, .ref a), (1, .int (nI mn))]) hx hb dJ10_grow_2_30 rfl hl (by decide) rfl (fun ls hl => ?_)
  refine lv_aload_n hx hb dJ10_grow_2_31 rfl (lv_at hl 2 rfl) ?_
  refine lv_aload_n hx hb dJ10_grow_2_32 rfl (lv_at hl 2 rfl) ?_
  refine ct_get (v := .ref d) B h.1 kJ10 0 rfl 1 (Nat.le_of_ble_eq_true rfl) q816 rfl dJ10_grow_2_33 ?_
  refine lv_iload_n hx hb dJ10_grow_2_36 rfl (lv_at hl 0 rfl) ?_
  have h : Hs E A s.heap ([(a, .inr (14, [.int md, .ref d, .int (nI n)]))] ++ ([(d, .inl (E.2.1 5, cap, .inr (.inr (.inr (.inr f)))))] ++ im)) H locs := h
  refine ct_callQ (ct_runS (As := [.ref d, .int (nI (cap + max 1 (cap / 2)))]) (rest := [.ref a]) B (met_J15_copyOf_2 l E d cap (cap + max 1 (cap / 2)) f im H.size (by omega) hel) (lw_S q1075 q1076 q71 q1077) (n := 2) ⟨by decide, by decide, by decide +kernel⟩ rfl ⟨rfl, rfl, (Nat.le_of_ble_eq_true rfl), (Nat.le_of_ble_eq_true rfl), (by first | omega | (dsimp only; omega)), (by first | omega | (dsimp only; omega))⟩ h.2.2 hA ⟨(ct_Pr h.1), (ct_Dr (ct_D0 h hA))⟩ hl.1 (Nat.le_of_ble_eq_true rfl) dJ10_grow_2_37) h.2.2 (ct_subR h hAn) (ct_subR h hAn) (fun v H locs hv hz hk hS => ?_)
  obtain ⟨q1, rfl, hP1, hD1⟩ := hv
  have h : Hs E A s.heap ([(a, .inr (14, [.int md, .ref d, .int (nI n)]))] ++ ([(d, .inl (E.2.1 5, cap, .inr (.inr (.inr (.inr f))))), (q1, .inl (E.2.1 5, cap + max 1 (cap / 2), .inr (.inr (.inr (.inr (va_cpy f (fun _ => none) 0 0 cap))))))] ++ im)) H locs := ct_frR h hP1 hD1 hk hS hAn
  have h : Hs E A s.heap ([(a, .inr (14, [.int md, .ref d, .int (nI n)])), (d, .inl (E.2.1 5, cap, .inr (.inr (.inr (.inr f))))), (q1, .inl (E.2.1 5, cap + max 1 (cap / 2), .inr (.inr (.inr (.inr (va_cpy f (fun _ => none) 0 0 cap))))))] ++ im) H locs := h
  clear hP1 hD1 hS hz hk
  refine W.eq (g2 := F0 m 40 ls [.ref q1, .ref a]) rfl ?_
  refine lv_dup_x1 hx hb dJ10_grow_2_40 rfl rfl ?_
  refine ct_put (ws' := [(a, .inr (14, [.int md, .ref q1, .int (nI n)])), (d, .inl (E.2.1 5, cap, .inr (.inr (.inr (.inr f))))), (q1, .inl (E.2.1 5, cap + max 1 (cap / 2), .inr (.inr (.inr (.inr (va_cpy f (fun _ => none) 0 0 cap))))))] ++ im) B h kJ10 0 rfl 1 (Nat.le_of_ble_eq_true rfl) q816 rfl rfl rfl (Nat.le_of_ble_eq_true rfl) rfl dJ10_grow_2_41 (fun H locs h => ?_)
  have h : Hs E A s.heap ([(a, .inr (14, [.int md, .ref q1, .int (nI n)])), (q1, .inl (E.2.1 5, cap + max 1 (cap / 2), .inr (.inr (.inr (.inr (va_cpy f (fun _ => none) 0 0 cap))))))] ++ im) H locs := ct_part h [0, 2] rfl rfl
  refine W.widen (k := 1) (n := cap + max 1 (cap / 2)) (by first | omega | (dsimp only; omega)) (by first | omega | (dsimp only; omega)) ?_
  exact ct_aretQ (r := some (q1)) B rfl (Or.inr ⟨_, rfl⟩) h.2.2 ⟨q1, rfl, h.1, h.2.1⟩ dJ10_grow_2_44
set_option maxHeartbeats 4000000 in
set_option maxRecDepth 100000 in
theorem met_J10_grow_20 (l : Launch) (E : CE) (a n mn : Nat) (md : Int32) (im : va_W) (sz : Nat) (hm : mn = 1) : Met l yJ10_grow_2 (ws_ yJ10_grow_2 cJ10_grow_2 4 (some (.array (.object "java/lang/Object")))) { frames := 1, cells := 1, slots := 10, locals := 25 } (ctP E [.ref a, .int (nI mn)] sz (fun H => va_P E.1 ct_cl ([(a, .inr (14, [.int md, .ref (E.2.2.2 3), .int (nI n)]))] ++ im) H ∧ va_D (fun q => E.2.2.1 ≤ q) ([(a, .inr (14, [.int md, .ref (E.2.2.2 3), .int (nI n)]))] ++ im))) (ctQ (fun v H => ∃ q2 : Nat, v = some (.ref q2) ∧ va_P E.1 ct_cl ([(a, .inr (14, [.int md, .ref q2, .int (nI n)])), (q2, .inl (E.2.1 5, 10, .inr (.inr (.inr (.inr (fun _ => none))))))] ++ im) H ∧ va_D (va_A ([(a, .inr (14, [.int md, .ref (E.2.2.2 3), .int (nI n)]))] ++ im) sz) ([(a, .inr (14, [.int md, .ref q2, .int (nI n)])), (q2, .inl (E.2.1 5, 10, .inr (.inr (.inr (.inr (fun _ => none))))))] ++ im)) (va_A ([(a, .inr (14, [.int md, .ref (E.2.2.2 3), .int (nI n)]))] ++ im) sz)) 1 10 (va_A ([(a, .inr (14, [.int md, .ref (E.2.2.2 3), .int (nI n)]))] ++ im) sz) := by
  refine ct_start (by decide) (Nat.le_of_ble_eq_true rfl) ?_
  intro p e s m below meth c ls B hsz hH hl
  obtain ⟨hP, hD⟩ := hH
  obtain ⟨A, hAe, h, hA, hAn⟩ := ct_enter B.2.2.2.2.2.2.2.2 hsz hP hD
  rw [hAe]
  refine ct_gen h (fun H locs h => ?_)
  have hx := B.1
  have hb := B.2.1
  have hl : lv_has ls 4 [(0, .ref a), (1, .int (nI mn))] := hl
  refine lv_aload_n hx hb dJ10_grow_2_0 rfl (lv_at hl 0 rfl) ?_
  refine ct_get (v := .ref (E.2.2.2 3)) B h.1 kJ10 0 rfl 1 (Nat.le_of_ble_eq_true rfl) q816 rfl dJ10_grow_2_1 ?_
  refine ct_len0 B h.2.2 hA dJ10_grow_2_4 ?_
  refine lv_istore_n (lv' := [(2, .int (nI 0)), (0, .ref a), (1, .int (nI mn))]) hx hb dJ10_grow_2_5 rfl hl (by decide) rfl (fun ls hl => ?_)
  refine lv_iload_n hx hb dJ10_grow_2_6 rfl (lv_at hl 0 rfl) ?_
  refine n_if_gt (tgt := 20) hx hb dJ10_grow_2_7 (by decide) (by omega) (fun c_1 => absurd c_1 (by omega)) (fun c_1 => ?_)
  refine lv_aload_n hx hb dJ10_grow_2_10 rfl (lv_at hl 1 rfl) ?_
  refine ct_get (v := .ref (E.2.2.2 3)) B h.1 kJ10 0 rfl 1 (Nat.le_of_ble_eq_true rfl) q816 rfl dJ10_grow_2_11 ?_
  refine ct_gsE B h.2.2 hA q814 dJ10_grow_2_14 ?_
  refine lv_acmp_eq (rx := (some (E.2.2.2 3))) (ry := (some (E.2.2.2 3))) (tgt := 45) hx hb dJ10_grow_2_17 (by decide) (fun c_2 => ?_) (fun c_2 => absurd c_2 (fun q9 => q9 rfl))
  refine lv_aload_n hx hb dJ10_grow_2_45 rfl (lv_at hl 1 rfl) ?_
  refine lv_bipush (v := nI 10) hx hb dJ10_grow_2_46 (by decide) ?_
  refine lv_iload_n hx hb dJ10_grow_2_48 rfl (lv_at hl 2 rfl) ?_
  refine n_max B q1105 q917 q70 q918 hl.1 (Nat.le_of_ble_eq_true rfl) (Nat.le_of_ble_eq_true rfl) (by first | omega | (dsimp only; omega)) (by first | omega | (dsimp only; omega)) (by omega) (by omega) dJ10_grow_2_49 ?_
  refine W.eq (g2 := F0 m 52 ls [.int (nI (max 10 mn)), .ref a]) rfl ?_
  refine W.eq (g2 := F0 m 52 ls [.int (nI 10), .ref a]) (by rw [show max 10 mn = 10 by omega] <;> rfl) ?_
  refine ct_newq B h hAn 5 rfl q1106 (B.2.2.2.2.2.2.2.2.2.1 _ (List.mem_of_getElem? (i := 20) rfl)) (by omega) (by omega) (by first | omega | (dsimp only; omega)) (by first | omega | (dsimp only; omega)) dJ10_grow_2_52 (fun q1 H h => ?_)
  have h : Hs E A s.heap ([(q1, .inl (E.2.1 5, 10, .inr (.inr (.inr (.inr (fun _ => none))))))] ++ ([(a, .inr (14, [.int md, .ref (E.2.2.2 3), .int (nI n)]))] ++ im)) H locs := ct_Hc h
  have h : Hs E A s.heap ([(q1, .inl (E.2.1 5, 10, .inr (.inr (.inr (.inr (fun _ => none)))))), (a, .inr (14, [.int md, .ref (E.2.2.2 3), .int (nI n)]))] ++ im) H locs := h
  refine lv_dup_x1 hx hb dJ10_grow_2_55 rfl rfl ?_
  refine ct_put (ws' := [(q1, .inl (E.2.1 5, 10, .inr (.inr (.inr (.inr (fun _ => none)))))), (a, .inr (14, [.int md, .ref q1, .int (nI n)]))] ++ im) B h kJ10 1 rfl 1 (Nat.le_of_ble_eq_true rfl) q816 rfl rfl rfl (Nat.le_of_ble_eq_true rfl) rfl dJ10_grow_2_56 (fun H locs h => ?_)
  have h : Hs E A s.heap ([(a, .inr (14, [.int md, .ref q1, .int (nI n)])), (q1, .inl (E.2.1 5, 10, .inr (.inr (.inr (.inr (fun _ => none))))))] ++ im) H locs := ct_part h [1, 0] rfl rfl
  refine W.widen (k := 1) (n := 10) (by first | omega | (dsimp only; omega)) (by first | omega | (dsimp only; omega)) ?_
  exact ct_aretQ (r := some (q1)) B rfl (Or.inr ⟨_, rfl⟩) h.2.2 ⟨q1, rfl, h.1, h.2.1⟩ dJ10_grow_2_59
set_option maxHeartbeats 4000000 in
set_option maxRecDepth 100000 in
theorem met_J10_grow1 (l : Launch) (E : CE) (a d n cap : Nat) (md : Int32) (f : Nat → Option Nat) (im : va_W) (sz : Nat) (hc : 0 < cap ∧ cap ≤ 400000) (hm : n = cap) (hel : ∀ i, i < cap → ∀ y, f i = some y → oI im y) : Met l yJ10_grow (ws_ yJ10_grow cJ10_grow 1 (some (.array (.object "java/lang/Object")))) { frames := 4, cells := 1, slots := cap + max 1 (cap / 2), locals := 127 } (ctP E [.ref a] sz (fun H => va_P E.1 ct_cl ([(a, .inr (14, [.int md, .ref d, .int (nI n)])), (d, .inl (E.2.1 5, cap, .inr (.inr (.inr (.inr f)))))] ++ im) H ∧ va_D (fun q => E.2.2.1 ≤ q) ([(a, .inr (14, [.int md, .ref d, .int (nI n)])), (d, .inl (E.2.1 5, cap, .inr (.inr (.inr (.inr f)))))] ++ im))) (ctQ (fun v H => ∃ q2 : Nat, v = some (.ref q2) ∧ va_P E.1 ct_cl ([(a, .inr (14, [.int md, .ref q2, .int (nI n)])), (q2, .inl (E.2.1 5, cap + max 1 (cap / 2), .inr (.inr (.inr (.inr (va_cpy f (fun _ => none) 0 0 cap))))))] ++ im) H ∧ va_D (va_A ([(a, .inr (14, [.int md, .ref d, .int (nI n)])), (d, .inl (E.2.1 5, cap, .inr (.inr (.inr (.inr f)))))] ++ im) sz) ([(a, .inr (14, [.int md, .ref q2, .int (nI n)])), (q2, .inl (E.2.1 5, cap + max 1 (cap / 2), .inr (.inr (.inr (.inr (va_cpy f (fun _ => none) 0 0 cap))))))] ++ im)) (va_A ([(a, .inr (14, [.int md, .ref d, .int (nI n)])), (d, .inl (E.2.1 5, cap, .inr (.inr (.inr (.inr f)))))] ++ im) sz)) 1 (cap + max 1 (cap / 2)) (va_A ([(a, .inr (14, [.int md, .ref d, .int (nI n)])), (d, .inl (E.2.1 5, cap, .inr (.inr (.inr (.inr f)))))] ++ im) sz) := by
  refine ct_start (by decide) (Nat.le_of_ble_eq_true rfl) ?_
  intro p e s m below meth c ls B hsz hH hl
  obtain ⟨hP, hD⟩ := hH
  obtain ⟨A, hAe, h, hA, hAn⟩ := ct_enter B.2.2.2.2.2.2.2.2 hsz hP hD
  rw [hAe]
  refine ct_gen h (fun H locs h => ?_)
  have hx := B.1
  have hb := B.2.1
  have hl : lv_has ls 1 [(0, .ref a)] := hl
  refine lv_aload_n hx hb dJ10_grow_0 rfl (lv_at hl 0 rfl) ?_
  refine lv_aload_n hx hb dJ10_grow_1 rfl (lv_at hl 0 rfl) ?_
  refine ct_get (v := .int (nI n)) B h.1 kJ10 0 rfl 2 (Nat.le_of_ble_eq_true rfl) q817 rfl dJ10_grow_2 ?_
  refine lv_iconst (v := nI 1) hx hb dJ10_grow_5 (by decide) ?_
  refine n_iadd hx hb dJ10_grow_6 ?_
  have h : Hs E A s.heap ([] ++ ([(a, .inr (14, [.int md, .ref d, .int (nI n)])), (d, .inl (E.2.1 5, cap, .inr (.inr (.inr (.inr f)))))] ++ im)) H locs := h
  refine ct_callQ (ct_runV (As := [.int (nI (n + 1))]) (rest := []) B (met_J10_grow_21 l E a d n cap md f im (n + 1) H.size (by omega) (by omega) hel) (lw_V q1070 q1072 qs35 q66 q1073) (n := 1) ⟨by decide, by decide, by decide +kernel⟩ rfl ⟨rfl, rfl, (Nat.le_of_ble_eq_true rfl), (Nat.le_of_ble_eq_true rfl), (by first | omega | (dsimp only; omega)), (by first | omega | (dsimp only; omega))⟩ h.2.2 hA (ct_recv B h.1 kJ10 0 rfl) ⟨(ct_Pr h.1), (ct_Dr (ct_D0 h hA))⟩ hl.1 (Nat.le_of_ble_eq_true rfl) dJ10_grow_7) h.2.2 (ct_subR h hAn) (ct_subR h hAn) (fun v H locs hv hz hk hS => ?_)
  obtain ⟨q1, rfl, hP1, hD1⟩ := hv
  have h : Hs E A s.heap ([] ++ ([(a, .inr (14, [.int md, .ref q1, .int (nI n)])), (q1, .inl (E.2.1 5, cap + max 1 (cap / 2), .inr (.inr (.inr (.inr (va_cpy f (fun _ => none) 0 0 cap))))))] ++ im)) H locs := ct_frR h hP1 hD1 hk hS hAn
  have h : Hs E A s.heap ([(a, .inr (14, [.int md, .ref q1, .int (nI n)])), (q1, .inl (E.2.1 5, cap + max 1 (cap / 2), .inr (.inr (.inr (.inr (va_cpy f (fun _ => none) 0 0 cap))))))] ++ im) H locs := h
  clear hP1 hD1 hS hz hk
  refine W.eq (g2 := F0 m 10 ls [.ref q1]) rfl ?_
  have h : Hs E A s.heap ([(a, .inr (14, [.int md, .ref q1, .int (nI n)])), (q1, .inl (E.2.1 5, cap + max 1 (cap / 2), .inr (.inr (.inr (.inr (va_cpy f (fun _ => none) 0 0 cap))))))] ++ im) H locs := h
  refine W.widen (k := 1) (n := cap + max 1 (cap / 2)) (by first | omega | (dsimp only; omega)) (by first | omega | (dsimp only; omega)) ?_
  exact ct_aretQ (r := some (q1)) B rfl (Or.inr ⟨_, rfl⟩) h.2.2 ⟨q1, rfl, h.1, h.2.1⟩ dJ10_grow_10
set_option maxHeartbeats 4000000 in
set_option maxRecDepth 100000 in
theorem met_J10_grow0 (l : Launch) (E : CE) (a n : Nat) (md : Int32) (im : va_W) (sz : Nat) (hm : n = 0) : Met l yJ10_grow (ws_ yJ10_grow cJ10_grow 1 (some (.array (.object "java/lang/Object")))) { frames := 2, cells := 1, slots := 10, locals := 48 } (ctP E [.ref a] sz (fun H => va_P E.1 ct_cl ([(a, .inr (14, [.int md, .ref (E.2.2.2 3), .int (nI n)]))] ++ im) H ∧ va_D (fun q => E.2.2.1 ≤ q) ([(a, .inr (14, [.int md, .ref (E.2.2.2 3), .int (nI n)]))] ++ im))) (ctQ (fun v H => ∃ q2 : Nat, v = some (.ref q2) ∧ va_P E.1 ct_cl ([(a, .inr (14, [.int md, .ref q2, .int (nI n)])), (q2, .inl (E.2.1 5, 10, .inr (.inr (.inr (.inr (fun _ => none))))))] ++ im) H ∧ va_D (va_A ([(a, .inr (14, [.int md, .ref (E.2.2.2 3), .int (nI n)]))] ++ im) sz) ([(a, .inr (14, [.int md, .ref q2, .int (nI n)])), (q2, .inl (E.2.1 5, 10, .inr (.inr (.inr (.inr (fun _ => none))))))] ++ im)) (va_A ([(a, .inr (14, [.int md, .ref (E.2.2.2 3), .int (nI n)]))] ++ im) sz)) 1 10 (va_A ([(a, .inr (14, [.int md, .ref (E.2.2.2 3), .int (nI n)]))] ++ im) sz) := by
  refine ct_start (by decide) (Nat.le_of_ble_eq_true rfl) ?_
  intro p e s m below meth c ls B hsz hH hl
  obtain ⟨hP, hD⟩ := hH
  obtain ⟨A, hAe, h, hA, hAn⟩ := ct_enter B.2.2.2.2.2.2.2.2 hsz hP hD
  rw [hAe]
  refine ct_gen h (fun H locs h => ?_)
  have hx := B.1
  have hb := B.2.1
  have hl : lv_has ls 1 [(0, .ref a)] := hl
  refine lv_aload_n hx hb dJ10_grow_0 rfl (lv_at hl 0 rfl) ?_
  refine lv_aload_n hx hb dJ10_grow_1 rfl (lv_at hl 0 rfl) ?_
  refine ct_get (v := .int (nI n)) B h.1 kJ10 0 rfl 2 (Nat.le_of_ble_eq_true rfl) q817 rfl dJ10_grow_2 ?_
  refine lv_iconst (v := nI 1) hx hb dJ10_grow_5 (by decide) ?_
  refine n_iadd hx hb dJ10_grow_6 ?_
  have h : Hs E A s.heap ([] ++ ([(a, .inr (14, [.int md, .ref (E.2.2.2 3), .int (nI n)]))] ++ im)) H locs := h
  refine ct_callQ (ct_runV (As := [.int (nI (n + 1))]) (rest := []) B (met_J10_grow_20 l E a n (n + 1) md im H.size (by omega)) (lw_V q1070 q1072 qs35 q66 q1073) (n := 1) ⟨by decide, by decide, by decide +kernel⟩ rfl ⟨rfl, rfl, (Nat.le_of_ble_eq_true rfl), (Nat.le_of_ble_eq_true rfl), (by first | omega | (dsimp only; omega)), (by first | omega | (dsimp only; omega))⟩ h.2.2 hA (ct_recv B h.1 kJ10 0 rfl) ⟨(ct_Pr h.1), (ct_Dr (ct_D0 h hA))⟩ hl.1 (Nat.le_of_ble_eq_true rfl) dJ10_grow_7) h.2.2 (ct_subR h hAn) (ct_subR h hAn) (fun v H locs hv hz hk hS => ?_)
  obtain ⟨q1, rfl, hP1, hD1⟩ := hv
  have h : Hs E A s.heap ([] ++ ([(a, .inr (14, [.int md, .ref q1, .int (nI n)])), (q1, .inl (E.2.1 5, 10, .inr (.inr (.inr (.inr (fun _ => none))))))] ++ im)) H locs := ct_frR h hP1 hD1 hk hS hAn
  have h : Hs E A s.heap ([(a, .inr (14, [.int md, .ref q1, .int (nI n)])), (q1, .inl (E.2.1 5, 10, .inr (.inr (.inr (.inr (fun _ => none))))))] ++ im) H locs := h
  clear hP1 hD1 hS hz hk
  refine W.eq (g2 := F0 m 10 ls [.ref q1]) rfl ?_
  have h : Hs E A s.heap ([(a, .inr (14, [.int md, .ref q1, .int (nI n)])), (q1, .inl (E.2.1 5, 10, .inr (.inr (.inr (.inr (fun _ => none))))))] ++ im) H locs := h
  refine W.widen (k := 1) (n := 10) (by first | omega | (dsimp only; omega)) (by first | omega | (dsimp only; omega)) ?_
  exact ct_aretQ (r := some (q1)) B rfl (Or.inr ⟨_, rfl⟩) h.2.2 ⟨q1, rfl, h.1, h.2.1⟩ dJ10_grow_10
set_option maxHeartbeats 4000000 in
set_option maxRecDepth 100000 in
theorem met_J10_add_20 (l : Launch) (E : CE) (a n : Nat) (md : Int32) (im : va_W) (x : Nat) (sz : Nat) (hm : n = 0) (hx9 : oI im x) : Met l yJ10_add_2 (ws_ yJ10_add_2 cJ10_add_2 4 none) { frames := 3, cells := 1, slots := 10, locals := 68 } (ctP E [.ref a, .ref x, .ref (E.2.2.2 3), .int (nI n)] sz (fun H => va_P E.1 ct_cl ([(a, .inr (14, [.int md, .ref (E.2.2.2 3), .int (nI n)]))] ++ im) H ∧ va_D (fun q => E.2.2.1 ≤ q) ([(a, .inr (14, [.int md, .ref (E.2.2.2 3), .int (nI n)]))] ++ im))) (ctQ (fun v H => ∃ q2 : Nat, v = none ∧ va_P E.1 ct_cl ([(a, .inr (14, [.int md, .ref q2, .int (nI (n + 1))])), (q2, .inl (E.2.1 5, 10, .inr (.inr (.inr (.inr (va_up (fun _ => none) n (some x)))))))] ++ im) H ∧ va_D (va_A ([(a, .inr (14, [.int md, .ref (E.2.2.2 3), .int (nI n)]))] ++ im) sz) ([(a, .inr (14, [.int md, .ref q2, .int (nI (n + 1))])), (q2, .inl (E.2.1 5, 10, .inr (.inr (.inr (.inr (va_up (fun _ => none) n (some x)))))))] ++ im)) (va_A ([(a, .inr (14, [.int md, .ref (E.2.2.2 3), .int (nI n)]))] ++ im) sz)) 1 10 (va_A ([(a, .inr (14, [.int md, .ref (E.2.2.2 3), .int (nI n)]))] ++ im) sz) := by
  refine ct_start (by decide) (Nat.le_of_ble_eq_true rfl) ?_
  intro p e s m below meth c ls B hsz hH hl
  obtain ⟨hP, hD⟩ := hH
  obtain ⟨A, hAe, h, hA, hAn⟩ := ct_enter B.2.2.2.2.2.2.2.2 hsz hP hD
  rw [hAe]
  refine ct_gen h (fun H locs h => ?_)
  have hx := B.1
  have hb := B.2.1
  have hl : lv_has ls 4 [(0, .ref a), (1, .ref x), (2, .ref (E.2.2.2 3)), (3, .int (nI n))] := hl
  refine lv_iload_n hx hb dJ10_add_2_0 rfl (lv_at hl 3 rfl) ?_
  refine lv_aload_n hx hb dJ10_add_2_1 rfl (lv_at hl 2 rfl) ?_
  refine ct_len0 B h.2.2 hA dJ10_add_2_2 ?_
  refine n_icmp_ne (tgt := 11) hx hb dJ10_add_2_3 (by decide) (by omega) (by omega) (fun c_1 => absurd c_1 (by omega)) (fun c_1 => ?_)
  refine lv_aload_n hx hb dJ10_add_2_6 rfl (lv_at hl 0 rfl) ?_
  have h : Hs E A s.heap ([] ++ ([(a, .inr (14, [.int md, .ref (E.2.2.2 3), .int (nI n)]))] ++ im)) H locs := h
  refine ct_callQ (ct_runV (As := []) (rest := []) B (met_J10_grow0 l E a n md im H.size (by omega)) (lw_V q1066 q1068 qs34 q66 q1069) (n := 0) ⟨by decide, by decide, by decide +kernel⟩ rfl ⟨rfl, rfl, (Nat.le_of_ble_eq_true rfl), (Nat.le_of_ble_eq_true rfl), (by first | omega | (dsimp only; omega)), (by first | omega | (dsimp only; omega))⟩ h.2.2 hA (ct_recv B h.1 kJ10 0 rfl) ⟨(ct_Pr h.1), (ct_Dr (ct_D0 h hA))⟩ hl.1 (Nat.le_of_ble_eq_true rfl) dJ10_add_2_7) h.2.2 (ct_subR h hAn) (ct_subR h hAn) (fun v H locs hv hz hk hS => ?_)
  obtain ⟨q1, rfl, hP1, hD1⟩ := hv
  have h : Hs E A s.heap ([] ++ ([(a, .inr (14, [.int md, .ref q1, .int (nI n)])), (q1, .inl (E.2.1 5, 10, .inr (.inr (.inr (.inr (fun _ => none))))))] ++ im)) H locs := ct_frR h hP1 hD1 hk hS hAn
  have h : Hs E A s.heap ([(a, .inr (14, [.int md, .ref q1, .int (nI n)])), (q1, .inl (E.2.1 5, 10, .inr (.inr (.inr (.inr (fun _ => none))))))] ++ im) H locs := h
  clear hP1 hD1 hS hz hk
  refine W.eq (g2 := F0 m 10 ls [.ref q1]) rfl ?_
  refine lv_astore_n (lv' := [(2, .ref q1), (0, .ref a), (1, .ref x), (3, .int (nI n))]) hx hb dJ10_add_2_10 rfl hl (by decide) rfl (fun ls hl => ?_)
  refine lv_aload_n hx hb dJ10_add_2_11 rfl (lv_at hl 0 rfl) ?_
  refine lv_iload_n hx hb dJ10_add_2_12 rfl (lv_at hl 3 rfl) ?_
  refine lv_aload_n hx hb dJ10_add_2_13 rfl (lv_at hl 2 rfl) ?_
  refine ct_aastM (ws' := [(a, .inr (14, [.int md, .ref q1, .int (nI n)])), (q1, .inl (E.2.1 5, 10, .inr (.inr (.inr (.inr (va_up (fun _ => none) n (some x)))))))] ++ im) B h 1 rfl (hx9.any B.2.2.2.2.2.2.2.2 (ct_Pr h.1)) (by omega) (by omega) rfl dJ10_add_2_14 (fun H locs h => ?_)
  refine lv_aload_n hx hb dJ10_add_2_15 rfl (lv_at hl 1 rfl) ?_
  refine lv_iload_n hx hb dJ10_add_2_16 rfl (lv_at hl 3 rfl) ?_
  refine lv_iconst (v := nI 1) hx hb dJ10_add_2_17 (by decide) ?_
  refine n_iadd hx hb dJ10_add_2_18 ?_
  refine ct_put (ws' := [(a, .inr (14, [.int md, .ref q1, .int (nI (n + 1))])), (q1, .inl (E.2.1 5, 10, .inr (.inr (.inr (.inr (va_up (fun _ => none) n (some x)))))))] ++ im) B h kJ10 0 rfl 2 (Nat.le_of_ble_eq_true rfl) q817 rfl rfl rfl (Nat.le_of_ble_eq_true rfl) rfl dJ10_add_2_19 (fun H locs h => ?_)
  have h : Hs E A s.heap ([(a, .inr (14, [.int md, .ref q1, .int (nI (n + 1))])), (q1, .inl (E.2.1 5, 10, .inr (.inr (.inr (.inr (va_up (fun _ => none) n (some x)))))))] ++ im) H locs := h
  refine W.widen (k := 1) (n := 10) (by first | omega | (dsimp only; omega)) (by first | omega | (dsimp only; omega)) ?_
  exact ct_vret B h.2.2 ⟨q1, rfl, h.1, h.2.1⟩ dJ10_add_2_22
set_option maxHeartbeats 4000000 in
set_option maxRecDepth 100000 in
theorem met_J10_add0 (l : Launch) (E : CE) (a n : Nat) (md : Int32) (im : va_W) (x : Nat) (sz : Nat) (hm : n = 0) (hx9 : oI im x) : Met l yJ10_add (ws_ yJ10_add cJ10_add 2 (some .boolean)) { frames := 6, cells := 1, slots := 10, locals := 170 } (ctP E [.ref a, .ref x] sz (fun H => va_P E.1 ct_cl ([(a, .inr (14, [.int md, .ref (E.2.2.2 3), .int (nI n)]))] ++ im) H ∧ va_D (fun q => E.2.2.1 ≤ q) ([(a, .inr (14, [.int md, .ref (E.2.2.2 3), .int (nI n)]))] ++ im))) (ctQ (fun v H => ∃ q2 : Nat, v = some (.int (nI 1)) ∧ va_P E.1 ct_cl ([(a, .inr (14, [.int (md + nI 1), .ref q2, .int (nI (n + 1))])), (q2, .inl (E.2.1 5, 10, .inr (.inr (.inr (.inr (va_up (fun _ => none) n (some x)))))))] ++ im) H ∧ va_D (va_A ([(a, .inr (14, [.int md, .ref (E.2.2.2 3), .int (nI n)]))] ++ im) sz) ([(a, .inr (14, [.int (md + nI 1), .ref q2, .int (nI (n + 1))])), (q2, .inl (E.2.1 5, 10, .inr (.inr (.inr (.inr (va_up (fun _ => none) n (some x)))))))] ++ im)) (va_A ([(a, .inr (14, [.int md, .ref (E.2.2.2 3), .int (nI n)]))] ++ im) sz)) 1 10 (va_A ([(a, .inr (14, [.int md, .ref (E.2.2.2 3), .int (nI n)]))] ++ im) sz) := by
  refine ct_start (by decide) (Nat.le_of_ble_eq_true rfl) ?_
  intro p e s m below meth c ls B hsz hH hl
  obtain ⟨hP, hD⟩ := hH
  obtain ⟨A, hAe, h, hA, hAn⟩ := ct_enter B.2.2.2.2.2.2.2.2 hsz hP hD
  rw [hAe]
  refine ct_gen h (fun H locs h => ?_)
  have hx := B.1
  have hb := B.2.1
  have hl : lv_has ls 2 [(0, .ref a), (1, .ref x)] := hl
  refine lv_aload_n hx hb dJ10_add_0 rfl (lv_at hl 0 rfl) ?_
  refine lv_dup hx hb dJ10_add_1 rfl ?_
  refine ct_getS (v := .int md) B h.1 kJ10 0 rfl 0 (Nat.le_of_ble_eq_true rfl) q819 q820 rfl dJ10_add_2 ?_
  refine lv_iconst (v := nI 1) hx hb dJ10_add_5 (by decide) ?_
  refine lv_iadd hx hb dJ10_add_6 ?_
  refine ct_putS (ws' := [(a, .inr (14, [.int (md + (nI 1)), .ref (E.2.2.2 3), .int (nI n)]))] ++ im) B h kJ10 0 rfl 0 (Nat.le_of_ble_eq_true rfl) q819 q820 rfl rfl rfl (Nat.le_of_ble_eq_true rfl) rfl dJ10_add_7 (fun H locs h => ?_)
  refine lv_aload_n hx hb dJ10_add_10 rfl (lv_at hl 0 rfl) ?_
  refine lv_aload_n hx hb dJ10_add_11 rfl (lv_at hl 1 rfl) ?_
  refine lv_aload_n hx hb dJ10_add_12 rfl (lv_at hl 0 rfl) ?_
  refine ct_get (v := .ref (E.2.2.2 3)) B h.1 kJ10 0 rfl 1 (Nat.le_of_ble_eq_true rfl) q816 rfl dJ10_add_13 ?_
  refine lv_aload_n hx hb dJ10_add_16 rfl (lv_at hl 0 rfl) ?_
  refine ct_get (v := .int (nI n)) B h.1 kJ10 0 rfl 2 (Nat.le_of_ble_eq_true rfl) q817 rfl dJ10_add_17 ?_
  have h : Hs E A s.heap ([] ++ ([(a, .inr (14, [.int (md + (nI 1)), .ref (E.2.2.2 3), .int (nI n)]))] ++ im)) H locs := h
  refine ct_callQ (ct_runV (As := [.ref x, .ref (E.2.2.2 3), .int (nI n)]) (rest := []) B (met_J10_add_20 l E a n (md + (nI 1)) im x H.size (by omega) hx9) (lw_V q1062 q1064 qs33 q66 q1065) (n := 3) ⟨by decide, by decide, by decide +kernel⟩ rfl ⟨rfl, rfl, (Nat.le_of_ble_eq_true rfl), (Nat.le_of_ble_eq_true rfl), (by first | omega | (dsimp only; omega)), (by first | omega | (dsimp only; omega))⟩ h.2.2 hA (ct_recv B h.1 kJ10 0 rfl) ⟨(ct_Pr h.1), (ct_Dr (ct_D0 h hA))⟩ hl.1 (Nat.le_of_ble_eq_true rfl) dJ10_add_20) h.2.2 (ct_subR h hAn) (ct_subR h hAn) (fun v H locs hv hz hk hS => ?_)
  obtain ⟨q1, rfl, hP1, hD1⟩ := hv
  have h : Hs E A s.heap ([] ++ ([(a, .inr (14, [.int (md + (nI 1)), .ref q1, .int (nI (n + 1))])), (q1, .inl (E.2.1 5, 10, .inr (.inr (.inr (.inr (va_up (fun _ => none) n (some x)))))))] ++ im)) H locs := ct_frR h hP1 hD1 hk hS hAn
  have h : Hs E A s.heap ([(a, .inr (14, [.int (md + (nI 1)), .ref q1, .int (nI (n + 1))])), (q1, .inl (E.2.1 5, 10, .inr (.inr (.inr (.inr (va_up (fun _ => none) n (some x)))))))] ++ im) H locs := h
  clear hP1 hD1 hS hz hk
  refine W.eq (g2 := F0 m 23 ls []) rfl ?_
  refine lv_iconst (v := nI 1) hx hb dJ10_add_23 (by decide) ?_
  have h : Hs E A s.heap ([(a, .inr (14, [.int (md + nI 1), .ref q1, .int (nI (n + 1))])), (q1, .inl (E.2.1 5, 10, .inr (.inr (.inr (.inr (va_up (fun _ => none) n (some x)))))))] ++ im) H locs := h
  refine W.widen (k := 1) (n := 10) (by first | omega | (dsimp only; omega)) (by first | omega | (dsimp only; omega)) ?_
  exact ct_iret (ty := .boolean) (v := (nI 1)) B rfl rfl h.2.2 ⟨q1, rfl, h.1, h.2.1⟩ dJ10_add_24
set_option maxHeartbeats 4000000 in
set_option maxRecDepth 100000 in
theorem met_J10_add_21 (l : Launch) (E : CE) (a d n cap : Nat) (md : Int32) (f : Nat → Option Nat) (im : va_W) (x : Nat) (sz : Nat) (hc : 0 < cap ∧ cap ≤ 400000) (hm : n = cap) (hel : ∀ i, i < cap → ∀ y, f i = some y → oI im y) (hx9 : oI im x) : Met l yJ10_add_2 (ws_ yJ10_add_2 cJ10_add_2 4 none) { frames := 5, cells := 1, slots := cap + max 1 (cap / 2), locals := 147 } (ctP E [.ref a, .ref x, .ref d, .int (nI n)] sz (fun H => va_P E.1 ct_cl ([(a, .inr (14, [.int md, .ref d, .int (nI n)])), (d, .inl (E.2.1 5, cap, .inr (.inr (.inr (.inr f)))))] ++ im) H ∧ va_D (fun q => E.2.2.1 ≤ q) ([(a, .inr (14, [.int md, .ref d, .int (nI n)])), (d, .inl (E.2.1 5, cap, .inr (.inr (.inr (.inr f)))))] ++ im))) (ctQ (fun v H => ∃ q2 : Nat, v = none ∧ va_P E.1 ct_cl ([(a, .inr (14, [.int md, .ref q2, .int (nI (n + 1))])), (q2, .inl (E.2.1 5, cap + max 1 (cap / 2), .inr (.inr (.inr (.inr (va_up (va_cpy f (fun _ => none) 0 0 cap) n (some x)))))))] ++ im) H ∧ va_D (va_A ([(a, .inr (14, [.int md, .ref d, .int (nI n)])), (d, .inl (E.2.1 5, cap, .inr (.inr (.inr (.inr f)))))] ++ im) sz) ([(a, .inr (14, [.int md, .ref q2, .int (nI (n + 1))])), (q2, .inl (E.2.1 5, cap + max 1 (cap / 2), .inr (.inr (.inr (.inr (va_up (va_cpy f (fun _ => none) 0 0 cap) n (some x)))))))] ++ im)) (va_A ([(a, .inr (14, [.int md, .ref d, .int (nI n)])), (d, .inl (E.2.1 5, cap, .inr (.inr (.inr (.inr f)))))] ++ im) sz)) 1 (cap + max 1 (cap / 2)) (va_A ([(a, .inr (14, [.int md, .ref d, .int (nI n)])), (d, .inl (E.2.1 5, cap, .inr (.inr (.inr (.inr f)))))] ++ im) sz) := by
  refine ct_start (by decide) (Nat.le_of_ble_eq_true rfl) ?_
  intro p e s m below meth c ls B hsz hH hl
  obtain ⟨hP, hD⟩ := hH
  obtain ⟨A, hAe, h, hA, hAn⟩ := ct_enter B.2.2.2.2.2.2.2.2 hsz hP hD
  rw [hAe]
  refine ct_gen h (fun H locs h => ?_)
  have hx := B.1
  have hb := B.2.1
  have hl : lv_has ls 4 [(0, .ref a), (1, .ref x), (2, .ref d), (3, .int (nI n))] := hl
  refine lv_iload_n hx hb dJ10_add_2_0 rfl (lv_at hl 3 rfl) ?_
  refine lv_aload_n hx hb dJ10_add_2_1 rfl (lv_at hl 2 rfl) ?_
  refine ct_alen B h.1 1 5 rfl rfl dJ10_add_2_2 ?_
  refine n_icmp_ne (tgt := 11) hx hb dJ10_add_2_3 (by decide) (by omega) (by omega) (fun c_1 => absurd c_1 (by omega)) (fun c_1 => ?_)
  refine lv_aload_n hx hb dJ10_add_2_6 rfl (lv_at hl 0 rfl) ?_
  have h : Hs E A s.heap ([] ++ ([(a, .inr (14, [.int md, .ref d, .int (nI n)])), (d, .inl (E.2.1 5, cap, .inr (.inr (.inr (.inr f)))))] ++ im)) H locs := h
  refine ct_callQ (ct_runV (As := []) (rest := []) B (met_J10_grow1 l E a d n cap md f im H.size (by omega) (by omega) hel) (lw_V q1066 q1068 qs34 q66 q1069) (n := 0) ⟨by decide, by decide, by decide +kernel⟩ rfl ⟨rfl, rfl, (Nat.le_of_ble_eq_true rfl), (Nat.le_of_ble_eq_true rfl), (by first | omega | (dsimp only; omega)), (by first | omega | (dsimp only; omega))⟩ h.2.2 hA (ct_recv B h.1 kJ10 0 rfl) ⟨(ct_Pr h.1), (ct_Dr (ct_D0 h hA))⟩ hl.1 (Nat.le_of_ble_eq_true rfl) dJ10_add_2_7) h.2.2 (ct_subR h hAn) (ct_subR h hAn) (fun v H locs hv hz hk hS => ?_)
  obtain ⟨q1, rfl, hP1, hD1⟩ := hv
  have h : Hs E A s.heap ([] ++ ([(a, .inr (14, [.int md, .ref q1, .int (nI n)])), (q1, .inl (E.2.1 5, cap + max 1 (cap / 2), .inr (.inr (.inr (.inr (va_cpy f (fun _ => none) 0 0 cap))))))] ++ im)) H locs := ct_frR h hP1 hD1 hk hS hAn
  have h : Hs E A s.heap ([(a, .inr (14, [.int md, .ref q1, .int (nI n)])), (q1, .inl (E.2.1 5, cap + max 1 (cap / 2), .inr (.inr (.inr (.inr (va_cpy f (fun _ => none) 0 0 cap))))))] ++ im) H locs := h
  clear hP1 hD1 hS hz hk
  refine W.eq (g2 := F0 m 10 ls [.ref q1]) rfl ?_
  refine lv_astore_n (lv' := [(2, .ref q1), (0, .ref a), (1, .ref x), (3, .int (nI n))]) hx hb dJ10_add_2_10 rfl hl (by decide) rfl (fun ls hl => ?_)
  refine lv_aload_n hx hb dJ10_add_2_11 rfl (lv_at hl 0 rfl) ?_
  refine lv_iload_n hx hb dJ10_add_2_12 rfl (lv_at hl 3 rfl) ?_
  refine lv_aload_n hx hb dJ10_add_2_13 rfl (lv_at hl 2 rfl) ?_
  refine ct_aastM (ws' := [(a, .inr (14, [.int md, .ref q1, .int (nI n)])), (q1, .inl (E.2.1 5, cap + max 1 (cap / 2), .inr (.inr (.inr (.inr (va_up (va_cpy f (fun _ => none) 0 0 cap) n (some x)))))))] ++ im) B h 1 rfl (hx9.any B.2.2.2.2.2.2.2.2 (ct_Pr h.1)) (by omega) (by omega) rfl dJ10_add_2_14 (fun H locs h => ?_)
  refine lv_aload_n hx hb dJ10_add_2_15 rfl (lv_at hl 1 rfl) ?_
  refine lv_iload_n hx hb dJ10_add_2_16 rfl (lv_at hl 3 rfl) ?_
  refine lv_iconst (v := nI 1) hx hb dJ10_add_2_17 (by decide) ?_
  refine n_iadd hx hb dJ10_add_2_18 ?_
  refine ct_put (ws' := [(a, .inr (14, [.int md, .ref q1, .int (nI (n + 1))])), (q1, .inl (E.2.1 5, cap + max 1 (cap / 2), .inr (.inr (.inr (.inr (va_up (va_cpy f (fun _ => none) 0 0 cap) n (some x)))))))] ++ im) B h kJ10 0 rfl 2 (Nat.le_of_ble_eq_true rfl) q817 rfl rfl rfl (Nat.le_of_ble_eq_true rfl) rfl dJ10_add_2_19 (fun H locs h => ?_)
  have h : Hs E A s.heap ([(a, .inr (14, [.int md, .ref q1, .int (nI (n + 1))])), (q1, .inl (E.2.1 5, cap + max 1 (cap / 2), .inr (.inr (.inr (.inr (va_up (va_cpy f (fun _ => none) 0 0 cap) n (some x)))))))] ++ im) H locs := h
  refine W.widen (k := 1) (n := cap + max 1 (cap / 2)) (by first | omega | (dsimp only; omega)) (by first | omega | (dsimp only; omega)) ?_
  exact ct_vret B h.2.2 ⟨q1, rfl, h.1, h.2.1⟩ dJ10_add_2_22
set_option maxHeartbeats 4000000 in
set_option maxRecDepth 100000 in
theorem met_J10_add1 (l : Launch) (E : CE) (a d n cap : Nat) (md : Int32) (f : Nat → Option Nat) (im : va_W) (x : Nat) (sz : Nat) (hc : 0 < cap ∧ cap ≤ 400000) (hm : n = cap) (hel : ∀ i, i < cap → ∀ y, f i = some y → oI im y) (hx9 : oI im x) : Met l yJ10_add (ws_ yJ10_add cJ10_add 2 (some .boolean)) { frames := 6, cells := 1, slots := cap + max 1 (cap / 2), locals := 170 } (ctP E [.ref a, .ref x] sz (fun H => va_P E.1 ct_cl ([(a, .inr (14, [.int md, .ref d, .int (nI n)])), (d, .inl (E.2.1 5, cap, .inr (.inr (.inr (.inr f)))))] ++ im) H ∧ va_D (fun q => E.2.2.1 ≤ q) ([(a, .inr (14, [.int md, .ref d, .int (nI n)])), (d, .inl (E.2.1 5, cap, .inr (.inr (.inr (.inr f)))))] ++ im))) (ctQ (fun v H => ∃ q2 : Nat, v = some (.int (nI 1)) ∧ va_P E.1 ct_cl ([(a, .inr (14, [.int (md + nI 1), .ref q2, .int (nI (n + 1))])), (q2, .inl (E.2.1 5, cap + max 1 (cap / 2), .inr (.inr (.inr (.inr (va_up (va_cpy f (fun _ => none) 0 0 cap) n (some x)))))))] ++ im) H ∧ va_D (va_A ([(a, .inr (14, [.int md, .ref d, .int (nI n)])), (d, .inl (E.2.1 5, cap, .inr (.inr (.inr (.inr f)))))] ++ im) sz) ([(a, .inr (14, [.int (md + nI 1), .ref q2, .int (nI (n + 1))])), (q2, .inl (E.2.1 5, cap + max 1 (cap / 2), .inr (.inr (.inr (.inr (va_up (va_cpy f (fun _ => none) 0 0 cap) n (some x)))))))] ++ im)) (va_A ([(a, .inr (14, [.int md, .ref d, .int (nI n)])), (d, .inl (E.2.1 5, cap, .inr (.inr (.inr (.inr f)))))] ++ im) sz)) 1 (cap + max 1 (cap / 2)) (va_A ([(a, .inr (14, [.int md, .ref d, .int (nI n)])), (d, .inl (E.2.1 5, cap, .inr (.inr (.inr (.inr f)))))] ++ im) sz) := by
  refine ct_start (by decide) (Nat.le_of_ble_eq_true rfl) ?_
  intro p e s m below meth c ls B hsz hH hl
  obtain ⟨hP, hD⟩ := hH
  obtain ⟨A, hAe, h, hA, hAn⟩ := ct_enter B.2.2.2.2.2.2.2.2 hsz hP hD
  rw [hAe]
  refine ct_gen h (fun H locs h => ?_)
  have hx := B.1
  have hb := B.2.1
  have hl : lv_has ls 2 [(0, .ref a), (1, .ref x)] := hl
  refine lv_aload_n hx hb dJ10_add_0 rfl (lv_at hl 0 rfl) ?_
  refine lv_dup hx hb dJ10_add_1 rfl ?_
  refine ct_getS (v := .int md) B h.1 kJ10 0 rfl 0 (Nat.le_of_ble_eq_true rfl) q819 q820 rfl dJ10_add_2 ?_
  refine lv_iconst (v := nI 1) hx hb dJ10_add_5 (by decide) ?_
  refine lv_iadd hx hb dJ10_add_6 ?_
  refine ct_putS (ws' := [(a, .inr (14, [.int (md + (nI 1)), .ref d, .int (nI n)])), (d, .inl (E.2.1 5, cap, .inr (.inr (.inr (.inr f)))))] ++ im) B h kJ10 0 rfl 0 (Nat.le_of_ble_eq_true rfl) q819 q820 rfl rfl rfl (Nat.le_of_ble_eq_true rfl) rfl dJ10_add_7 (fun H locs h => ?_)
  refine lv_aload_n hx hb dJ10_add_10 rfl (lv_at hl 0 rfl) ?_
  refine lv_aload_n hx hb dJ10_add_11 rfl (lv_at hl 1 rfl) ?_
  refine lv_aload_n hx hb dJ10_add_12 rfl (lv_at hl 0 rfl) ?_
  refine ct_get (v := .ref d) B h.1 kJ10 0 rfl 1 (Nat.le_of_ble_eq_true rfl) q816 rfl dJ10_add_13 ?_
  refine lv_aload_n hx hb dJ10_add_16 rfl (lv_at hl 0 rfl) ?_
  refine ct_get (v := .int (nI n)) B h.1 kJ10 0 rfl 2 (Nat.le_of_ble_eq_true rfl) q817 rfl dJ10_add_17 ?_
  have h : Hs E A s.heap ([] ++ ([(a, .inr (14, [.int (md + (nI 1)), .ref d, .int (nI n)])), (d, .inl (E.2.1 5, cap, .inr (.inr (.inr (.inr f)))))] ++ im)) H locs := h
  refine ct_callQ (ct_runV (As := [.ref x, .ref d, .int (nI n)]) (rest := []) B (met_J10_add_21 l E a d n cap (md + (nI 1)) f im x H.size (by omega) (by omega) hel hx9) (lw_V q1062 q1064 qs33 q66 q1065) (n := 3) ⟨by decide, by decide, by decide +kernel⟩ rfl ⟨rfl, rfl, (Nat.le_of_ble_eq_true rfl), (Nat.le_of_ble_eq_true rfl), (by first | omega | (dsimp only; omega)), (by first | omega | (dsimp only; omega))⟩ h.2.2 hA (ct_recv B h.1 kJ10 0 rfl) ⟨(ct_Pr h.1), (ct_Dr (ct_D0 h hA))⟩ hl.1 (Nat.le_of_ble_eq_true rfl) dJ10_add_20) h.2.2 (ct_subR h hAn) (ct_subR h hAn) (fun v H locs hv hz hk hS => ?_)
  obtain ⟨q1, rfl, hP1, hD1⟩ := hv
  have h : Hs E A s.heap ([] ++ ([(a, .inr (14, [.int (md + (nI 1)), .ref q1, .int (nI (n + 1))])), (q1, .inl (E.2.1 5, cap + max 1 (cap / 2), .inr (.inr (.inr (.inr (va_up (va_cpy f (fun _ => none) 0 0 cap) n (some x)))))))] ++ im)) H locs := ct_frR h hP1 hD1 hk hS hAn
  have h : Hs E A s.heap ([(a, .inr (14, [.int (md + (nI 1)), .ref q1, .int (nI (n + 1))])), (q1, .inl (E.2.1 5, cap + max 1 (cap / 2), .inr (.inr (.inr (.inr (va_up (va_cpy f (fun _ => none) 0 0 cap) n (some x)))))))] ++ im) H locs := h
  clear hP1 hD1 hS hz hk
  refine W.eq (g2 := F0 m 23 ls []) rfl ?_
  refine lv_iconst (v := nI 1) hx hb dJ10_add_23 (by decide) ?_
  have h : Hs E A s.heap ([(a, .inr (14, [.int (md + nI 1), .ref q1, .int (nI (n + 1))])), (q1, .inl (E.2.1 5, cap + max 1 (cap / 2), .inr (.inr (.inr (.inr (va_up (va_cpy f (fun _ => none) 0 0 cap) n (some x)))))))] ++ im) H locs := h
  refine W.widen (k := 1) (n := cap + max 1 (cap / 2)) (by first | omega | (dsimp only; omega)) (by first | omega | (dsimp only; omega)) ?_
  exact ct_iret (ty := .boolean) (v := (nI 1)) B rfl rfl h.2.2 ⟨q1, rfl, h.1, h.2.1⟩ dJ10_add_24
set_option maxHeartbeats 4000000 in
set_option maxRecDepth 100000 in
theorem met_J10_add_22 (l : Launch) (E : CE) (a d n cap : Nat) (md : Int32) (f : Nat → Option Nat) (im : va_W) (x : Nat) (sz : Nat) (hc : n < cap ∧ cap ≤ 400000) (hx9 : oI im x) : Met l yJ10_add_2 (ws_ yJ10_add_2 cJ10_add_2 4 none) { frames := 0, cells := 0, slots := 0, locals := 0 } (ctP E [.ref a, .ref x, .ref d, .int (nI n)] sz (fun H => va_P E.1 ct_cl ([(a, .inr (14, [.int md, .ref d, .int (nI n)])), (d, .inl (E.2.1 5, cap, .inr (.inr (.inr (.inr f)))))] ++ im) H ∧ va_D (fun q => E.2.2.1 ≤ q) ([(a, .inr (14, [.int md, .ref d, .int (nI n)])), (d, .inl (E.2.1 5, cap, .inr (.inr (.inr (.inr f)))))] ++ im))) (ctQ (fun v H => v = none ∧ va_P E.1 ct_cl ([(a, .inr (14, [.int md, .ref d, .int (nI (n + 1))])), (d, .inl (E.2.1 5, cap, .inr (.inr (.inr (.inr (va_up f n (some x)))))))] ++ im) H ∧ va_D (va_A ([(a, .inr (14, [.int md, .ref d, .int (nI n)])), (d, .inl (E.2.1 5, cap, .inr (.inr (.inr (.inr f)))))] ++ im) sz) ([(a, .inr (14, [.int md, .ref d, .int (nI (n + 1))])), (d, .inl (E.2.1 5, cap, .inr (.inr (.inr (.inr (va_up f n (some x)))))))] ++ im)) (va_A ([(a, .inr (14, [.int md, .ref d, .int (nI n)])), (d, .inl (E.2.1 5, cap, .inr (.inr (.inr (.inr f)))))] ++ im) sz)) 0 0 (va_A ([(a, .inr (14, [.int md, .ref d, .int (nI n)])), (d, .inl (E.2.1 5, cap, .inr (.inr (.inr (.inr f)))))] ++ im) sz) := by
  refine ct_start (by decide) (Nat.le_of_ble_eq_true rfl) ?_
  intro p e s m below meth c ls B hsz hH hl
  obtain ⟨hP, hD⟩ := hH
  obtain ⟨A, hAe, h, hA, hAn⟩ := ct_enter B.2.2.2.2.2.2.2.2 hsz hP hD
  rw [hAe]
  refine ct_gen h (fun H locs h => ?_)
  have hx := B.1
  have hb := B.2.1
  have hl : lv_has ls 4 [(0, .ref a), (1, .ref x), (2, .ref d), (3, .int (nI n))] := hl
  refine lv_iload_n hx hb dJ10_add_2_0 rfl (lv_at hl 3 rfl) ?_
  refine lv_aload_n hx hb dJ10_add_2_1 rfl (lv_at hl 2 rfl) ?_
  refine ct_alen B h.1 1 5 rfl rfl dJ10_add_2_2 ?_
  refine n_icmp_ne (tgt := 11) hx hb dJ10_add_2_3 (by decide) (by omega) (by omega) (fun c_1 => ?_) (fun c_1 => absurd c_1 (by omega))
  refine lv_aload_n hx hb dJ10_add_2_11 rfl (lv_at hl 2 rfl) ?_
  refine lv_iload_n hx hb dJ10_add_2_12 rfl (lv_at hl 3 rfl) ?_
  refine lv_aload_n hx hb dJ10_add_2_13 rfl (lv_at hl 1 rfl) ?_
  refine ct_aastM (ws' := [(a, .inr (14, [.int md, .ref d, .int (nI n)])), (d, .inl (E.2.1 5, cap, .inr (.inr (.inr (.inr (va_up f n (some x)))))))] ++ im) B h 1 rfl (hx9.any B.2.2.2.2.2.2.2.2 (ct_Pr h.1)) (by omega) (by omega) rfl dJ10_add_2_14 (fun H locs h => ?_)
  refine lv_aload_n hx hb dJ10_add_2_15 rfl (lv_at hl 0 rfl) ?_
  refine lv_iload_n hx hb dJ10_add_2_16 rfl (lv_at hl 3 rfl) ?_
  refine lv_iconst (v := nI 1) hx hb dJ10_add_2_17 (by decide) ?_
  refine n_iadd hx hb dJ10_add_2_18 ?_
  refine ct_put (ws' := [(a, .inr (14, [.int md, .ref d, .int (nI (n + 1))])), (d, .inl (E.2.1 5, cap, .inr (.inr (.inr (.inr (va_up f n (some x)))))))] ++ im) B h kJ10 0 rfl 2 (Nat.le_of_ble_eq_true rfl) q817 rfl rfl rfl (Nat.le_of_ble_eq_true rfl) rfl dJ10_add_2_19 (fun H locs h => ?_)
  have h : Hs E A s.heap ([(a, .inr (14, [.int md, .ref d, .int (nI (n + 1))])), (d, .inl (E.2.1 5, cap, .inr (.inr (.inr (.inr (va_up f n (some x)))))))] ++ im) H locs := h
  exact ct_vret B h.2.2 ⟨rfl, h.1, h.2.1⟩ dJ10_add_2_22
set_option maxHeartbeats 4000000 in
set_option maxRecDepth 100000 in
theorem met_J10_add2 (l : Launch) (E : CE) (a d n cap : Nat) (md : Int32) (f : Nat → Option Nat) (im : va_W) (x : Nat) (sz : Nat) (hc : n < cap ∧ cap ≤ 400000) (hx9 : oI im x) : Met l yJ10_add (ws_ yJ10_add cJ10_add 2 (some .boolean)) { frames := 6, cells := 0, slots := 0, locals := 170 } (ctP E [.ref a, .ref x] sz (fun H => va_P E.1 ct_cl ([(a, .inr (14, [.int md, .ref d, .int (nI n)])), (d, .inl (E.2.1 5, cap, .inr (.inr (.inr (.inr f)))))] ++ im) H ∧ va_D (fun q => E.2.2.1 ≤ q) ([(a, .inr (14, [.int md, .ref d, .int (nI n)])), (d, .inl (E.2.1 5, cap, .inr (.inr (.inr (.inr f)))))] ++ im))) (ctQ (fun v H => v = some (.int (nI 1)) ∧ va_P E.1 ct_cl ([(a, .inr (14, [.int (md + nI 1), .ref d, .int (nI (n + 1))])), (d, .inl (E.2.1 5, cap, .inr (.inr (.inr (.inr (va_up f n (some x)))))))] ++ im) H ∧ va_D (va_A ([(a, .inr (14, [.int md, .ref d, .int (nI n)])), (d, .inl (E.2.1 5, cap, .inr (.inr (.inr (.inr f)))))] ++ im) sz) ([(a, .inr (14, [.int (md + nI 1), .ref d, .int (nI (n + 1))])), (d, .inl (E.2.1 5, cap, .inr (.inr (.inr (.inr (va_up f n (some x)))))))] ++ im)) (va_A ([(a, .inr (14, [.int md, .ref d, .int (nI n)])), (d, .inl (E.2.1 5, cap, .inr (.inr (.inr (.inr f)))))] ++ im) sz)) 0 0 (va_A ([(a, .inr (14, [.int md, .ref d, .int (nI n)])), (d, .inl (E.2.1 5, cap, .inr (.inr (.inr (.inr f)))))] ++ im) sz) := by
  refine ct_start (by decide) (Nat.le_of_ble_eq_true rfl) ?_
  intro p e s m below meth c ls B hsz hH hl
  obtain ⟨hP, hD⟩ := hH
  obtain ⟨A, hAe, h, hA, hAn⟩ := ct_enter B.2.2.2.2.2.2.2.2 hsz hP hD
  rw [hAe]
  refine ct_gen h (fun H locs h => ?_)
  have hx := B.1
  have hb := B.2.1
  have hl : lv_has ls 2 [(0, .ref a), (1, .ref x)] := hl
  refine lv_aload_n hx hb dJ10_add_0 rfl (lv_at hl 0 rfl) ?_
  refine lv_dup hx hb dJ10_add_1 rfl ?_
  refine ct_getS (v := .int md) B h.1 kJ10 0 rfl 0 (Nat.le_of_ble_eq_true rfl) q819 q820 rfl dJ10_add_2 ?_
  refine lv_iconst (v := nI 1) hx hb dJ10_add_5 (by decide) ?_
  refine lv_iadd hx hb dJ10_add_6 ?_
  refine ct_putS (ws' := [(a, .inr (14, [.int (md + (nI 1)), .ref d, .int (nI n)])), (d, .inl (E.2.1 5, cap, .inr (.inr (.inr (.inr f)))))] ++ im) B h kJ10 0 rfl 0 (Nat.le_of_ble_eq_true rfl) q819 q820 rfl rfl rfl (Nat.le_of_ble_eq_true rfl) rfl dJ10_add_7 (fun H locs h => ?_)
  refine lv_aload_n hx hb dJ10_add_10 rfl (lv_at hl 0 rfl) ?_
  refine lv_aload_n hx hb dJ10_add_11 rfl (lv_at hl 1 rfl) ?_
  refine lv_aload_n hx hb dJ10_add_12 rfl (lv_at hl 0 rfl) ?_
  refine ct_get (v := .ref d) B h.1 kJ10 0 rfl 1 (Nat.le_of_ble_eq_true rfl) q816 rfl dJ10_add_13 ?_
  refine lv_aload_n hx hb dJ10_add_16 rfl (lv_at hl 0 rfl) ?_
  refine ct_get (v := .int (nI n)) B h.1 kJ10 0 rfl 2 (Nat.le_of_ble_eq_true rfl) q817 rfl dJ10_add_17 ?_
  have h : Hs E A s.heap ([] ++ ([(a, .inr (14, [.int (md + (nI 1)), .ref d, .int (nI n)])), (d, .inl (E.2.1 5, cap, .inr (.inr (.inr (.inr f)))))] ++ im)) H locs := h
  refine ct_callQ (ct_runV (As := [.ref x, .ref d, .int (nI n)]) (rest := []) B (met_J10_add_22 l E a d n cap (md + (nI 1)) f im x H.size (by omega) hx9) (lw_V q1062 q1064 qs33 q66 q1065) (n := 3) ⟨by decide, by decide, by decide +kernel⟩ rfl ⟨rfl, rfl, (Nat.le_of_ble_eq_true rfl), (Nat.le_of_ble_eq_true rfl), (Nat.le_of_ble_eq_true rfl), (Nat.le_of_ble_eq_true rfl)⟩ h.2.2 hA (ct_recv B h.1 kJ10 0 rfl) ⟨(ct_Pr h.1), (ct_Dr (ct_D0 h hA))⟩ hl.1 (Nat.le_of_ble_eq_true rfl) dJ10_add_20) h.2.2 (ct_subR h hAn) (ct_subR h hAn) (fun v H locs hv hz hk hS => ?_)
  obtain ⟨rfl, hP1, hD1⟩ := hv
  have h : Hs E A s.heap ([] ++ ([(a, .inr (14, [.int (md + (nI 1)), .ref d, .int (nI (n + 1))])), (d, .inl (E.2.1 5, cap, .inr (.inr (.inr (.inr (va_up f n (some x)))))))] ++ im)) H locs := ct_frR h hP1 hD1 hk hS hAn
  have h : Hs E A s.heap ([(a, .inr (14, [.int (md + (nI 1)), .ref d, .int (nI (n + 1))])), (d, .inl (E.2.1 5, cap, .inr (.inr (.inr (.inr (va_up f n (some x)))))))] ++ im) H locs := h
  clear hP1 hD1 hS hz hk
  refine W.eq (g2 := F0 m 23 ls []) rfl ?_
  refine lv_iconst (v := nI 1) hx hb dJ10_add_23 (by decide) ?_
  have h : Hs E A s.heap ([(a, .inr (14, [.int (md + nI 1), .ref d, .int (nI (n + 1))])), (d, .inl (E.2.1 5, cap, .inr (.inr (.inr (.inr (va_up f n (some x)))))))] ++ im) H locs := h
  exact ct_iret (ty := .boolean) (v := (nI 1)) B rfl rfl h.2.2 ⟨rfl, h.1, h.2.1⟩ dJ10_add_24
