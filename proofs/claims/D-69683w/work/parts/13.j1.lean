set_option maxHeartbeats 4000000 in
set_option maxRecDepth 100000 in
theorem met_J6_checkIndex_r (l : Launch) (E : CE)  (i n x : Nat) (sz : Nat) (hi : i < n) (hn : n < 2147483648) : Met l yJ6_checkIndex (ws_ yJ6_checkIndex cJ6_checkIndex 3 (some .int)) { frames := 0, cells := 0, slots := 0, locals := 0 } (ctP E [.int (nI i), .int (nI n), .ref x] sz (fun H => True)) (ctR (fun v => v = some (.int (nI i)))) 0 0 (fun _ => False) := by
  refine ct_start (by decide) (Nat.le_of_ble_eq_true rfl) ?_
  intro p e s m below meth c ls B hsz hH hl
  have hx := B.1
  have hb := B.2.1
  have hl : lv_has ls 3 [(0, .int (nI i)), (1, .int (nI n)), (2, .ref x)] := hl
  refine lv_iload_n hx hb dJ6_checkIndex_0 rfl (lv_at hl 0 rfl) ?_
  refine n_if_lt hx hb dJ6_checkIndex_1 (by omega) ?_
  refine lv_iload_n hx hb dJ6_checkIndex_4 rfl (lv_at hl 0 rfl) ?_
  refine lv_iload_n hx hb dJ6_checkIndex_5 rfl (lv_at hl 1 rfl) ?_
  refine n_icmp_lt (tgt := 16) hx hb dJ6_checkIndex_6 (by decide) (by omega) (by omega) (fun c_2 => ?_) (fun c_2 => absurd c_2 (by omega))
  refine lv_iload_n hx hb dJ6_checkIndex_16 rfl (lv_at hl 0 rfl) ?_
  exact ct_iretR (ty := .int) (v := (nI i)) B rfl rfl (rfl) dJ6_checkIndex_17
set_option maxHeartbeats 4000000 in
set_option maxRecDepth 100000 in
theorem met_J6_checkIndex_n (l : Launch) (E : CE)  (i n : Nat) (sz : Nat) (hi : i < n) (hn : n < 2147483648) : Met l yJ6_checkIndex (ws_ yJ6_checkIndex cJ6_checkIndex 3 (some .int)) { frames := 0, cells := 0, slots := 0, locals := 0 } (ctP E [.int (nI i), .int (nI n), .null] sz (fun H => True)) (ctR (fun v => v = some (.int (nI i)))) 0 0 (fun _ => False) := by
  refine ct_start (by decide) (Nat.le_of_ble_eq_true rfl) ?_
  intro p e s m below meth c ls B hsz hH hl
  have hx := B.1
  have hb := B.2.1
  have hl : lv_has ls 3 [(0, .int (nI i)), (1, .int (nI n)), (2, .null)] := hl
  refine lv_iload_n hx hb dJ6_checkIndex_0 rfl (lv_at hl 0 rfl) ?_
  refine n_if_lt hx hb dJ6_checkIndex_1 (by omega) ?_
  refine lv_iload_n hx hb dJ6_checkIndex_4 rfl (lv_at hl 0 rfl) ?_
  refine lv_iload_n hx hb dJ6_checkIndex_5 rfl (lv_at hl 1 rfl) ?_
  refine n_icmp_lt (tgt := 16) hx hb dJ6_checkIndex_6 (by decide) (by omega) (by omega) (fun c_2 => ?_) (fun c_2 => absurd c_2 (by omega))
  refine lv_iload_n hx hb dJ6_checkIndex_16 rfl (lv_at hl 0 rfl) ?_
  exact ct_iretR (ty := .int) (v := (nI i)) B rfl rfl (rfl) dJ6_checkIndex_17
set_option maxHeartbeats 4000000 in
set_option maxRecDepth 100000 in
theorem met_J6_checkIndex (l : Launch) (E : CE)  (i n : Nat) (r : Option Nat) (sz : Nat) (hi : i < n) (hn : n < 2147483648) : Met l yJ6_checkIndex (ws_ yJ6_checkIndex cJ6_checkIndex 3 (some .int)) { frames := 0, cells := 0, slots := 0, locals := 0 } (ctP E [.int (nI i), .int (nI n), va_rf r] sz (fun H => True)) (ctR (fun v => v = some (.int (nI i)))) 0 0 (fun _ => False) := by
  cases r with
  | none => exact met_J6_checkIndex_n l E i n sz hi hn
  | some x => exact met_J6_checkIndex_r l E i n x sz hi hn
set_option maxHeartbeats 4000000 in
set_option maxRecDepth 100000 in
theorem met_J16_checkIndex (l : Launch) (E : CE)  (i n : Nat) (sz : Nat) (hi : i < n) (hn : n < 2147483648) : Met l yJ16_checkIndex (ws_ yJ16_checkIndex cJ16_checkIndex 2 (some .int)) { frames := 1, cells := 0, slots := 0, locals := 22 } (ctP E [.int (nI i), .int (nI n)] sz (fun H => True)) (ctR (fun v => v = some (.int (nI i)))) 0 0 (fun _ => False) := by
  refine ct_start (by decide) (Nat.le_of_ble_eq_true rfl) ?_
  intro p e s m below meth c ls B hsz hH hl
  have hx := B.1
  have hb := B.2.1
  have hl : lv_has ls 2 [(0, .int (nI i)), (1, .int (nI n))] := hl
  refine lv_iload_n hx hb dJ16_checkIndex_0 rfl (lv_at hl 0 rfl) ?_
  refine lv_iload_n hx hb dJ16_checkIndex_1 rfl (lv_at hl 1 rfl) ?_
  refine lv_null hx hb dJ16_checkIndex_2 ?_
  refine ct_callR (ct_runS (As := [.int (nI i), .int (nI n), .null]) (rest := []) B (met_J6_checkIndex l E i n none s.heap.size (by omega) (by omega)) (lw_S q1044 q492 q60 q493) (n := 3) ⟨by decide, by decide, by decide +kernel⟩ rfl ⟨rfl, rfl, (Nat.le_of_ble_eq_true rfl), (Nat.le_of_ble_eq_true rfl), (Nat.le_of_ble_eq_true rfl), (Nat.le_of_ble_eq_true rfl)⟩ (va_S.rf (A := fun _ => False)) (fun _ h => h.elim) trivial hl.1 (Nat.le_of_ble_eq_true rfl) dJ16_checkIndex_3) (fun v hv => ?_)
  subst hv
  refine W.eq (g2 := F0 m 6 ls [.int (nI i)]) rfl ?_
  exact ct_iretR (ty := .int) (v := (nI i)) B rfl rfl (rfl) dJ16_checkIndex_6
set_option maxHeartbeats 4000000 in
set_option maxRecDepth 100000 in
theorem met_J4_checkIndex (l : Launch) (E : CE)  (i n : Nat) (sz : Nat) (hi : i < n) (hn : n < 2147483648) : Met l yJ4_checkIndex (ws_ yJ4_checkIndex cJ4_checkIndex 2 none) { frames := 1, cells := 0, slots := 0, locals := 22 } (ctP E [.int (nI i), .int (nI n)] sz (fun H => True)) (ctR (fun v => v = none)) 0 0 (fun _ => False) := by
  refine ct_start (by decide) (Nat.le_of_ble_eq_true rfl) ?_
  intro p e s m below meth c ls B hsz hH hl
  have hx := B.1
  have hb := B.2.1
  have hl : lv_has ls 2 [(0, .int (nI i)), (1, .int (nI n))] := hl
  refine lv_iload_n hx hb dJ4_checkIndex_0 rfl (lv_at hl 0 rfl) ?_
  refine lv_iload_n hx hb dJ4_checkIndex_1 rfl (lv_at hl 1 rfl) ?_
  refine ct_gsF B (va_S.rf (A := fun _ => False)) (fun _ h => h.elim) q489 dJ4_checkIndex_2 (fun r_1 => ?_)
  refine ct_callR (ct_runS (As := [.int (nI i), .int (nI n), va_rf r_1]) (rest := []) B (met_J6_checkIndex l E i n r_1 s.heap.size (by omega) (by omega)) (lw_S q491 q492 q60 q493) (n := 3) ⟨by decide, by decide, by decide +kernel⟩ rfl ⟨rfl, rfl, (Nat.le_of_ble_eq_true rfl), (Nat.le_of_ble_eq_true rfl), (Nat.le_of_ble_eq_true rfl), (Nat.le_of_ble_eq_true rfl)⟩ (va_S.rf (A := fun _ => False)) (fun _ h => h.elim) trivial hl.1 (Nat.le_of_ble_eq_true rfl) dJ4_checkIndex_5) (fun v hv => ?_)
  subst hv
  refine W.eq (g2 := F0 m 8 ls [.int (nI i)]) rfl ?_
  refine lv_pop hx hb dJ4_checkIndex_8 rfl ?_
  exact ct_vretR B (rfl) dJ4_checkIndex_9
set_option maxHeartbeats 4000000 in
set_option maxRecDepth 100000 in
theorem met_J4_coder (l : Launch) (E : CE)  (A0 : Nat → Prop) (a : Nat) (t : List Nat) (sz : Nat)  : Met l yJ4_coder (ws_ yJ4_coder cJ4_coder 1 (some .byte)) { frames := 0, cells := 0, slots := 0, locals := 0 } (ctP E [.ref a] sz (fun H => ct_S E A0 H a t)) (ctR (fun v => v = some (.int (nI 0)))) 0 0 (fun _ => False) := by
  refine ct_start (by decide) (Nat.le_of_ble_eq_true rfl) ?_
  intro p e s m below meth c ls B hsz hH hl
  have hS0 := hH
  have hx := B.1
  have hb := B.2.1
  have hl : lv_has ls 1 [(0, .ref a)] := hl
  obtain ⟨v0, hV0⟩ := hS0.val
  have hs0 := hS0.small
  refine ct_gsC B (va_S.rf (A := fun _ => False)) (fun _ h => h.elim) q473 dJ4_coder_0 ?_
  refine n_if_eq (tgt := 13) hx hb dJ4_coder_3 (by decide) (by omega) (fun c_1 => absurd c_1 (by omega)) (fun c_1 => ?_)
  refine lv_aload_n hx hb dJ4_coder_6 rfl (lv_at hl 0 rfl) ?_
  refine ct_SgC B hV0 q1018 dJ4_coder_7 ?_
  refine lv_goto (tgt := 14) hx hb dJ4_coder_10 (by decide) ?_
  exact ct_iretR (ty := .byte) (v := (nI 0)) B rfl rfl (rfl) dJ4_coder_14
set_option maxHeartbeats 4000000 in
set_option maxRecDepth 100000 in
theorem met_J4_length (l : Launch) (E : CE)  (A0 : Nat → Prop) (a : Nat) (t : List Nat) (sz : Nat)  : Met l yJ4_length (ws_ yJ4_length cJ4_length 1 (some .int)) { frames := 1, cells := 0, slots := 0, locals := 20 } (ctP E [.ref a] sz (fun H => ct_S E A0 H a t)) (ctR (fun v => v = some (.int (nI t.length)))) 0 0 (fun _ => False) := by
  refine ct_start (by decide) (Nat.le_of_ble_eq_true rfl) ?_
  intro p e s m below meth c ls B hsz hH hl
  have hS0 := hH
  have hx := B.1
  have hb := B.2.1
  have hl : lv_has ls 1 [(0, .ref a)] := hl
  obtain ⟨v0, hV0⟩ := hS0.val
  have hs0 := hS0.small
  refine lv_aload_n hx hb dJ4_length_0 rfl (lv_at hl 0 rfl) ?_
  refine ct_SgV B hV0 q1017 dJ4_length_1 ?_
  refine ct_Slen B hV0.bytes dJ4_length_4 ?_
  refine lv_aload_n hx hb dJ4_length_5 rfl (lv_at hl 0 rfl) ?_
  refine ct_callR (ct_runV (As := []) (rest := [.int (nI t.length)]) B (met_J4_coder l E  _ a t s.heap.size) (lw_V q469 q470 q471 q58 q472) (n := 0) ⟨by decide, by decide, by decide +kernel⟩ rfl ⟨rfl, rfl, (Nat.le_of_ble_eq_true rfl), (Nat.le_of_ble_eq_true rfl), (Nat.le_of_ble_eq_true rfl), (Nat.le_of_ble_eq_true rfl)⟩ (va_S.rf (A := fun _ => False)) (fun _ h => h.elim) (ct_Srecv B hV0.str) hV0.str hl.1 (Nat.le_of_ble_eq_true rfl) dJ4_length_6) (fun v hv => ?_)
  subst hv
  refine W.eq (g2 := F0 m 9 ls [.int (nI 0), .int (nI t.length)]) rfl ?_
  refine lv_ishr hx hb dJ4_length_9 ?_
  refine W.eq (g2 := F0 m 10 ls [.int (nI t.length)]) (by rw [c_shr0]) ?_
  exact ct_iretR (ty := .int) (v := (nI t.length)) B rfl rfl (rfl) dJ4_length_10
set_option maxHeartbeats 4000000 in
set_option maxRecDepth 100000 in
theorem met_J4_isLatin1 (l : Launch) (E : CE)  (A0 : Nat → Prop) (a : Nat) (t : List Nat) (sz : Nat)  : Met l yJ4_isLatin1 (ws_ yJ4_isLatin1 cJ4_isLatin1 1 (some .boolean)) { frames := 0, cells := 0, slots := 0, locals := 0 } (ctP E [.ref a] sz (fun H => ct_S E A0 H a t)) (ctR (fun v => v = some (.int (nI 1)))) 0 0 (fun _ => False) := by
  refine ct_start (by decide) (Nat.le_of_ble_eq_true rfl) ?_
  intro p e s m below meth c ls B hsz hH hl
  have hS0 := hH
  have hx := B.1
  have hb := B.2.1
  have hl : lv_has ls 1 [(0, .ref a)] := hl
  obtain ⟨v0, hV0⟩ := hS0.val
  have hs0 := hS0.small
  refine ct_gsC B (va_S.rf (A := fun _ => False)) (fun _ h => h.elim) q473 dJ4_isLatin1_0 ?_
  refine n_if_eq (tgt := 17) hx hb dJ4_isLatin1_3 (by decide) (by omega) (fun c_1 => absurd c_1 (by omega)) (fun c_1 => ?_)
  refine lv_aload_n hx hb dJ4_isLatin1_6 rfl (lv_at hl 0 rfl) ?_
  refine ct_SgC B hV0 q1018 dJ4_isLatin1_7 ?_
  refine n_if_ne (tgt := 17) hx hb dJ4_isLatin1_10 (by decide) (by omega) (fun c_2 => absurd c_2 (by omega)) (fun c_2 => ?_)
  refine lv_iconst (v := nI 1) hx hb dJ4_isLatin1_13 (by decide) ?_
  refine lv_goto (tgt := 18) hx hb dJ4_isLatin1_14 (by decide) ?_
  exact ct_iretR (ty := .boolean) (v := (nI 1)) B rfl rfl (rfl) dJ4_isLatin1_18
set_option maxHeartbeats 4000000 in
set_option maxRecDepth 100000 in
theorem met_J5_charAt (l : Launch) (E : CE)  (v i : Nat) (t : List Nat) (sz : Nat) (hi : i < t.length) : Met l yJ5_charAt (ws_ yJ5_charAt cJ5_charAt 2 (some .char)) { frames := 2, cells := 0, slots := 0, locals := 43 } (ctP E [.ref v, .int (nI i)] sz (fun H => ct_SB E H v t)) (ctR (fun v => v = some (.int (nI (t.getD i 0))))) 0 0 (fun _ => False) := by
  refine ct_start (by decide) (Nat.le_of_ble_eq_true rfl) ?_
  intro p e s m below meth c ls B hsz hH hl
  have hS0B := hH
  have hx := B.1
  have hb := B.2.1
  have hl : lv_has ls 2 [(0, .ref v), (1, .int (nI i))] := hl
  have hs0 := hS0B.small
  refine lv_iload_n hx hb dJ5_charAt_0 rfl (lv_at hl 1 rfl) ?_
  refine lv_aload_n hx hb dJ5_charAt_1 rfl (lv_at hl 0 rfl) ?_
  refine ct_Slen B hS0B dJ5_charAt_2 ?_
  refine ct_callR (ct_runS (As := [.int (nI i), .int (nI t.length)]) (rest := []) B (met_J4_checkIndex l E  i t.length s.heap.size (by omega) (by omega)) (lw_S q486 q487 q58 q488) (n := 2) ⟨by decide, by decide, by decide +kernel⟩ rfl ⟨rfl, rfl, (Nat.le_of_ble_eq_true rfl), (Nat.le_of_ble_eq_true rfl), (Nat.le_of_ble_eq_true rfl), (Nat.le_of_ble_eq_true rfl)⟩ (va_S.rf (A := fun _ => False)) (fun _ h => h.elim) trivial hl.1 (Nat.le_of_ble_eq_true rfl) dJ5_charAt_3) (fun v hv => ?_)
  subst hv
  refine W.eq (g2 := F0 m 6 ls []) rfl ?_
  refine lv_aload_n hx hb dJ5_charAt_6 rfl (lv_at hl 0 rfl) ?_
  refine lv_iload_n hx hb dJ5_charAt_7 rfl (lv_at hl 1 rfl) ?_
  refine ct_Sald B hS0B (by omega) dJ5_charAt_8 ?_
  refine lv_sipush (v := nI 255) hx hb dJ5_charAt_9 (by decide) ?_
  refine lv_iand hx hb dJ5_charAt_12 ?_
  refine lv_i2c (v := (nI (t.getD i 0))) hx hb dJ5_charAt_13 (c_char _ (tx_lt hs0.2 i)) ?_
  exact ct_iretR (ty := .char) (v := (nI (t.getD i 0))) B rfl (c_charN _ (tx_lt hs0.2 i)) (rfl) dJ5_charAt_14
set_option maxHeartbeats 4000000 in
set_option maxRecDepth 100000 in
theorem met_J4_charAt (l : Launch) (E : CE)  (A0 : Nat → Prop) (a i : Nat) (t : List Nat) (sz : Nat) (hi : i < t.length) : Met l yJ4_charAt (ws_ yJ4_charAt cJ4_charAt 2 (some .char)) { frames := 3, cells := 0, slots := 0, locals := 64 } (ctP E [.ref a, .int (nI i)] sz (fun H => ct_S E A0 H a t)) (ctR (fun v => v = some (.int (nI (t.getD i 0))))) 0 0 (fun _ => False) := by
  refine ct_start (by decide) (Nat.le_of_ble_eq_true rfl) ?_
  intro p e s m below meth c ls B hsz hH hl
  have hS0 := hH
  have hx := B.1
  have hb := B.2.1
  have hl : lv_has ls 2 [(0, .ref a), (1, .int (nI i))] := hl
  obtain ⟨v0, hV0⟩ := hS0.val
  have hs0 := hS0.small
  refine lv_aload_n hx hb dJ4_charAt_0 rfl (lv_at hl 0 rfl) ?_
  refine ct_callR (ct_runV (As := []) (rest := []) B (met_J4_isLatin1 l E  _ a t s.heap.size) (lw_V q479 q480 q481 q58 q482) (n := 0) ⟨by decide, by decide, by decide +kernel⟩ rfl ⟨rfl, rfl, (Nat.le_of_ble_eq_true rfl), (Nat.le_of_ble_eq_true rfl), (Nat.le_of_ble_eq_true rfl), (Nat.le_of_ble_eq_true rfl)⟩ (va_S.rf (A := fun _ => False)) (fun _ h => h.elim) (ct_Srecv B hV0.str) hV0.str hl.1 (Nat.le_of_ble_eq_true rfl) dJ4_charAt_1) (fun v hv => ?_)
  subst hv
  refine W.eq (g2 := F0 m 4 ls [.int (nI 1)]) rfl ?_
  refine n_if_eq (tgt := 16) hx hb dJ4_charAt_4 (by decide) (by omega) (fun c_1 => absurd c_1 (by omega)) (fun c_1 => ?_)
  refine lv_aload_n hx hb dJ4_charAt_7 rfl (lv_at hl 0 rfl) ?_
  refine ct_SgV B hV0 q1017 dJ4_charAt_8 ?_
  refine lv_iload_n hx hb dJ4_charAt_11 rfl (lv_at hl 1 rfl) ?_
  refine ct_callR (ct_runS (As := [.ref v0, .int (nI i)]) (rest := []) B (met_J5_charAt l E  v0 i t s.heap.size hi) (lw_S q483 q484 q59 q485) (n := 2) ⟨by decide, by decide, by decide +kernel⟩ rfl ⟨rfl, rfl, (Nat.le_of_ble_eq_true rfl), (Nat.le_of_ble_eq_true rfl), (Nat.le_of_ble_eq_true rfl), (Nat.le_of_ble_eq_true rfl)⟩ (va_S.rf (A := fun _ => False)) (fun _ h => h.elim) hV0.bytes hl.1 (Nat.le_of_ble_eq_true rfl) dJ4_charAt_12) (fun v hv => ?_)
  subst hv
  refine W.eq (g2 := F0 m 15 ls [.int (nI (t.getD i 0))]) rfl ?_
  exact ct_iretR (ty := .char) (v := (nI (t.getD i 0))) B rfl (c_charN _ (tx_lt hs0.2 i)) (rfl) dJ4_charAt_15
set_option maxHeartbeats 4000000 in
set_option maxRecDepth 100000 in
theorem met_J4_isEmpty (l : Launch) (E : CE)  (A0 : Nat → Prop) (a : Nat) (t : List Nat) (sz : Nat)  : Met l yJ4_isEmpty (ws_ yJ4_isEmpty cJ4_isEmpty 1 (some .boolean)) { frames := 0, cells := 0, slots := 0, locals := 0 } (ctP E [.ref a] sz (fun H => ct_S E A0 H a t)) (ctR (fun v => v = some (.int (if t.length = 0 then 1 else 0)))) 0 0 (fun _ => False) := by
  refine ct_start (by decide) (Nat.le_of_ble_eq_true rfl) ?_
  intro p e s m below meth c ls B hsz hH hl
  have hS0 := hH
  have hx := B.1
  have hb := B.2.1
  have hl : lv_has ls 1 [(0, .ref a)] := hl
  obtain ⟨v0, hV0⟩ := hS0.val
  have hs0 := hS0.small
  refine lv_aload_n hx hb dJ4_isEmpty_0 rfl (lv_at hl 0 rfl) ?_
  refine ct_SgV B hV0 q1017 dJ4_isEmpty_1 ?_
  refine ct_Slen B hV0.bytes dJ4_isEmpty_4 ?_
  refine n_if_ne (tgt := 12) hx hb dJ4_isEmpty_5 (by decide) (by omega) (fun c_1 => ?_) (fun c_1 => ?_)
  · refine lv_iconst (v := nI 0) hx hb dJ4_isEmpty_12 (by decide) ?_
    exact ct_iretR (ty := .boolean) (v := (nI 0)) B rfl rfl (by rw [if_neg (by first | exact c_1 | exact Int32.not_le.mp c_1 | exact Int32.not_lt.mp c_1 | exact Int32.not_le.mpr c_1 | exact Int32.not_lt.mpr c_1 | omega)] <;> rfl) dJ4_isEmpty_13
  · refine lv_iconst (v := nI 1) hx hb dJ4_isEmpty_8 (by decide) ?_
    refine lv_goto (tgt := 13) hx hb dJ4_isEmpty_9 (by decide) ?_
    exact ct_iretR (ty := .boolean) (v := (nI 1)) B rfl rfl (by rw [if_pos (by first | exact c_1 | exact Int32.not_le.mp c_1 | exact Int32.not_lt.mp c_1 | exact Int32.not_le.mpr c_1 | exact Int32.not_lt.mpr c_1 | omega)] <;> rfl) dJ4_isEmpty_13
set_option maxHeartbeats 4000000 in
set_option maxRecDepth 100000 in
theorem met_J17_compare (l : Launch) (E : CE)  (a b : Nat) (sz : Nat) (ha : a < 2147483648) (hb : b < 2147483648) : Met l yJ17_compare (ws_ yJ17_compare cJ17_compare 2 (some .int)) { frames := 0, cells := 0, slots := 0, locals := 0 } (ctP E [.int (nI a), .int (nI b)] sz (fun H => True)) (ctR (fun v => v = some (.int (if a < b then (-1) else if a = b then 0 else 1)))) 0 0 (fun _ => False) := by
  refine ct_start (by decide) (Nat.le_of_ble_eq_true rfl) ?_
  intro p e s m below meth c ls B hsz hH hl
  have hx := B.1
  have hb := B.2.1
  have hl : lv_has ls 2 [(0, .int (nI a)), (1, .int (nI b))] := hl
  refine lv_iload_n hx hb dJ17_compare_0 rfl (lv_at hl 0 rfl) ?_
  refine lv_iload_n hx hb dJ17_compare_1 rfl (lv_at hl 1 rfl) ?_
  refine n_icmp_ge (tgt := 9) hx hb dJ17_compare_2 (by decide) (by omega) (by omega) (fun c_1 => ?_) (fun c_1 => ?_)
  · refine lv_iload_n hx hb dJ17_compare_9 rfl (lv_at hl 0 rfl) ?_
    refine lv_iload_n hx hb dJ17_compare_10 rfl (lv_at hl 1 rfl) ?_
    refine n_icmp_ne (tgt := 18) hx hb dJ17_compare_11 (by decide) (by omega) (by omega) (fun c_2 => ?_) (fun c_2 => ?_)
    · refine lv_iconst (v := nI 1) hx hb dJ17_compare_18 (by decide) ?_
      exact ct_iretR (ty := .int) (v := (nI 1)) B rfl rfl (by rw [show (if a < b then (-1 : Int32) else if a = b then 0 else 1) = (nI 1) from by rw [if_neg (by omega), if_neg (by omega)] <;> rfl]) dJ17_compare_19
    · refine lv_iconst (v := nI 0) hx hb dJ17_compare_14 (by decide) ?_
      refine lv_goto (tgt := 19) hx hb dJ17_compare_15 (by decide) ?_
      exact ct_iretR (ty := .int) (v := (nI 0)) B rfl rfl (by rw [show (if a < b then (-1 : Int32) else if a = b then 0 else 1) = (nI 0) from by rw [if_neg (by omega), if_pos (by omega)] <;> rfl]) dJ17_compare_19
  · refine lv_iconst (v := (-1)) hx hb dJ17_compare_5 (by decide) ?_
    refine lv_goto (tgt := 19) hx hb dJ17_compare_6 (by decide) ?_
    exact ct_iretR (ty := .int) (v := (-1)) B rfl rfl (by rw [show (if a < b then (-1 : Int32) else if a = b then 0 else 1) = (-1) from by rw [if_pos (by omega)]]) dJ17_compare_19
