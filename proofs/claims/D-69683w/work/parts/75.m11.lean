set_option maxHeartbeats 4000000 in
set_option maxRecDepth 100000 in
theorem met_X6_isTruth (l : Launch) (E : CE) (A0 : Nat → Prop) (a : Nat) (t : List Nat) (sz : Nat)  : Met l yX6_isTruth (ws_ yX6_isTruth cX6_isTruth 1 (some .boolean)) { frames := 2, cells := 0, slots := 0, locals := 44 } (ctP E [.ref a] sz (fun H => ct_S E A0 H a t)) (ctR (fun v => v = some (.int (if t = tx_true ∨ t = tx_false then 1 else 0)))) 0 0 (fun _ => False) := by
  refine ct_start (by decide) (Nat.le_of_ble_eq_true rfl) ?_
  intro p e s m below meth c ls B hsz hH hl
  have hS0 := hH
  have hx := B.1
  have hb := B.2.1
  have hl : lv_has ls 1 [(0, .ref a)] := hl
  obtain ⟨v0, hV0⟩ := hS0.val
  have hs0 := hS0.small
  refine lv_aload_n hx hb dX6_isTruth_0 rfl (lv_at hl 0 rfl) ?_
  refine va_ldcS hx hb B.2.2.1 (B.2.2.2.2.2.2.2.2.2.2.2.2.2.2.2.1) dX6_isTruth_1 ?_
  refine ct_callR (ct_runV (As := [.ref (E.2.2.2 0)]) (rest := []) B (met_J4_equals l E _ _ a (E.2.2.2 0) t tx_true s.heap.size) (lw_V q1181 q1051 q1052 q58 q1053) (n := 1) ⟨by decide, by decide, by decide +kernel⟩ rfl ⟨rfl, rfl, (Nat.le_of_ble_eq_true rfl), (Nat.le_of_ble_eq_true rfl), (Nat.le_of_ble_eq_true rfl), (Nat.le_of_ble_eq_true rfl)⟩ (va_S.rf (A := fun _ => False)) (fun _ h => h.elim) (ct_Srecv B hV0.str) ⟨hV0.str, B.2.2.2.2.2.2.2.2.2.2.2.1.2.2.2.2.2.1⟩ hl.1 (Nat.le_of_ble_eq_true rfl) dX6_isTruth_3) (fun v hv => ?_)
  subst hv
  refine W.eq (g2 := F0 m 6 ls [.int (if t = tx_true then 1 else 0)]) rfl ?_
  refine b_if_ne (tgt := 18) hx hb dX6_isTruth_6 (by decide) (fun c1 => ?_) (fun c1 => ?_)
  · refine lv_iconst (v := nI 1) hx hb dX6_isTruth_18 (by decide) ?_
    refine lv_goto (tgt := 23) hx hb dX6_isTruth_19 (by decide) ?_
    exact ct_iretR (ty := .boolean) (v := (nI 1)) B rfl rfl (by rw [if_pos (Or.inl c1)] <;> rfl) dX6_isTruth_23
  · refine lv_aload_n hx hb dX6_isTruth_9 rfl (lv_at hl 0 rfl) ?_
    refine va_ldcS hx hb B.2.2.1 (B.2.2.2.2.2.2.2.2.2.2.2.2.2.2.2.2.1) dX6_isTruth_10 ?_
    refine ct_callR (ct_runV (As := [.ref (E.2.2.2 1)]) (rest := []) B (met_J4_equals l E _ _ a (E.2.2.2 1) t tx_false s.heap.size) (lw_V q1181 q1051 q1052 q58 q1053) (n := 1) ⟨by decide, by decide, by decide +kernel⟩ rfl ⟨rfl, rfl, (Nat.le_of_ble_eq_true rfl), (Nat.le_of_ble_eq_true rfl), (Nat.le_of_ble_eq_true rfl), (Nat.le_of_ble_eq_true rfl)⟩ (va_S.rf (A := fun _ => False)) (fun _ h => h.elim) (ct_Srecv B hV0.str) ⟨hV0.str, B.2.2.2.2.2.2.2.2.2.2.2.1.2.2.2.2.2.2.1⟩ hl.1 (Nat.le_of_ble_eq_true rfl) dX6_isTruth_12) (fun v hv => ?_)
    subst hv
    refine W.eq (g2 := F0 m 15 ls [.int (if t = tx_false then 1 else 0)]) rfl ?_
    refine b_if_eq (tgt := 22) hx hb dX6_isTruth_15 (by decide) (fun c2 => ?_) (fun c2 => ?_)
    · refine lv_iconst (v := nI 0) hx hb dX6_isTruth_22 (by decide) ?_
      exact ct_iretR (ty := .boolean) (v := (nI 0)) B rfl rfl (by rw [if_neg (fun z9 => by rcases z9 with y9 | y9; exact c1 y9; exact c2 y9)] <;> rfl) dX6_isTruth_23
    · refine lv_iconst (v := nI 1) hx hb dX6_isTruth_18 (by decide) ?_
      refine lv_goto (tgt := 23) hx hb dX6_isTruth_19 (by decide) ?_
      exact ct_iretR (ty := .boolean) (v := (nI 1)) B rfl rfl (by rw [if_pos (Or.inr c2)] <;> rfl) dX6_isTruth_23
set_option maxHeartbeats 4000000 in
set_option maxRecDepth 100000 in
theorem met_X6_isRealWord (l : Launch) (E : CE) (A0 : Nat → Prop) (a : Nat) (t : List Nat) (sz : Nat)  : Met l yX6_isRealWord (ws_ yX6_isRealWord cX6_isRealWord 2 (some .boolean)) { frames := 5, cells := 0, slots := 0, locals := 110 } (ctP E [.ref a] sz (fun H => ct_S E A0 H a t)) (ctR (fun v => v = some (.int (if 0 < dgV true t ∧ dgV true t ≤ nI 15 then 1 else 0)))) 0 0 (fun _ => False) := by
  refine ct_start (by decide) (Nat.le_of_ble_eq_true rfl) ?_
  intro p e s m below meth c ls B hsz hH hl
  have hS0 := hH
  have hx := B.1
  have hb := B.2.1
  have hl : lv_has ls 2 [(0, .ref a)] := hl
  obtain ⟨v0, hV0⟩ := hS0.val
  have hs0 := hS0.small
  refine lv_aload_n hx hb dX6_isRealWord_0 rfl (lv_at hl 0 rfl) ?_
  refine lv_iconst (v := nI 1) hx hb dX6_isRealWord_1 (by decide) ?_
  refine ct_callR (ct_runS (As := [.ref a, .int (nI 1)]) (rest := []) B (met_X6_digits_true l E _ a t s.heap.size) (lw_S q1186 q1187 q54 q1188) (n := 2) ⟨by decide, by decide, by decide +kernel⟩ rfl ⟨rfl, rfl, (Nat.le_of_ble_eq_true rfl), (Nat.le_of_ble_eq_true rfl), (Nat.le_of_ble_eq_true rfl), (Nat.le_of_ble_eq_true rfl)⟩ (va_S.rf (A := fun _ => False)) (fun _ h => h.elim) hV0.str hl.1 (Nat.le_of_ble_eq_true rfl) dX6_isRealWord_2) (fun v hv => ?_)
  subst hv
  refine W.eq (g2 := F0 m 5 ls [.int (dgV true t)]) rfl ?_
  refine lv_istore_n (lv' := [(1, .int (dgV true t)), (0, .ref a)]) hx hb dX6_isRealWord_5 rfl hl (by decide) rfl (fun ls hl => ?_)
  refine lv_iload_n hx hb dX6_isRealWord_6 rfl (lv_at hl 0 rfl) ?_
  refine lv_if_le (tgt := 20) hx hb dX6_isRealWord_7 (by decide) (fun c1 => ?_) (fun c1 => ?_)
  · refine lv_iconst (v := nI 0) hx hb dX6_isRealWord_20 (by decide) ?_
    exact ct_iretR (ty := .boolean) (v := (nI 0)) B rfl rfl (by rw [if_neg (fun z9 => absurd c1 (Int32.not_le.mpr z9.1))] <;> rfl) dX6_isRealWord_21
  · refine lv_iload_n hx hb dX6_isRealWord_10 rfl (lv_at hl 0 rfl) ?_
    refine lv_bipush (v := nI 15) hx hb dX6_isRealWord_11 (by decide) ?_
    refine lv_icmp_gt (tgt := 20) hx hb dX6_isRealWord_13 (by decide) (fun c2 => ?_) (fun c2 => ?_)
    · refine lv_iconst (v := nI 0) hx hb dX6_isRealWord_20 (by decide) ?_
      exact ct_iretR (ty := .boolean) (v := (nI 0)) B rfl rfl (by rw [if_neg (fun z9 => absurd c2 (Int32.not_lt.mpr z9.2))] <;> rfl) dX6_isRealWord_21
    · refine lv_iconst (v := nI 1) hx hb dX6_isRealWord_16 (by decide) ?_
      refine lv_goto (tgt := 21) hx hb dX6_isRealWord_17 (by decide) ?_
      exact ct_iretR (ty := .boolean) (v := (nI 1)) B rfl rfl (by rw [if_pos ⟨Int32.not_le.mp c1, Int32.not_lt.mp c2⟩] <;> rfl) dX6_isRealWord_21
