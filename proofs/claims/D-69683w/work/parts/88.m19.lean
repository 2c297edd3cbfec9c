set_option maxHeartbeats 4000000 in
set_option maxRecDepth 100000 in
theorem met_X6_decimal (l : Launch) (E : CE) (V9 b9 : Nat) (sz : Nat) (hV9 : V9 < 9007199254740992) (hb9 : b9 < 15) : Met l yX6_decimal (ws_ yX6_decimal cX6_decimal 6 (some .long)) { frames := 3, cells := 0, slots := 0, locals := 95 } (ctP E [.long (lN V9), .int (nI b9)] sz (fun H => True)) (ctR (fun v => v = some (.long (lN (decB V9 b9))))) 0 0 (fun _ => False) := by
  refine ct_start (by decide) (Nat.le_of_ble_eq_true rfl) ?_
  intro p e s m below meth c ls B hsz hH hl
  have hx := B.1
  have hb := B.2.1
  have hl : lv_has ls 6 [(0, .long (lN V9)), (2, .int (nI b9))] := hl
  refine lv_lconst (v := lN 1) hx hb dX6_decimal_0 (by decide) ?_
  refine lv_lstore_n (lv' := [(3, .long (lN 1)), (0, .long (lN V9)), (2, .int (nI b9))]) hx hb dX6_decimal_1 rfl hl (by decide) rfl (fun ls hl => ?_)
  refine lv_iconst (v := nI 0) hx hb dX6_decimal_2 (by decide) ?_
  refine lv_istore (lv' := [(5, .int (nI 0)), (3, .long (lN 1)), (0, .long (lN V9)), (2, .int (nI b9))]) hx hb dX6_decimal_3 hl (by decide) rfl (fun ls hl => ?_)
  refine ct_loop (σ := Nat × Nat) (fun (k, ten) ls => lv_has ls 6 [(5, .int (nI k)), (3, .long (lN ten)), (0, .long (lN V9)), (2, .int (nI b9))] ∧ (k ≤ b9) ∧ (ten = 10 ^ k)) (fun (k, ten) => b9 - k) (g := fun (k, ten) ls => F0 m 5 ls []) (x0 := (0, 1)) (ls0 := ls) ?_ ⟨lv_sub hl [0, 1, 2, 3] rfl, Nat.zero_le _, rfl⟩
  clear hl
  intro x9 ls hI ih_1
  obtain ⟨k, ten⟩ := x9
  obtain ⟨hl, hk, hten⟩ := hI
  refine W.eq (g2 := F0 m 5 ls []) rfl ?_
  refine lv_iload hx hb dX6_decimal_5 (lv_at hl 0 rfl) ?_
  refine lv_iload_n hx hb dX6_decimal_7 rfl (lv_at hl 3 rfl) ?_
  refine n_icmp_ge (tgt := 23) hx hb dX6_decimal_8 (by decide) (by omega) (by omega) (fun c_2 => ?_) (fun c_2 => ?_)
  · have hkb : k = b9 := by omega
    rw [hkb] at hten
    subst hten
    have htb := ten_b b9 hb9
    refine lv_lload_n hx hb dX6_decimal_23 rfl (lv_at hl 2 rfl) ?_
    refine lv_lconst (v := lN 0) hx hb dX6_decimal_24 (by decide) ?_
    refine m_if_ne (tgt := 33) hx hb dX6_decimal_25 dX6_decimal_26 (by decide) (by omega) (by omega) (fun cz => ?_) (fun cz => ?_)
    · refine lv_lload_n hx hb dX6_decimal_33 rfl (lv_at hl 2 rfl) ?_
      refine lv_iconst (v := nI 0) hx hb dX6_decimal_34 (by decide) ?_
      refine ct_callR (ct_runS (As := [.long (lN V9), .int (nI 0)]) (rest := []) B (met_X14_of l E V9 s.heap.size ⟨by omega, hV9⟩) (lw_S q1241 q1242 q80 q1243) (n := 2) ⟨by decide, by decide, by decide +kernel⟩ rfl ⟨rfl, rfl, (Nat.le_of_ble_eq_true rfl), (Nat.le_of_ble_eq_true rfl), (Nat.le_of_ble_eq_true rfl), (Nat.le_of_ble_eq_true rfl)⟩ (va_S.rf (A := fun _ => False)) (fun _ h => h.elim) trivial hl.1 (Nat.le_of_ble_eq_true rfl) dX6_decimal_35) (fun v hv => ?_)
      subst hv
      refine W.eq (g2 := F0 m 38 ls [.long (lN (bitsV V9))]) rfl ?_
      refine lv_lload_n hx hb dX6_decimal_38 rfl (lv_at hl 1 rfl) ?_
      refine lv_iconst (v := nI 0) hx hb dX6_decimal_39 (by decide) ?_
      refine ct_callR (ct_runS (As := [.long (lN (10 ^ b9)), .int (nI 0)]) (rest := [.long (lN (bitsV V9))]) B (met_X14_of l E (10 ^ b9) s.heap.size htb) (lw_S q1241 q1242 q80 q1243) (n := 2) ⟨by decide, by decide, by decide +kernel⟩ rfl ⟨rfl, rfl, (Nat.le_of_ble_eq_true rfl), (Nat.le_of_ble_eq_true rfl), (Nat.le_of_ble_eq_true rfl), (Nat.le_of_ble_eq_true rfl)⟩ (va_S.rf (A := fun _ => False)) (fun _ h => h.elim) trivial hl.1 (Nat.le_of_ble_eq_true rfl) dX6_decimal_40) (fun v hv => ?_)
      subst hv
      refine W.eq (g2 := F0 m 43 ls [.long (lN (bitsV (10 ^ b9))), .long (lN (bitsV V9))]) rfl ?_
      refine ct_callR (ct_runS (As := [.long (lN (bitsV V9)), .long (lN (bitsV (10 ^ b9)))]) (rest := []) B (met_X14_divide l E V9 (10 ^ b9) s.heap.size ⟨by omega, hV9⟩ htb) (lw_S q1254 q1255 q80 q1256) (n := 2) ⟨by decide, by decide, by decide +kernel⟩ rfl ⟨rfl, rfl, (Nat.le_of_ble_eq_true rfl), (Nat.le_of_ble_eq_true rfl), (Nat.le_of_ble_eq_true rfl), (Nat.le_of_ble_eq_true rfl)⟩ (va_S.rf (A := fun _ => False)) (fun _ h => h.elim) trivial hl.1 (Nat.le_of_ble_eq_true rfl) dX6_decimal_43) (fun v hv => ?_)
      subst hv
      refine W.eq (g2 := F0 m 46 ls [.long (lN (divB V9 (10 ^ b9)))]) rfl ?_
      exact ct_lretR (v := (lN (divB V9 (10 ^ b9)))) B (by unfold decB; rw [if_neg cz]) dX6_decimal_46
    · refine lv_lconst (v := lN 0) hx hb dX6_decimal_29 (by decide) ?_
      refine lv_goto (tgt := 46) hx hb dX6_decimal_30 (by decide) ?_
      exact ct_lretR (v := (lN 0)) B (by unfold decB; rw [if_pos cz]) dX6_decimal_46
  · refine lv_ldc2 (v := lN 10) hx hb B.2.2.1 (B.2.2.2.1 _ q1198) dX6_decimal_11 ?_
    refine lv_lload_n hx hb dX6_decimal_14 rfl (lv_at hl 1 rfl) ?_
    refine m_lmul hx hb dX6_decimal_15 ?_
    refine lv_lstore_n (lv' := [(3, .long (lN (10 * ten))), (5, .int (nI k)), (0, .long (lN V9)), (2, .int (nI b9))]) hx hb dX6_decimal_16 rfl hl (by decide) rfl (fun ls hl => ?_)
    refine n_iinc (n := 1) (lv' := [(5, .int (nI (k + 1))), (3, .long (lN (10 * ten))), (0, .long (lN V9)), (2, .int (nI b9))]) hx hb dX6_decimal_17 hl (k := 1) rfl rfl (by decide) (by decide) rfl (fun ls hl => ?_)
    refine lv_goto (tgt := 5) hx hb dX6_decimal_20 (by decide) ?_
    exact ih_1 ((k + 1), (10 * ten)) ls (by dsimp only; omega) ⟨lv_sub hl [0, 1, 2, 3] rfl, by omega, by rw [hten, Nat.pow_succ, Nat.mul_comm]⟩
set_option maxHeartbeats 4000000 in
set_option maxRecDepth 100000 in
theorem met_X6_wholeWord (l : Launch) (E : CE) (A0 : Nat → Prop) (a : Nat) (t : List Nat) (sz : Nat) (hdig : frT t < t.length ∧ ∀ k, frT t ≤ k → k < t.length → isD (t.getD k 0)) : Met l yX6_wholeWord (ws_ yX6_wholeWord cX6_wholeWord 5 (some .long)) { frames := 4, cells := 0, slots := 0, locals := 85 } (ctP E [.ref a] sz (fun H => ct_S E A0 H a t)) (ctR (fun v => v = some (.long (if frT t = 1 then -(lN (accD (t.drop (frT t))).1) else lN (accD (t.drop (frT t))).1)))) 0 0 (fun _ => False) := by
  refine ct_start (by decide) (Nat.le_of_ble_eq_true rfl) ?_
  intro p e s m below meth c ls B hsz hH hl
  have hS0 := hH
  have hx := B.1
  have hb := B.2.1
  have hl : lv_has ls 5 [(0, .ref a)] := hl
  obtain ⟨v0, hV0⟩ := hS0.val
  have hs0 := hS0.small
  refine lv_aload_n hx hb dX6_wholeWord_0 rfl (lv_at hl 0 rfl) ?_
  refine lv_iconst (v := nI 0) hx hb dX6_wholeWord_1 (by decide) ?_
  refine ct_callR (ct_runV (As := [.int (nI 0)]) (rest := []) B (met_J4_charAt l E  _ a 0 t s.heap.size (by omega)) (lw_V q1190 q476 q477 q58 q478) (n := 1) ⟨by decide, by decide, by decide +kernel⟩ rfl ⟨rfl, rfl, (Nat.le_of_ble_eq_true rfl), (Nat.le_of_ble_eq_true rfl), (Nat.le_of_ble_eq_true rfl), (Nat.le_of_ble_eq_true rfl)⟩ (va_S.rf (A := fun _ => False)) (fun _ h => h.elim) (ct_Srecv B hV0.str) hV0.str hl.1 (Nat.le_of_ble_eq_true rfl) dX6_wholeWord_2) (fun v hv => ?_)
  subst hv
  refine W.eq (g2 := F0 m 5 ls [.int (nI (t.getD 0 0))]) rfl ?_
  refine lv_bipush (v := nI 45) hx hb dX6_wholeWord_5 (by decide) ?_
  refine n_icmp_ne (tgt := 14) hx hb dX6_wholeWord_7 (by decide) (by have := tx_lt hs0.2 0; omega) (by omega) (fun c45 => ?_) (fun c45 => ?_)
  · refine lv_iconst (v := nI 0) hx hb dX6_wholeWord_14 (by decide) ?_
    have hfr : frT t = 0 := by unfold frT; rw [if_neg c45]
    rw [hfr] at hdig
    refine lv_istore_n (lv' := [(1, .int (nI 0)), (0, .ref a)]) hx hb dX6_wholeWord_15 rfl hl (by decide) rfl (fun ls hl => ?_)
    refine lv_lconst (v := 0) hx hb dX6_wholeWord_16 (by decide) ?_
    refine W.eq (g2 := F0 m 17 ls [.long (-lN 0)]) (by rw [show (0 : Int64) = -lN 0 from by decide] <;> rfl) ?_
    refine lv_lstore_n (lv' := [(2, .long (-lN 0)), (1, .int (nI 0)), (0, .ref a)]) hx hb dX6_wholeWord_17 rfl hl (by decide) rfl (fun ls hl => ?_)
    refine lv_iload_n hx hb dX6_wholeWord_18 rfl (lv_at hl 1 rfl) ?_
    refine n_if_eq (tgt := 26) hx hb dX6_wholeWord_19 (by decide) (by omega) (fun c_1 => ?_) (fun c_1 => absurd c_1 (by omega))
    refine lv_iconst (v := nI 0) hx hb dX6_wholeWord_26 (by decide) ?_
    refine lv_istore (lv' := [(4, .int (nI 0)), (2, .long (-lN 0)), (1, .int (nI 0)), (0, .ref a)]) hx hb dX6_wholeWord_27 hl (by decide) rfl (fun ls hl => ?_)
    refine ct_loop (σ := Nat × Nat) (fun (k, V) ls => lv_has ls 5 [(4, .int (nI k)), (2, .long (-lN V)), (1, .int (nI 0)), (0, .ref a)] ∧ (0 ≤ k ∧ k ≤ t.length) ∧ (V = (accD ((t.take k).drop 0)).1)) (fun (k, V) => t.length - k) (g := fun (k, V) ls => F0 m 29 ls []) (x0 := (0, 0)) (ls0 := ls) ?_ ⟨lv_sub hl [0, 1, 2, 3] rfl, ⟨by omega, by omega⟩, by rw [accD_0]⟩
    clear hl
    intro x9 ls hI ih_2
    obtain ⟨k, V⟩ := x9
    obtain ⟨hl, hk, hV⟩ := hI
    refine W.eq (g2 := F0 m 29 ls []) rfl ?_
    refine lv_iload hx hb dX6_wholeWord_29 (lv_at hl 0 rfl) ?_
    refine lv_aload_n hx hb dX6_wholeWord_31 rfl (lv_at hl 3 rfl) ?_
    refine ct_callR (ct_runV (As := []) (rest := [.int (nI k)]) B (met_J4_length l E  _ a t s.heap.size) (lw_V q1189 q466 q467 q58 q468) (n := 0) ⟨by decide, by decide, by decide +kernel⟩ rfl ⟨rfl, rfl, (Nat.le_of_ble_eq_true rfl), (Nat.le_of_ble_eq_true rfl), (Nat.le_of_ble_eq_true rfl), (Nat.le_of_ble_eq_true rfl)⟩ (va_S.rf (A := fun _ => False)) (fun _ h => h.elim) (ct_Srecv B hV0.str) hV0.str hl.1 (Nat.le_of_ble_eq_true rfl) dX6_wholeWord_32) (fun v hv => ?_)
    subst hv
    refine W.eq (g2 := F0 m 35 ls [.int (nI t.length), .int (nI k)]) rfl ?_
    refine n_icmp_ge (tgt := 61) hx hb dX6_wholeWord_35 (by decide) (by omega) (by omega) (fun cend => ?_) (fun cend => ?_)
    · have hVt : V = (accD (t.drop 0)).1 := by rw [hV, List.take_of_length_le (by omega)]
      refine lv_iload_n hx hb dX6_wholeWord_61 rfl (lv_at hl 2 rfl) ?_
      refine n_if_eq (tgt := 69) hx hb dX6_wholeWord_62 (by decide) (by omega) (fun c_3 => ?_) (fun c_3 => absurd c_3 (by omega))
      refine lv_lload_n hx hb dX6_wholeWord_69 rfl (lv_at hl 1 rfl) ?_
      refine lv_lneg hx hb dX6_wholeWord_70 ?_
      exact ct_lretR (v := -(-lN V)) B (by rw [hfr, ← hVt, if_neg (by decide), i64_nn]) dX6_wholeWord_71
    · obtain ⟨hd1, hd2⟩ := hdig.2 k (by omega) (by omega)
      refine lv_ldc2 (v := (10)) hx hb B.2.2.1 (B.2.2.2.1 _ q1198) dX6_wholeWord_38 ?_
      refine lv_lload_n hx hb dX6_wholeWord_41 rfl (lv_at hl 1 rfl) ?_
      refine lv_lmul hx hb dX6_wholeWord_42 ?_
      refine lv_aload_n hx hb dX6_wholeWord_43 rfl (lv_at hl 3 rfl) ?_
      refine lv_iload hx hb dX6_wholeWord_44 (lv_at hl 0 rfl) ?_
      refine ct_callR (ct_runV (As := [.int (nI k)]) (rest := [.long (10 * (-lN V))]) B (met_J4_charAt l E  _ a k t s.heap.size (by omega)) (lw_V q1190 q476 q477 q58 q478) (n := 1) ⟨by decide, by decide, by decide +kernel⟩ rfl ⟨rfl, rfl, (Nat.le_of_ble_eq_true rfl), (Nat.le_of_ble_eq_true rfl), (Nat.le_of_ble_eq_true rfl), (Nat.le_of_ble_eq_true rfl)⟩ (va_S.rf (A := fun _ => False)) (fun _ h => h.elim) (ct_Srecv B hV0.str) hV0.str hl.1 (Nat.le_of_ble_eq_true rfl) dX6_wholeWord_46) (fun v hv => ?_)
      subst hv
      refine W.eq (g2 := F0 m 49 ls [.int (nI (t.getD k 0)), .long (10 * (-lN V))]) rfl ?_
      refine lv_bipush (v := nI 48) hx hb dX6_wholeWord_49 (by decide) ?_
      refine n_isub hx hb (by omega) dX6_wholeWord_51 ?_
      refine lv_i2l (v := (nI (t.getD k 0 - 48)).toInt64) hx hb dX6_wholeWord_52 rfl ?_
      refine lv_lsub hx hb dX6_wholeWord_53 ?_
      refine W.eq (g2 := F0 m 54 ls [.long (-lN (10 * V + (t.getD k 0 - 48)))]) (by rw [(lneg_S2 (by omega))]) ?_
      refine lv_lstore_n (lv' := [(2, .long (-lN (10 * V + (t.getD k 0 - 48)))), (4, .int (nI k)), (1, .int (nI 0)), (0, .ref a)]) hx hb dX6_wholeWord_54 rfl hl (by decide) rfl (fun ls hl => ?_)
      refine n_iinc (n := 1) (lv' := [(4, .int (nI (k + 1))), (2, .long (-lN (10 * V + (t.getD k 0 - 48)))), (1, .int (nI 0)), (0, .ref a)]) hx hb dX6_wholeWord_55 hl (k := 1) rfl rfl (by decide) (by decide) rfl (fun ls hl => ?_)
      refine lv_goto (tgt := 29) hx hb dX6_wholeWord_58 (by decide) ?_
      exact ih_2 ((k + 1), (10 * V + (t.getD k 0 - 48))) ls (by dsimp only; omega) ⟨lv_sub hl [0, 1, 2, 3] rfl, ⟨by omega, by omega⟩, by rw [accD_S hk.1 (by omega)]; unfold accS; rw [if_neg (by omega), hV]⟩
  · refine lv_iconst (v := nI 1) hx hb dX6_wholeWord_10 (by decide) ?_
    refine lv_goto (tgt := 15) hx hb dX6_wholeWord_11 (by decide) ?_
    have hfr : frT t = 1 := by unfold frT; rw [if_pos c45]
    rw [hfr] at hdig
    refine lv_istore_n (lv' := [(1, .int (nI 1)), (0, .ref a)]) hx hb dX6_wholeWord_15 rfl hl (by decide) rfl (fun ls hl => ?_)
    refine lv_lconst (v := 0) hx hb dX6_wholeWord_16 (by decide) ?_
    refine W.eq (g2 := F0 m 17 ls [.long (-lN 0)]) (by rw [show (0 : Int64) = -lN 0 from by decide] <;> rfl) ?_
    refine lv_lstore_n (lv' := [(2, .long (-lN 0)), (1, .int (nI 1)), (0, .ref a)]) hx hb dX6_wholeWord_17 rfl hl (by decide) rfl (fun ls hl => ?_)
    refine lv_iload_n hx hb dX6_wholeWord_18 rfl (lv_at hl 1 rfl) ?_
    refine n_if_eq (tgt := 26) hx hb dX6_wholeWord_19 (by decide) (by omega) (fun c_4 => absurd c_4 (by omega)) (fun c_4 => ?_)
    refine lv_iconst (v := nI 1) hx hb dX6_wholeWord_22 (by decide) ?_
    refine lv_goto (tgt := 27) hx hb dX6_wholeWord_23 (by decide) ?_
    refine lv_istore (lv' := [(4, .int (nI 1)), (2, .long (-lN 0)), (1, .int (nI 1)), (0, .ref a)]) hx hb dX6_wholeWord_27 hl (by decide) rfl (fun ls hl => ?_)
    refine ct_loop (σ := Nat × Nat) (fun (k, V) ls => lv_has ls 5 [(4, .int (nI k)), (2, .long (-lN V)), (1, .int (nI 1)), (0, .ref a)] ∧ (1 ≤ k ∧ k ≤ t.length) ∧ (V = (accD ((t.take k).drop 1)).1)) (fun (k, V) => t.length - k) (g := fun (k, V) ls => F0 m 29 ls []) (x0 := (1, 0)) (ls0 := ls) ?_ ⟨lv_sub hl [0, 1, 2, 3] rfl, ⟨by omega, by omega⟩, by rw [accD_0]⟩
    clear hl
    intro x9 ls hI ih_5
    obtain ⟨k, V⟩ := x9
    obtain ⟨hl, hk, hV⟩ := hI
    refine W.eq (g2 := F0 m 29 ls []) rfl ?_
    refine lv_iload hx hb dX6_wholeWord_29 (lv_at hl 0 rfl) ?_
    refine lv_aload_n hx hb dX6_wholeWord_31 rfl (lv_at hl 3 rfl) ?_
    refine ct_callR (ct_runV (As := []) (rest := [.int (nI k)]) B (met_J4_length l E  _ a t s.heap.size) (lw_V q1189 q466 q467 q58 q468) (n := 0) ⟨by decide, by decide, by decide +kernel⟩ rfl ⟨rfl, rfl, (Nat.le_of_ble_eq_true rfl), (Nat.le_of_ble_eq_true rfl), (Nat.le_of_ble_eq_true rfl), (Nat.le_of_ble_eq_true rfl)⟩ (va_S.rf (A := fun _ => False)) (fun _ h => h.elim) (ct_Srecv B hV0.str) hV0.str hl.1 (Nat.le_of_ble_eq_true rfl) dX6_wholeWord_32) (fun v hv => ?_)
    subst hv
    refine W.eq (g2 := F0 m 35 ls [.int (nI t.length), .int (nI k)]) rfl ?_
    refine n_icmp_ge (tgt := 61) hx hb dX6_wholeWord_35 (by decide) (by omega) (by omega) (fun cend => ?_) (fun cend => ?_)
    · have hVt : V = (accD (t.drop 1)).1 := by rw [hV, List.take_of_length_le (by omega)]
      refine lv_iload_n hx hb dX6_wholeWord_61 rfl (lv_at hl 2 rfl) ?_
      refine n_if_eq (tgt := 69) hx hb dX6_wholeWord_62 (by decide) (by omega) (fun c_6 => absurd c_6 (by omega)) (fun c_6 => ?_)
      refine lv_lload_n hx hb dX6_wholeWord_65 rfl (lv_at hl 1 rfl) ?_
      refine lv_goto (tgt := 71) hx hb dX6_wholeWord_66 (by decide) ?_
      exact ct_lretR (v := (-lN V)) B (by rw [hfr, ← hVt, if_pos rfl]) dX6_wholeWord_71
    · obtain ⟨hd1, hd2⟩ := hdig.2 k (by omega) (by omega)
      refine lv_ldc2 (v := (10)) hx hb B.2.2.1 (B.2.2.2.1 _ q1198) dX6_wholeWord_38 ?_
      refine lv_lload_n hx hb dX6_wholeWord_41 rfl (lv_at hl 1 rfl) ?_
      refine lv_lmul hx hb dX6_wholeWord_42 ?_
      refine lv_aload_n hx hb dX6_wholeWord_43 rfl (lv_at hl 3 rfl) ?_
      refine lv_iload hx hb dX6_wholeWord_44 (lv_at hl 0 rfl) ?_
      refine ct_callR (ct_runV (As := [.int (nI k)]) (rest := [.long (10 * (-lN V))]) B (met_J4_charAt l E  _ a k t s.heap.size (by omega)) (lw_V q1190 q476 q477 q58 q478) (n := 1) ⟨by decide, by decide, by decide +kernel⟩ rfl ⟨rfl, rfl, (Nat.le_of_ble_eq_true rfl), (Nat.le_of_ble_eq_true rfl), (Nat.le_of_ble_eq_true rfl), (Nat.le_of_ble_eq_true rfl)⟩ (va_S.rf (A := fun _ => False)) (fun _ h => h.elim) (ct_Srecv B hV0.str) hV0.str hl.1 (Nat.le_of_ble_eq_true rfl) dX6_wholeWord_46) (fun v hv => ?_)
      subst hv
      refine W.eq (g2 := F0 m 49 ls [.int (nI (t.getD k 0)), .long (10 * (-lN V))]) rfl ?_
      refine lv_bipush (v := nI 48) hx hb dX6_wholeWord_49 (by decide) ?_
      refine n_isub hx hb (by omega) dX6_wholeWord_51 ?_
      refine lv_i2l (v := (nI (t.getD k 0 - 48)).toInt64) hx hb dX6_wholeWord_52 rfl ?_
      refine lv_lsub hx hb dX6_wholeWord_53 ?_
      refine W.eq (g2 := F0 m 54 ls [.long (-lN (10 * V + (t.getD k 0 - 48)))]) (by rw [(lneg_S2 (by omega))]) ?_
      refine lv_lstore_n (lv' := [(2, .long (-lN (10 * V + (t.getD k 0 - 48)))), (4, .int (nI k)), (1, .int (nI 1)), (0, .ref a)]) hx hb dX6_wholeWord_54 rfl hl (by decide) rfl (fun ls hl => ?_)
      refine n_iinc (n := 1) (lv' := [(4, .int (nI (k + 1))), (2, .long (-lN (10 * V + (t.getD k 0 - 48)))), (1, .int (nI 1)), (0, .ref a)]) hx hb dX6_wholeWord_55 hl (k := 1) rfl rfl (by decide) (by decide) rfl (fun ls hl => ?_)
      refine lv_goto (tgt := 29) hx hb dX6_wholeWord_58 (by decide) ?_
      exact ih_5 ((k + 1), (10 * V + (t.getD k 0 - 48))) ls (by dsimp only; omega) ⟨lv_sub hl [0, 1, 2, 3] rfl, ⟨by omega, by omega⟩, by rw [accD_S hk.1 (by omega)]; unfold accS; rw [if_neg (by omega), hV]⟩
set_option maxHeartbeats 4000000 in
set_option maxRecDepth 100000 in
theorem met_X6_realWord (l : Launch) (E : CE) (A0 : Nat → Prop) (a : Nat) (t : List Nat) (sz : Nat) (hdig : frT t < t.length ∧ (∀ k, frT t ≤ k → k < t.length → isD (t.getD k 0) ∨ t.getD k 0 = 46) ∧ (accD (t.drop (frT t))).1 < 9007199254740992 ∧ (accD (t.drop (frT t))).2.1 < 15) : Met l yX6_realWord (ws_ yX6_realWord cX6_realWord 8 (some .long)) { frames := 4, cells := 0, slots := 0, locals := 120 } (ctP E [.ref a] sz (fun H => ct_S E A0 H a t)) (ctR (fun v => v = some (.long (if frT t = 1 then lN (decB (accD (t.drop (frT t))).1 (accD (t.drop (frT t))).2.1) ^^^ (-9223372036854775808) else lN (decB (accD (t.drop (frT t))).1 (accD (t.drop (frT t))).2.1))))) 0 0 (fun _ => False) := by
  refine ct_start (by decide) (Nat.le_of_ble_eq_true rfl) ?_
  intro p e s m below meth c ls B hsz hH hl
  have hS0 := hH
  have hx := B.1
  have hb := B.2.1
  have hl : lv_has ls 8 [(0, .ref a)] := hl
  obtain ⟨v0, hV0⟩ := hS0.val
  have hs0 := hS0.small
  refine lv_aload_n hx hb dX6_realWord_0 rfl (lv_at hl 0 rfl) ?_
  refine lv_iconst (v := nI 0) hx hb dX6_realWord_1 (by decide) ?_
  refine ct_callR (ct_runV (As := [.int (nI 0)]) (rest := []) B (met_J4_charAt l E  _ a 0 t s.heap.size (by omega)) (lw_V q1190 q476 q477 q58 q478) (n := 1) ⟨by decide, by decide, by decide +kernel⟩ rfl ⟨rfl, rfl, (Nat.le_of_ble_eq_true rfl), (Nat.le_of_ble_eq_true rfl), (Nat.le_of_ble_eq_true rfl), (Nat.le_of_ble_eq_true rfl)⟩ (va_S.rf (A := fun _ => False)) (fun _ h => h.elim) (ct_Srecv B hV0.str) hV0.str hl.1 (Nat.le_of_ble_eq_true rfl) dX6_realWord_2) (fun v hv => ?_)
  subst hv
  refine W.eq (g2 := F0 m 5 ls [.int (nI (t.getD 0 0))]) rfl ?_
  refine lv_bipush (v := nI 45) hx hb dX6_realWord_5 (by decide) ?_
  refine n_icmp_ne (tgt := 14) hx hb dX6_realWord_7 (by decide) (by have := tx_lt hs0.2 0; omega) (by omega) (fun c45 => ?_) (fun c45 => ?_)
  · refine lv_iconst (v := nI 0) hx hb dX6_realWord_14 (by decide) ?_
    have hfr : frT t = 0 := by unfold frT; rw [if_neg c45]
    rw [hfr] at hdig
    refine lv_istore_n (lv' := [(1, .int (nI 0)), (0, .ref a)]) hx hb dX6_realWord_15 rfl hl (by decide) rfl (fun ls hl => ?_)
    refine lv_lconst (v := lN 0) hx hb dX6_realWord_16 (by decide) ?_
    refine lv_lstore_n (lv' := [(2, .long (lN 0)), (1, .int (nI 0)), (0, .ref a)]) hx hb dX6_realWord_17 rfl hl (by decide) rfl (fun ls hl => ?_)
    refine lv_iconst (v := nI 0) hx hb dX6_realWord_18 (by decide) ?_
    refine lv_istore (lv' := [(4, .int (nI 0)), (2, .long (lN 0)), (1, .int (nI 0)), (0, .ref a)]) hx hb dX6_realWord_19 hl (by decide) rfl (fun ls hl => ?_)
    refine lv_iconst (v := nI 0) hx hb dX6_realWord_21 (by decide) ?_
    refine lv_istore (lv' := [(5, .int (nI 0)), (4, .int (nI 0)), (2, .long (lN 0)), (1, .int (nI 0)), (0, .ref a)]) hx hb dX6_realWord_22 hl (by decide) rfl (fun ls hl => ?_)
    refine lv_iload_n hx hb dX6_realWord_24 rfl (lv_at hl 3 rfl) ?_
    refine n_if_eq (tgt := 32) hx hb dX6_realWord_25 (by decide) (by omega) (fun c_1 => ?_) (fun c_1 => absurd c_1 (by omega))
    refine lv_iconst (v := nI 0) hx hb dX6_realWord_32 (by decide) ?_
    refine lv_istore (lv' := [(6, .int (nI 0)), (5, .int (nI 0)), (4, .int (nI 0)), (2, .long (lN 0)), (1, .int (nI 0)), (0, .ref a)]) hx hb dX6_realWord_33 hl (by decide) rfl (fun ls hl => ?_)
    refine ct_loop (σ := Nat × Nat × Nat × Nat) (fun (k, V, b, p_) ls => lv_has ls 8 [(6, .int (nI k)), (5, .int (nI p_)), (4, .int (nI b)), (2, .long (lN V)), (1, .int (nI 0)), (0, .ref a)] ∧ (0 ≤ k ∧ k ≤ t.length) ∧ (accD ((t.take k).drop 0) = (V, b, decide (p_ = 1))) ∧ (p_ ≤ 1)) (fun (k, V, b, p_) => t.length - k) (g := fun (k, V, b, p_) ls => F0 m 35 ls []) (x0 := (0, 0, 0, 0)) (ls0 := ls) ?_ ⟨lv_sub hl [0, 1, 2, 3, 4, 5] rfl, ⟨by omega, by omega⟩, by rw [accD_0]; rfl, by omega⟩
    clear hl
    intro x9 ls hI ih_2
    obtain ⟨k, V, b, p_⟩ := x9
    obtain ⟨hl, hk, hA, hp_⟩ := hI
    refine W.eq (g2 := F0 m 35 ls []) rfl ?_
    refine lv_iload hx hb dX6_realWord_35 (lv_at hl 0 rfl) ?_
    refine lv_aload_n hx hb dX6_realWord_37 rfl (lv_at hl 5 rfl) ?_
    refine ct_callR (ct_runV (As := []) (rest := [.int (nI k)]) B (met_J4_length l E  _ a t s.heap.size) (lw_V q1189 q466 q467 q58 q468) (n := 0) ⟨by decide, by decide, by decide +kernel⟩ rfl ⟨rfl, rfl, (Nat.le_of_ble_eq_true rfl), (Nat.le_of_ble_eq_true rfl), (Nat.le_of_ble_eq_true rfl), (Nat.le_of_ble_eq_true rfl)⟩ (va_S.rf (A := fun _ => False)) (fun _ h => h.elim) (ct_Srecv B hV0.str) hV0.str hl.1 (Nat.le_of_ble_eq_true rfl) dX6_realWord_38) (fun v hv => ?_)
    subst hv
    refine W.eq (g2 := F0 m 41 ls [.int (nI t.length), .int (nI k)]) rfl ?_
    refine n_icmp_ge (tgt := 93) hx hb dX6_realWord_41 (by decide) (by omega) (by omega) (fun cend => ?_) (fun cend => ?_)
    · have hAt : accD (t.drop 0) = (V, b, decide (p_ = 1)) := by rw [← hA, List.take_of_length_le (by omega)]
      have hVb := hdig.2.2
      rw [hAt] at hVb
      refine lv_lload_n hx hb dX6_realWord_93 rfl (lv_at hl 3 rfl) ?_
      refine lv_iload hx hb dX6_realWord_94 (lv_at hl 2 rfl) ?_
      refine ct_callR (ct_runS (As := [.long (lN V), .int (nI b)]) (rest := []) B (met_X6_decimal l E V b s.heap.size hVb.1 hVb.2) (lw_S q1238 q1239 q54 q1240) (n := 2) ⟨by decide, by decide, by decide +kernel⟩ rfl ⟨rfl, rfl, (Nat.le_of_ble_eq_true rfl), (Nat.le_of_ble_eq_true rfl), (Nat.le_of_ble_eq_true rfl), (Nat.le_of_ble_eq_true rfl)⟩ (va_S.rf (A := fun _ => False)) (fun _ h => h.elim) trivial hl.1 (Nat.le_of_ble_eq_true rfl) dX6_realWord_96) (fun v hv => ?_)
      subst hv
      refine W.eq (g2 := F0 m 99 ls [.long (lN (decB V b))]) rfl ?_
      refine lv_lstore (lv' := [(6, .long (lN (decB V b))), (5, .int (nI p_)), (4, .int (nI b)), (2, .long (lN V)), (1, .int (nI 0)), (0, .ref a)]) hx hb dX6_realWord_99 hl (by decide) rfl (fun ls hl => ?_)
      refine lv_iload_n hx hb dX6_realWord_101 rfl (lv_at hl 4 rfl) ?_
      refine n_if_eq (tgt := 113) hx hb dX6_realWord_102 (by decide) (by omega) (fun c_3 => ?_) (fun c_3 => absurd c_3 (by omega))
      refine lv_lload hx hb dX6_realWord_113 (lv_at hl 0 rfl) ?_
      exact ct_lretR (v := (lN (decB V b))) B (by rw [hfr, hAt, if_neg (by decide)]) dX6_realWord_115
    · refine lv_aload_n hx hb dX6_realWord_44 rfl (lv_at hl 5 rfl) ?_
      refine lv_iload hx hb dX6_realWord_45 (lv_at hl 0 rfl) ?_
      refine ct_callR (ct_runV (As := [.int (nI k)]) (rest := []) B (met_J4_charAt l E  _ a k t s.heap.size (by omega)) (lw_V q1190 q476 q477 q58 q478) (n := 1) ⟨by decide, by decide, by decide +kernel⟩ rfl ⟨rfl, rfl, (Nat.le_of_ble_eq_true rfl), (Nat.le_of_ble_eq_true rfl), (Nat.le_of_ble_eq_true rfl), (Nat.le_of_ble_eq_true rfl)⟩ (va_S.rf (A := fun _ => False)) (fun _ h => h.elim) (ct_Srecv B hV0.str) hV0.str hl.1 (Nat.le_of_ble_eq_true rfl) dX6_realWord_47) (fun v hv => ?_)
      subst hv
      refine W.eq (g2 := F0 m 50 ls [.int (nI (t.getD k 0))]) rfl ?_
      refine lv_bipush (v := nI 46) hx hb dX6_realWord_50 (by decide) ?_
      refine n_icmp_ne (tgt := 61) hx hb dX6_realWord_52 (by decide) (by have := tx_lt hs0.2 k; omega) (by omega) (fun c46 => ?_) (fun c46 => ?_)
      · obtain ⟨hd1, hd2⟩ : isD (t.getD k 0) := by rcases hdig.2.1 k (by omega) (by omega) with q9 | q9; exact q9; exact absurd q9 c46
        refine lv_ldc2 (v := lN 10) hx hb B.2.2.1 (B.2.2.2.1 _ q1198) dX6_realWord_61 ?_
        refine lv_lload_n hx hb dX6_realWord_64 rfl (lv_at hl 3 rfl) ?_
        refine m_lmul hx hb dX6_realWord_65 ?_
        refine lv_aload_n hx hb dX6_realWord_66 rfl (lv_at hl 5 rfl) ?_
        refine lv_iload hx hb dX6_realWord_67 (lv_at hl 0 rfl) ?_
        refine ct_callR (ct_runV (As := [.int (nI k)]) (rest := [.long (lN (10 * V))]) B (met_J4_charAt l E  _ a k t s.heap.size (by omega)) (lw_V q1190 q476 q477 q58 q478) (n := 1) ⟨by decide, by decide, by decide +kernel⟩ rfl ⟨rfl, rfl, (Nat.le_of_ble_eq_true rfl), (Nat.le_of_ble_eq_true rfl), (Nat.le_of_ble_eq_true rfl), (Nat.le_of_ble_eq_true rfl)⟩ (va_S.rf (A := fun _ => False)) (fun _ h => h.elim) (ct_Srecv B hV0.str) hV0.str hl.1 (Nat.le_of_ble_eq_true rfl) dX6_realWord_69) (fun v hv => ?_)
        subst hv
        refine W.eq (g2 := F0 m 72 ls [.int (nI (t.getD k 0)), .long (lN (10 * V))]) rfl ?_
        refine lv_i2l (v := lN (t.getD k 0)) hx hb dX6_realWord_72 (nI_l (by have := tx_lt hs0.2 k; omega)) ?_
        refine m_ladd hx hb dX6_realWord_73 ?_
        refine lv_ldc2 (v := lN 48) hx hb B.2.2.1 (B.2.2.2.1 _ q1237) dX6_realWord_74 ?_
        refine m_lsub hx hb (by omega) dX6_realWord_77 ?_
        refine lv_lstore_n (lv' := [(2, .long (lN (10 * V + (t.getD k 0) - 48))), (6, .int (nI k)), (5, .int (nI p_)), (4, .int (nI b)), (1, .int (nI 0)), (0, .ref a)]) hx hb dX6_realWord_78 rfl hl (by decide) rfl (fun ls hl => ?_)
        refine lv_iload hx hb dX6_realWord_79 (lv_at hl 2 rfl) ?_
        refine n_if_eq (tgt := 87) hx hb dX6_realWord_81 (by decide) (by omega) (fun cp => ?_) (fun cp => ?_)
        · refine n_iinc (n := 1) (lv' := [(6, .int (nI (k + 1))), (2, .long (lN (10 * V + (t.getD k 0) - 48))), (5, .int (nI p_)), (4, .int (nI b)), (1, .int (nI 0)), (0, .ref a)]) hx hb dX6_realWord_87 hl (k := 1) rfl rfl (by decide) (by decide) rfl (fun ls hl => ?_)
          refine lv_goto (tgt := 35) hx hb dX6_realWord_90 (by decide) ?_
          exact ih_2 ((k + 1), (10 * V + (t.getD k 0) - 48), b, p_) ls (by dsimp only; omega) ⟨lv_sub hl [0, 2, 3, 1, 4, 5] rfl, ⟨by omega, by omega⟩, by rw [accD_S hk.1 (by omega), hA]; unfold accS; rw [if_neg c46, if_neg (by rw [decide_eq_true_iff]; omega)]; exact congrArg (fun z9 => (z9, b, decide (p_ = 1))) (by dsimp only; omega), by omega⟩
        · refine n_iinc (n := 1) (lv' := [(4, .int (nI (b + 1))), (2, .long (lN (10 * V + (t.getD k 0) - 48))), (6, .int (nI k)), (5, .int (nI p_)), (1, .int (nI 0)), (0, .ref a)]) hx hb dX6_realWord_84 hl (k := 3) rfl rfl (by decide) (by decide) rfl (fun ls hl => ?_)
          refine n_iinc (n := 1) (lv' := [(6, .int (nI (k + 1))), (4, .int (nI (b + 1))), (2, .long (lN (10 * V + (t.getD k 0) - 48))), (5, .int (nI p_)), (1, .int (nI 0)), (0, .ref a)]) hx hb dX6_realWord_87 hl (k := 2) rfl rfl (by decide) (by decide) rfl (fun ls hl => ?_)
          refine lv_goto (tgt := 35) hx hb dX6_realWord_90 (by decide) ?_
          exact ih_2 ((k + 1), (10 * V + (t.getD k 0) - 48), (b + 1), p_) ls (by dsimp only; omega) ⟨lv_sub hl [0, 3, 1, 2, 4, 5] rfl, ⟨by omega, by omega⟩, by rw [accD_S hk.1 (by omega), hA]; unfold accS; rw [if_neg c46, if_pos (by rw [decide_eq_true_iff]; omega)]; exact congrArg (fun z9 => (z9, b + 1, decide (p_ = 1))) (by dsimp only; omega), by omega⟩
      · refine lv_iconst (v := nI 1) hx hb dX6_realWord_55 (by decide) ?_
        refine lv_istore (lv' := [(5, .int (nI 1)), (6, .int (nI k)), (4, .int (nI b)), (2, .long (lN V)), (1, .int (nI 0)), (0, .ref a)]) hx hb dX6_realWord_56 hl (by decide) rfl (fun ls hl => ?_)
        refine lv_goto (tgt := 87) hx hb dX6_realWord_58 (by decide) ?_
        refine n_iinc (n := 1) (lv' := [(6, .int (nI (k + 1))), (5, .int (nI 1)), (4, .int (nI b)), (2, .long (lN V)), (1, .int (nI 0)), (0, .ref a)]) hx hb dX6_realWord_87 hl (k := 1) rfl rfl (by decide) (by decide) rfl (fun ls hl => ?_)
        refine lv_goto (tgt := 35) hx hb dX6_realWord_90 (by decide) ?_
        exact ih_2 ((k + 1), V, b, 1) ls (by dsimp only; omega) ⟨lv_sub hl [0, 1, 2, 3, 4, 5] rfl, ⟨by omega, by omega⟩, by rw [accD_S hk.1 (by omega), hA]; unfold accS; rw [if_pos c46]; rfl, by omega⟩
  · refine lv_iconst (v := nI 1) hx hb dX6_realWord_10 (by decide) ?_
    refine lv_goto (tgt := 15) hx hb dX6_realWord_11 (by decide) ?_
    have hfr : frT t = 1 := by unfold frT; rw [if_pos c45]
    rw [hfr] at hdig
    refine lv_istore_n (lv' := [(1, .int (nI 1)), (0, .ref a)]) hx hb dX6_realWord_15 rfl hl (by decide) rfl (fun ls hl => ?_)
    refine lv_lconst (v := lN 0) hx hb dX6_realWord_16 (by decide) ?_
    refine lv_lstore_n (lv' := [(2, .long (lN 0)), (1, .int (nI 1)), (0, .ref a)]) hx hb dX6_realWord_17 rfl hl (by decide) rfl (fun ls hl => ?_)
    refine lv_iconst (v := nI 0) hx hb dX6_realWord_18 (by decide) ?_
    refine lv_istore (lv' := [(4, .int (nI 0)), (2, .long (lN 0)), (1, .int (nI 1)), (0, .ref a)]) hx hb dX6_realWord_19 hl (by decide) rfl (fun ls hl => ?_)
    refine lv_iconst (v := nI 0) hx hb dX6_realWord_21 (by decide) ?_
    refine lv_istore (lv' := [(5, .int (nI 0)), (4, .int (nI 0)), (2, .long (lN 0)), (1, .int (nI 1)), (0, .ref a)]) hx hb dX6_realWord_22 hl (by decide) rfl (fun ls hl => ?_)
    refine lv_iload_n hx hb dX6_realWord_24 rfl (lv_at hl 3 rfl) ?_
    refine n_if_eq (tgt := 32) hx hb dX6_realWord_25 (by decide) (by omega) (fun c_4 => absurd c_4 (by omega)) (fun c_4 => ?_)
    refine lv_iconst (v := nI 1) hx hb dX6_realWord_28 (by decide) ?_
    refine lv_goto (tgt := 33) hx hb dX6_realWord_29 (by decide) ?_
    refine lv_istore (lv' := [(6, .int (nI 1)), (5, .int (nI 0)), (4, .int (nI 0)), (2, .long (lN 0)), (1, .int (nI 1)), (0, .ref a)]) hx hb dX6_realWord_33 hl (by decide) rfl (fun ls hl => ?_)
    refine ct_loop (σ := Nat × Nat × Nat × Nat) (fun (k, V, b, p_) ls => lv_has ls 8 [(6, .int (nI k)), (5, .int (nI p_)), (4, .int (nI b)), (2, .long (lN V)), (1, .int (nI 1)), (0, .ref a)] ∧ (1 ≤ k ∧ k ≤ t.length) ∧ (accD ((t.take k).drop 1) = (V, b, decide (p_ = 1))) ∧ (p_ ≤ 1)) (fun (k, V, b, p_) => t.length - k) (g := fun (k, V, b, p_) ls => F0 m 35 ls []) (x0 := (1, 0, 0, 0)) (ls0 := ls) ?_ ⟨lv_sub hl [0, 1, 2, 3, 4, 5] rfl, ⟨by omega, by omega⟩, by rw [accD_0]; rfl, by omega⟩
    clear hl
    intro x9 ls hI ih_5
    obtain ⟨k, V, b, p_⟩ := x9
    obtain ⟨hl, hk, hA, hp_⟩ := hI
    refine W.eq (g2 := F0 m 35 ls []) rfl ?_
    refine lv_iload hx hb dX6_realWord_35 (lv_at hl 0 rfl) ?_
    refine lv_aload_n hx hb dX6_realWord_37 rfl (lv_at hl 5 rfl) ?_
    refine ct_callR (ct_runV (As := []) (rest := [.int (nI k)]) B (met_J4_length l E  _ a t s.heap.size) (lw_V q1189 q466 q467 q58 q468) (n := 0) ⟨by decide, by decide, by decide +kernel⟩ rfl ⟨rfl, rfl, (Nat.le_of_ble_eq_true rfl), (Nat.le_of_ble_eq_true rfl), (Nat.le_of_ble_eq_true rfl), (Nat.le_of_ble_eq_true rfl)⟩ (va_S.rf (A := fun _ => False)) (fun _ h => h.elim) (ct_Srecv B hV0.str) hV0.str hl.1 (Nat.le_of_ble_eq_true rfl) dX6_realWord_38) (fun v hv => ?_)
    subst hv
    refine W.eq (g2 := F0 m 41 ls [.int (nI t.length), .int (nI k)]) rfl ?_
    refine n_icmp_ge (tgt := 93) hx hb dX6_realWord_41 (by decide) (by omega) (by omega) (fun cend => ?_) (fun cend => ?_)
    · have hAt : accD (t.drop 1) = (V, b, decide (p_ = 1)) := by rw [← hA, List.take_of_length_le (by omega)]
      have hVb := hdig.2.2
      rw [hAt] at hVb
      refine lv_lload_n hx hb dX6_realWord_93 rfl (lv_at hl 3 rfl) ?_
      refine lv_iload hx hb dX6_realWord_94 (lv_at hl 2 rfl) ?_
      refine ct_callR (ct_runS (As := [.long (lN V), .int (nI b)]) (rest := []) B (met_X6_decimal l E V b s.heap.size hVb.1 hVb.2) (lw_S q1238 q1239 q54 q1240) (n := 2) ⟨by decide, by decide, by decide +kernel⟩ rfl ⟨rfl, rfl, (Nat.le_of_ble_eq_true rfl), (Nat.le_of_ble_eq_true rfl), (Nat.le_of_ble_eq_true rfl), (Nat.le_of_ble_eq_true rfl)⟩ (va_S.rf (A := fun _ => False)) (fun _ h => h.elim) trivial hl.1 (Nat.le_of_ble_eq_true rfl) dX6_realWord_96) (fun v hv => ?_)
      subst hv
      refine W.eq (g2 := F0 m 99 ls [.long (lN (decB V b))]) rfl ?_
      refine lv_lstore (lv' := [(6, .long (lN (decB V b))), (5, .int (nI p_)), (4, .int (nI b)), (2, .long (lN V)), (1, .int (nI 1)), (0, .ref a)]) hx hb dX6_realWord_99 hl (by decide) rfl (fun ls hl => ?_)
      refine lv_iload_n hx hb dX6_realWord_101 rfl (lv_at hl 4 rfl) ?_
      refine n_if_eq (tgt := 113) hx hb dX6_realWord_102 (by decide) (by omega) (fun c_6 => absurd c_6 (by omega)) (fun c_6 => ?_)
      refine lv_lload hx hb dX6_realWord_105 (lv_at hl 0 rfl) ?_
      refine ct_callR (ct_runS (As := [.long (lN (decB V b))]) (rest := []) B (met_X14_negative l E (lN (decB V b)) s.heap.size) (lw_S q1274 q1275 q80 q1276) (n := 1) ⟨by decide, by decide, by decide +kernel⟩ rfl ⟨rfl, rfl, (Nat.le_of_ble_eq_true rfl), (Nat.le_of_ble_eq_true rfl), (Nat.le_of_ble_eq_true rfl), (Nat.le_of_ble_eq_true rfl)⟩ (va_S.rf (A := fun _ => False)) (fun _ h => h.elim) trivial hl.1 (Nat.le_of_ble_eq_true rfl) dX6_realWord_107) (fun v hv => ?_)
      subst hv
      refine W.eq (g2 := F0 m 110 ls [.long ((lN (decB V b)) ^^^ (-9223372036854775808))]) rfl ?_
      refine lv_goto (tgt := 115) hx hb dX6_realWord_110 (by decide) ?_
      exact ct_lretR (v := (lN (decB V b)) ^^^ (-9223372036854775808)) B (by rw [hfr, hAt, if_pos rfl]) dX6_realWord_115
    · refine lv_aload_n hx hb dX6_realWord_44 rfl (lv_at hl 5 rfl) ?_
      refine lv_iload hx hb dX6_realWord_45 (lv_at hl 0 rfl) ?_
      refine ct_callR (ct_runV (As := [.int (nI k)]) (rest := []) B (met_J4_charAt l E  _ a k t s.heap.size (by omega)) (lw_V q1190 q476 q477 q58 q478) (n := 1) ⟨by decide, by decide, by decide +kernel⟩ rfl ⟨rfl, rfl, (Nat.le_of_ble_eq_true rfl), (Nat.le_of_ble_eq_true rfl), (Nat.le_of_ble_eq_true rfl), (Nat.le_of_ble_eq_true rfl)⟩ (va_S.rf (A := fun _ => False)) (fun _ h => h.elim) (ct_Srecv B hV0.str) hV0.str hl.1 (Nat.le_of_ble_eq_true rfl) dX6_realWord_47) (fun v hv => ?_)
      subst hv
      refine W.eq (g2 := F0 m 50 ls [.int (nI (t.getD k 0))]) rfl ?_
      refine lv_bipush (v := nI 46) hx hb dX6_realWord_50 (by decide) ?_
      refine n_icmp_ne (tgt := 61) hx hb dX6_realWord_52 (by decide) (by have := tx_lt hs0.2 k; omega) (by omega) (fun c46 => ?_) (fun c46 => ?_)
      · obtain ⟨hd1, hd2⟩ : isD (t.getD k 0) := by rcases hdig.2.1 k (by omega) (by omega) with q9 | q9; exact q9; exact absurd q9 c46
        refine lv_ldc2 (v := lN 10) hx hb B.2.2.1 (B.2.2.2.1 _ q1198) dX6_realWord_61 ?_
        refine lv_lload_n hx hb dX6_realWord_64 rfl (lv_at hl 3 rfl) ?_
        refine m_lmul hx hb dX6_realWord_65 ?_
        refine lv_aload_n hx hb dX6_realWord_66 rfl (lv_at hl 5 rfl) ?_
        refine lv_iload hx hb dX6_realWord_67 (lv_at hl 0 rfl) ?_
        refine ct_callR (ct_runV (As := [.int (nI k)]) (rest := [.long (lN (10 * V))]) B (met_J4_charAt l E  _ a k t s.heap.size (by omega)) (lw_V q1190 q476 q477 q58 q478) (n := 1) ⟨by decide, by decide, by decide +kernel⟩ rfl ⟨rfl, rfl, (Nat.le_of_ble_eq_true rfl), (Nat.le_of_ble_eq_true rfl), (Nat.le_of_ble_eq_true rfl), (Nat.le_of_ble_eq_true rfl)⟩ (va_S.rf (A := fun _ => False)) (fun _ h => h.elim) (ct_Srecv B hV0.str) hV0.str hl.1 (Nat.le_of_ble_eq_true rfl) dX6_realWord_69) (fun v hv => ?_)
        subst hv
        refine W.eq (g2 := F0 m 72 ls [.int (nI (t.getD k 0)), .long (lN (10 * V))]) rfl ?_
        refine lv_i2l (v := lN (t.getD k 0)) hx hb dX6_realWord_72 (nI_l (by have := tx_lt hs0.2 k; omega)) ?_
        refine m_ladd hx hb dX6_realWord_73 ?_
        refine lv_ldc2 (v := lN 48) hx hb B.2.2.1 (B.2.2.2.1 _ q1237) dX6_realWord_74 ?_
        refine m_lsub hx hb (by omega) dX6_realWord_77 ?_
        refine lv_lstore_n (lv' := [(2, .long (lN (10 * V + (t.getD k 0) - 48))), (6, .int (nI k)), (5, .int (nI p_)), (4, .int (nI b)), (1, .int (nI 1)), (0, .ref a)]) hx hb dX6_realWord_78 rfl hl (by decide) rfl (fun ls hl => ?_)
        refine lv_iload hx hb dX6_realWord_79 (lv_at hl 2 rfl) ?_
        refine n_if_eq (tgt := 87) hx hb dX6_realWord_81 (by decide) (by omega) (fun cp => ?_) (fun cp => ?_)
        · refine n_iinc (n := 1) (lv' := [(6, .int (nI (k + 1))), (2, .long (lN (10 * V + (t.getD k 0) - 48))), (5, .int (nI p_)), (4, .int (nI b)), (1, .int (nI 1)), (0, .ref a)]) hx hb dX6_realWord_87 hl (k := 1) rfl rfl (by decide) (by decide) rfl (fun ls hl => ?_)
          refine lv_goto (tgt := 35) hx hb dX6_realWord_90 (by decide) ?_
          exact ih_5 ((k + 1), (10 * V + (t.getD k 0) - 48), b, p_) ls (by dsimp only; omega) ⟨lv_sub hl [0, 2, 3, 1, 4, 5] rfl, ⟨by omega, by omega⟩, by rw [accD_S hk.1 (by omega), hA]; unfold accS; rw [if_neg c46, if_neg (by rw [decide_eq_true_iff]; omega)]; exact congrArg (fun z9 => (z9, b, decide (p_ = 1))) (by dsimp only; omega), by omega⟩
        · refine n_iinc (n := 1) (lv' := [(4, .int (nI (b + 1))), (2, .long (lN (10 * V + (t.getD k 0) - 48))), (6, .int (nI k)), (5, .int (nI p_)), (1, .int (nI 1)), (0, .ref a)]) hx hb dX6_realWord_84 hl (k := 3) rfl rfl (by decide) (by decide) rfl (fun ls hl => ?_)
          refine n_iinc (n := 1) (lv' := [(6, .int (nI (k + 1))), (4, .int (nI (b + 1))), (2, .long (lN (10 * V + (t.getD k 0) - 48))), (5, .int (nI p_)), (1, .int (nI 1)), (0, .ref a)]) hx hb dX6_realWord_87 hl (k := 2) rfl rfl (by decide) (by decide) rfl (fun ls hl => ?_)
          refine lv_goto (tgt := 35) hx hb dX6_realWord_90 (by decide) ?_
          exact ih_5 ((k + 1), (10 * V + (t.getD k 0) - 48), (b + 1), p_) ls (by dsimp only; omega) ⟨lv_sub hl [0, 3, 1, 2, 4, 5] rfl, ⟨by omega, by omega⟩, by rw [accD_S hk.1 (by omega), hA]; unfold accS; rw [if_neg c46, if_pos (by rw [decide_eq_true_iff]; omega)]; exact congrArg (fun z9 => (z9, b + 1, decide (p_ = 1))) (by dsimp only; omega), by omega⟩
      · refine lv_iconst (v := nI 1) hx hb dX6_realWord_55 (by decide) ?_
        refine lv_istore (lv' := [(5, .int (nI 1)), (6, .int (nI k)), (4, .int (nI b)), (2, .long (lN V)), (1, .int (nI 1)), (0, .ref a)]) hx hb dX6_realWord_56 hl (by decide) rfl (fun ls hl => ?_)
        refine lv_goto (tgt := 87) hx hb dX6_realWord_58 (by decide) ?_
        refine n_iinc (n := 1) (lv' := [(6, .int (nI (k + 1))), (5, .int (nI 1)), (4, .int (nI b)), (2, .long (lN V)), (1, .int (nI 1)), (0, .ref a)]) hx hb dX6_realWord_87 hl (k := 1) rfl rfl (by decide) (by decide) rfl (fun ls hl => ?_)
        refine lv_goto (tgt := 35) hx hb dX6_realWord_90 (by decide) ?_
        exact ih_5 ((k + 1), V, b, 1) ls (by dsimp only; omega) ⟨lv_sub hl [0, 1, 2, 3, 4, 5] rfl, ⟨by omega, by omega⟩, by rw [accD_S hk.1 (by omega), hA]; unfold accS; rw [if_pos c46]; rfl, by omega⟩
set_option maxHeartbeats 4000000 in
set_option maxRecDepth 100000 in
theorem met_X6_compare (l : Launch) (E : CE) (A1 : Nat → Prop) (A0 : Nat → Prop) (a b : Nat) (t u : List Nat) (sz : Nat)  : Met l yX6_compare (ws_ yX6_compare cX6_compare 3 (some .int)) { frames := 4, cells := 0, slots := 0, locals := 85 } (ctP E [.ref a, .ref b] sz (fun H => ct_S E A0 H a t ∧ ct_S E A1 H b u)) (ctR (fun v => v = some (.int (cmpI t u)))) 0 0 (fun _ => False) := by
  refine ct_start (by decide) (Nat.le_of_ble_eq_true rfl) ?_
  intro p e s m below meth c ls B hsz hH hl
  obtain ⟨hS0, hS1⟩ := hH
  have hx := B.1
  have hb := B.2.1
  have hl : lv_has ls 3 [(0, .ref a), (1, .ref b)] := hl
  obtain ⟨v1, hV1⟩ := hS1.val
  have hs1 := hS1.small
  obtain ⟨v0, hV0⟩ := hS0.val
  have hs0 := hS0.small
  refine lv_iconst (v := nI 0) hx hb dX6_compare_0 (by decide) ?_
  refine lv_istore_n (lv' := [(2, .int (nI 0)), (0, .ref a), (1, .ref b)]) hx hb dX6_compare_1 rfl hl (by decide) rfl (fun ls hl => ?_)
  refine ct_loop (σ := Nat) (fun k ls => lv_has ls 3 [(2, .int (nI k)), (0, .ref a), (1, .ref b)] ∧ (k ≤ t.length ∧ k ≤ u.length) ∧ (cmpI t u = cmpI (t.drop k) (u.drop k))) (fun k => t.length - k) (g := fun k ls => F0 m 2 ls []) (x0 := 0) (ls0 := ls) ?_ ⟨lv_sub hl [0, 1, 2] rfl, ⟨Nat.zero_le _, Nat.zero_le _⟩, rfl⟩
  clear hl
  intro k ls hI ih_1
  obtain ⟨hl, hk, hcm⟩ := hI
  refine W.eq (g2 := F0 m 2 ls []) rfl ?_
  refine lv_iload_n hx hb dX6_compare_2 rfl (lv_at hl 0 rfl) ?_
  refine lv_aload_n hx hb dX6_compare_3 rfl (lv_at hl 1 rfl) ?_
  refine ct_callR (ct_runV (As := []) (rest := [.int (nI k)]) B (met_J4_length l E  _ a t s.heap.size) (lw_V q1189 q466 q467 q58 q468) (n := 0) ⟨by decide, by decide, by decide +kernel⟩ rfl ⟨rfl, rfl, (Nat.le_of_ble_eq_true rfl), (Nat.le_of_ble_eq_true rfl), (Nat.le_of_ble_eq_true rfl), (Nat.le_of_ble_eq_true rfl)⟩ (va_S.rf (A := fun _ => False)) (fun _ h => h.elim) (ct_Srecv B hV0.str) hV0.str hl.1 (Nat.le_of_ble_eq_true rfl) dX6_compare_4) (fun v hv => ?_)
  subst hv
  refine W.eq (g2 := F0 m 7 ls [.int (nI t.length), .int (nI k)]) rfl ?_
  refine n_icmp_ge (tgt := 56) hx hb dX6_compare_7 (by decide) (by omega) (by omega) (fun c1 => ?_) (fun c1 => ?_)
  · refine lv_aload_n hx hb dX6_compare_56 rfl (lv_at hl 1 rfl) ?_
    refine ct_callR (ct_runV (As := []) (rest := []) B (met_J4_length l E  _ a t s.heap.size) (lw_V q1189 q466 q467 q58 q468) (n := 0) ⟨by decide, by decide, by decide +kernel⟩ rfl ⟨rfl, rfl, (Nat.le_of_ble_eq_true rfl), (Nat.le_of_ble_eq_true rfl), (Nat.le_of_ble_eq_true rfl), (Nat.le_of_ble_eq_true rfl)⟩ (va_S.rf (A := fun _ => False)) (fun _ h => h.elim) (ct_Srecv B hV0.str) hV0.str hl.1 (Nat.le_of_ble_eq_true rfl) dX6_compare_57) (fun v hv => ?_)
    subst hv
    refine W.eq (g2 := F0 m 60 ls [.int (nI t.length)]) rfl ?_
    refine lv_aload_n hx hb dX6_compare_60 rfl (lv_at hl 2 rfl) ?_
    refine ct_callR (ct_runV (As := []) (rest := [.int (nI t.length)]) B (met_J4_length l E  _ b u s.heap.size) (lw_V q1189 q466 q467 q58 q468) (n := 0) ⟨by decide, by decide, by decide +kernel⟩ rfl ⟨rfl, rfl, (Nat.le_of_ble_eq_true rfl), (Nat.le_of_ble_eq_true rfl), (Nat.le_of_ble_eq_true rfl), (Nat.le_of_ble_eq_true rfl)⟩ (va_S.rf (A := fun _ => False)) (fun _ h => h.elim) (ct_Srecv B hV1.str) hV1.str hl.1 (Nat.le_of_ble_eq_true rfl) dX6_compare_61) (fun v hv => ?_)
    subst hv
    refine W.eq (g2 := F0 m 64 ls [.int (nI u.length), .int (nI t.length)]) rfl ?_
    refine n_icmp_ge (tgt := 71) hx hb dX6_compare_64 (by decide) (by omega) (by omega) (fun cl1 => ?_) (fun cl1 => ?_)
    · refine lv_aload_n hx hb dX6_compare_71 rfl (lv_at hl 1 rfl) ?_
      refine ct_callR (ct_runV (As := []) (rest := []) B (met_J4_length l E  _ a t s.heap.size) (lw_V q1189 q466 q467 q58 q468) (n := 0) ⟨by decide, by decide, by decide +kernel⟩ rfl ⟨rfl, rfl, (Nat.le_of_ble_eq_true rfl), (Nat.le_of_ble_eq_true rfl), (Nat.le_of_ble_eq_true rfl), (Nat.le_of_ble_eq_true rfl)⟩ (va_S.rf (A := fun _ => False)) (fun _ h => h.elim) (ct_Srecv B hV0.str) hV0.str hl.1 (Nat.le_of_ble_eq_true rfl) dX6_compare_72) (fun v hv => ?_)
      subst hv
      refine W.eq (g2 := F0 m 75 ls [.int (nI t.length)]) rfl ?_
      refine lv_aload_n hx hb dX6_compare_75 rfl (lv_at hl 2 rfl) ?_
      refine ct_callR (ct_runV (As := []) (rest := [.int (nI t.length)]) B (met_J4_length l E  _ b u s.heap.size) (lw_V q1189 q466 q467 q58 q468) (n := 0) ⟨by decide, by decide, by decide +kernel⟩ rfl ⟨rfl, rfl, (Nat.le_of_ble_eq_true rfl), (Nat.le_of_ble_eq_true rfl), (Nat.le_of_ble_eq_true rfl), (Nat.le_of_ble_eq_true rfl)⟩ (va_S.rf (A := fun _ => False)) (fun _ h => h.elim) (ct_Srecv B hV1.str) hV1.str hl.1 (Nat.le_of_ble_eq_true rfl) dX6_compare_76) (fun v hv => ?_)
      subst hv
      refine W.eq (g2 := F0 m 79 ls [.int (nI u.length), .int (nI t.length)]) rfl ?_
      refine n_icmp_le (tgt := 86) hx hb dX6_compare_79 (by decide) (by omega) (by omega) (fun cl2 => ?_) (fun cl2 => ?_)
      · refine lv_iconst (v := nI 0) hx hb dX6_compare_86 (by decide) ?_
        exact ct_iretR (ty := .int) (v := (nI 0)) B rfl rfl (by rw [hcm, cmp_end (by omega) hk.1 hk.2, if_neg (by omega), if_pos (by omega)] <;> rfl) dX6_compare_87
      · refine lv_iconst (v := nI 1) hx hb dX6_compare_82 (by decide) ?_
        refine lv_goto (tgt := 87) hx hb dX6_compare_83 (by decide) ?_
        exact ct_iretR (ty := .int) (v := (nI 1)) B rfl rfl (by rw [hcm, cmp_end (by omega) hk.1 hk.2, if_neg (by omega), if_neg (by omega)] <;> rfl) dX6_compare_87
    · refine lv_iconst (v := (-1)) hx hb dX6_compare_67 (by decide) ?_
      refine lv_goto (tgt := 87) hx hb dX6_compare_68 (by decide) ?_
      exact ct_iretR (ty := .int) (v := (-1)) B rfl rfl (by rw [hcm, cmp_end (by omega) hk.1 hk.2, if_pos (by omega)]) dX6_compare_87
  · refine lv_iload_n hx hb dX6_compare_10 rfl (lv_at hl 0 rfl) ?_
    refine lv_aload_n hx hb dX6_compare_11 rfl (lv_at hl 2 rfl) ?_
    refine ct_callR (ct_runV (As := []) (rest := [.int (nI k)]) B (met_J4_length l E  _ b u s.heap.size) (lw_V q1189 q466 q467 q58 q468) (n := 0) ⟨by decide, by decide, by decide +kernel⟩ rfl ⟨rfl, rfl, (Nat.le_of_ble_eq_true rfl), (Nat.le_of_ble_eq_true rfl), (Nat.le_of_ble_eq_true rfl), (Nat.le_of_ble_eq_true rfl)⟩ (va_S.rf (A := fun _ => False)) (fun _ h => h.elim) (ct_Srecv B hV1.str) hV1.str hl.1 (Nat.le_of_ble_eq_true rfl) dX6_compare_12) (fun v hv => ?_)
    subst hv
    refine W.eq (g2 := F0 m 15 ls [.int (nI u.length), .int (nI k)]) rfl ?_
    refine n_icmp_ge (tgt := 56) hx hb dX6_compare_15 (by decide) (by omega) (by omega) (fun c2 => ?_) (fun c2 => ?_)
    · refine lv_aload_n hx hb dX6_compare_56 rfl (lv_at hl 1 rfl) ?_
      refine ct_callR (ct_runV (As := []) (rest := []) B (met_J4_length l E  _ a t s.heap.size) (lw_V q1189 q466 q467 q58 q468) (n := 0) ⟨by decide, by decide, by decide +kernel⟩ rfl ⟨rfl, rfl, (Nat.le_of_ble_eq_true rfl), (Nat.le_of_ble_eq_true rfl), (Nat.le_of_ble_eq_true rfl), (Nat.le_of_ble_eq_true rfl)⟩ (va_S.rf (A := fun _ => False)) (fun _ h => h.elim) (ct_Srecv B hV0.str) hV0.str hl.1 (Nat.le_of_ble_eq_true rfl) dX6_compare_57) (fun v hv => ?_)
      subst hv
      refine W.eq (g2 := F0 m 60 ls [.int (nI t.length)]) rfl ?_
      refine lv_aload_n hx hb dX6_compare_60 rfl (lv_at hl 2 rfl) ?_
      refine ct_callR (ct_runV (As := []) (rest := [.int (nI t.length)]) B (met_J4_length l E  _ b u s.heap.size) (lw_V q1189 q466 q467 q58 q468) (n := 0) ⟨by decide, by decide, by decide +kernel⟩ rfl ⟨rfl, rfl, (Nat.le_of_ble_eq_true rfl), (Nat.le_of_ble_eq_true rfl), (Nat.le_of_ble_eq_true rfl), (Nat.le_of_ble_eq_true rfl)⟩ (va_S.rf (A := fun _ => False)) (fun _ h => h.elim) (ct_Srecv B hV1.str) hV1.str hl.1 (Nat.le_of_ble_eq_true rfl) dX6_compare_61) (fun v hv => ?_)
      subst hv
      refine W.eq (g2 := F0 m 64 ls [.int (nI u.length), .int (nI t.length)]) rfl ?_
      refine n_icmp_ge (tgt := 71) hx hb dX6_compare_64 (by decide) (by omega) (by omega) (fun cl1 => ?_) (fun cl1 => ?_)
      · refine lv_aload_n hx hb dX6_compare_71 rfl (lv_at hl 1 rfl) ?_
        refine ct_callR (ct_runV (As := []) (rest := []) B (met_J4_length l E  _ a t s.heap.size) (lw_V q1189 q466 q467 q58 q468) (n := 0) ⟨by decide, by decide, by decide +kernel⟩ rfl ⟨rfl, rfl, (Nat.le_of_ble_eq_true rfl), (Nat.le_of_ble_eq_true rfl), (Nat.le_of_ble_eq_true rfl), (Nat.le_of_ble_eq_true rfl)⟩ (va_S.rf (A := fun _ => False)) (fun _ h => h.elim) (ct_Srecv B hV0.str) hV0.str hl.1 (Nat.le_of_ble_eq_true rfl) dX6_compare_72) (fun v hv => ?_)
        subst hv
        refine W.eq (g2 := F0 m 75 ls [.int (nI t.length)]) rfl ?_
        refine lv_aload_n hx hb dX6_compare_75 rfl (lv_at hl 2 rfl) ?_
        refine ct_callR (ct_runV (As := []) (rest := [.int (nI t.length)]) B (met_J4_length l E  _ b u s.heap.size) (lw_V q1189 q466 q467 q58 q468) (n := 0) ⟨by decide, by decide, by decide +kernel⟩ rfl ⟨rfl, rfl, (Nat.le_of_ble_eq_true rfl), (Nat.le_of_ble_eq_true rfl), (Nat.le_of_ble_eq_true rfl), (Nat.le_of_ble_eq_true rfl)⟩ (va_S.rf (A := fun _ => False)) (fun _ h => h.elim) (ct_Srecv B hV1.str) hV1.str hl.1 (Nat.le_of_ble_eq_true rfl) dX6_compare_76) (fun v hv => ?_)
        subst hv
        refine W.eq (g2 := F0 m 79 ls [.int (nI u.length), .int (nI t.length)]) rfl ?_
        refine n_icmp_le (tgt := 86) hx hb dX6_compare_79 (by decide) (by omega) (by omega) (fun cl2 => ?_) (fun cl2 => ?_)
        · refine lv_iconst (v := nI 0) hx hb dX6_compare_86 (by decide) ?_
          exact ct_iretR (ty := .int) (v := (nI 0)) B rfl rfl (by rw [hcm, cmp_end (by omega) hk.1 hk.2, if_neg (by omega), if_pos (by omega)] <;> rfl) dX6_compare_87
        · refine lv_iconst (v := nI 1) hx hb dX6_compare_82 (by decide) ?_
          refine lv_goto (tgt := 87) hx hb dX6_compare_83 (by decide) ?_
          exact ct_iretR (ty := .int) (v := (nI 1)) B rfl rfl (by rw [hcm, cmp_end (by omega) hk.1 hk.2, if_neg (by omega), if_neg (by omega)] <;> rfl) dX6_compare_87
      · refine lv_iconst (v := (-1)) hx hb dX6_compare_67 (by decide) ?_
        refine lv_goto (tgt := 87) hx hb dX6_compare_68 (by decide) ?_
        exact ct_iretR (ty := .int) (v := (-1)) B rfl rfl (by rw [hcm, cmp_end (by omega) hk.1 hk.2, if_pos (by omega)]) dX6_compare_87
    · refine lv_aload_n hx hb dX6_compare_18 rfl (lv_at hl 1 rfl) ?_
      refine lv_iload_n hx hb dX6_compare_19 rfl (lv_at hl 0 rfl) ?_
      refine ct_callR (ct_runV (As := [.int (nI k)]) (rest := []) B (met_J4_charAt l E  _ a k t s.heap.size (by omega)) (lw_V q1190 q476 q477 q58 q478) (n := 1) ⟨by decide, by decide, by decide +kernel⟩ rfl ⟨rfl, rfl, (Nat.le_of_ble_eq_true rfl), (Nat.le_of_ble_eq_true rfl), (Nat.le_of_ble_eq_true rfl), (Nat.le_of_ble_eq_true rfl)⟩ (va_S.rf (A := fun _ => False)) (fun _ h => h.elim) (ct_Srecv B hV0.str) hV0.str hl.1 (Nat.le_of_ble_eq_true rfl) dX6_compare_20) (fun v hv => ?_)
      subst hv
      refine W.eq (g2 := F0 m 23 ls [.int (nI (t.getD k 0))]) rfl ?_
      refine lv_aload_n hx hb dX6_compare_23 rfl (lv_at hl 2 rfl) ?_
      refine lv_iload_n hx hb dX6_compare_24 rfl (lv_at hl 0 rfl) ?_
      refine ct_callR (ct_runV (As := [.int (nI k)]) (rest := [.int (nI (t.getD k 0))]) B (met_J4_charAt l E  _ b k u s.heap.size (by omega)) (lw_V q1190 q476 q477 q58 q478) (n := 1) ⟨by decide, by decide, by decide +kernel⟩ rfl ⟨rfl, rfl, (Nat.le_of_ble_eq_true rfl), (Nat.le_of_ble_eq_true rfl), (Nat.le_of_ble_eq_true rfl), (Nat.le_of_ble_eq_true rfl)⟩ (va_S.rf (A := fun _ => False)) (fun _ h => h.elim) (ct_Srecv B hV1.str) hV1.str hl.1 (Nat.le_of_ble_eq_true rfl) dX6_compare_25) (fun v hv => ?_)
      subst hv
      refine W.eq (g2 := F0 m 28 ls [.int (nI (u.getD k 0)), .int (nI (t.getD k 0))]) rfl ?_
      refine n_icmp_eq (tgt := 50) hx hb dX6_compare_28 (by decide) (by have := tx_lt hs0.2 k; omega) (by have := tx_lt hs1.2 k; omega) (fun ceq => ?_) (fun ceq => ?_)
      · refine n_iinc (n := 1) (lv' := [(2, .int (nI (k + 1))), (0, .ref a), (1, .ref b)]) hx hb dX6_compare_50 hl (k := 0) rfl rfl (by decide) (by decide) rfl (fun ls hl => ?_)
        refine lv_goto (tgt := 2) hx hb dX6_compare_53 (by decide) ?_
        exact ih_1 (k + 1) ls (by omega) ⟨lv_sub hl [0, 1, 2] rfl, ⟨by omega, by omega⟩, by rw [hcm, cmp_eq (by omega) (by omega) ceq]⟩
      · refine lv_aload_n hx hb dX6_compare_31 rfl (lv_at hl 1 rfl) ?_
        refine lv_iload_n hx hb dX6_compare_32 rfl (lv_at hl 0 rfl) ?_
        refine ct_callR (ct_runV (As := [.int (nI k)]) (rest := []) B (met_J4_charAt l E  _ a k t s.heap.size (by omega)) (lw_V q1190 q476 q477 q58 q478) (n := 1) ⟨by decide, by decide, by decide +kernel⟩ rfl ⟨rfl, rfl, (Nat.le_of_ble_eq_true rfl), (Nat.le_of_ble_eq_true rfl), (Nat.le_of_ble_eq_true rfl), (Nat.le_of_ble_eq_true rfl)⟩ (va_S.rf (A := fun _ => False)) (fun _ h => h.elim) (ct_Srecv B hV0.str) hV0.str hl.1 (Nat.le_of_ble_eq_true rfl) dX6_compare_33) (fun v hv => ?_)
        subst hv
        refine W.eq (g2 := F0 m 36 ls [.int (nI (t.getD k 0))]) rfl ?_
        refine lv_aload_n hx hb dX6_compare_36 rfl (lv_at hl 2 rfl) ?_
        refine lv_iload_n hx hb dX6_compare_37 rfl (lv_at hl 0 rfl) ?_
        refine ct_callR (ct_runV (As := [.int (nI k)]) (rest := [.int (nI (t.getD k 0))]) B (met_J4_charAt l E  _ b k u s.heap.size (by omega)) (lw_V q1190 q476 q477 q58 q478) (n := 1) ⟨by decide, by decide, by decide +kernel⟩ rfl ⟨rfl, rfl, (Nat.le_of_ble_eq_true rfl), (Nat.le_of_ble_eq_true rfl), (Nat.le_of_ble_eq_true rfl), (Nat.le_of_ble_eq_true rfl)⟩ (va_S.rf (A := fun _ => False)) (fun _ h => h.elim) (ct_Srecv B hV1.str) hV1.str hl.1 (Nat.le_of_ble_eq_true rfl) dX6_compare_38) (fun v hv => ?_)
        subst hv
        refine W.eq (g2 := F0 m 41 ls [.int (nI (u.getD k 0)), .int (nI (t.getD k 0))]) rfl ?_
        refine n_icmp_ge (tgt := 48) hx hb dX6_compare_41 (by decide) (by have := tx_lt hs0.2 k; omega) (by have := tx_lt hs1.2 k; omega) (fun clt => ?_) (fun clt => ?_)
        · refine lv_iconst (v := nI 1) hx hb dX6_compare_48 (by decide) ?_
          exact ct_iretR (ty := .int) (v := (nI 1)) B rfl rfl (by rw [hcm, cmp_ne (by omega) (by omega) ceq, if_neg (by omega)] <;> rfl) dX6_compare_49
        · refine lv_iconst (v := (-1)) hx hb dX6_compare_44 (by decide) ?_
          refine lv_goto (tgt := 49) hx hb dX6_compare_45 (by decide) ?_
          exact ct_iretR (ty := .int) (v := (-1)) B rfl rfl (by rw [hcm, cmp_ne (by omega) (by omega) ceq, if_pos (by omega)]) dX6_compare_49
set_option maxHeartbeats 4000000 in
set_option maxRecDepth 100000 in
theorem met_X6_before (l : Launch) (E : CE) (A0 : Nat → Prop) (im : va_W) (t9 n9 c9 : Nat) (ln : Option Nat) (tb : Tab) (k9 a : Nat) (u : List Nat) (sz : Nat) (hT : tL E im n9 c9 tb) (hok : tabOK tb) (hk9 : k9 < tCols tb) : Met l yX6_before (ws_ yX6_before cX6_before 8 (some .int)) { frames := 5, cells := 0, slots := 0, locals := 107 } (ctP E [.ref t9, .int (nI k9), .ref a] sz (fun H => va_P E.1 ct_cl [(t9, .inr (11, [.ref n9, .ref c9, va_rf ln]))] H ∧ va_P E.1 ct_cl im H ∧ ct_S E A0 H a u)) (ctR (fun v => v = some (.int (nI (sumN (cntB (tCols tb) (cellW tb) k9 u) (tRows tb)))))) 0 0 (fun _ => False) := by
  refine ct_start (by decide) (Nat.le_of_ble_eq_true rfl) ?_
  intro p e s m below meth c ls B hsz hH hl
  obtain ⟨hC, hI, hS0⟩ := hH
  have hx := B.1
  have hb := B.2.1
  have hl : lv_has ls 8 [(0, .ref t9), (1, .int (nI k9)), (2, .ref a)] := hl
  obtain ⟨v0, hV0⟩ := hS0.val
  have hs0 := hS0.small
  obtain ⟨hcs, hrs, htl, hn20, hc40⟩ := id hok
  refine lv_iconst (v := nI 0) hx hb dX6_before_0 (by decide) ?_
  refine lv_istore_n (lv' := [(3, .int (nI 0)), (0, .ref t9), (1, .int (nI k9)), (2, .ref a)]) hx hb dX6_before_1 rfl hl (by decide) rfl (fun ls hl => ?_)
  refine lv_iconst (v := nI 0) hx hb dX6_before_2 (by decide) ?_
  refine lv_istore (lv' := [(4, .int (nI 0)), (3, .int (nI 0)), (0, .ref t9), (1, .int (nI k9)), (2, .ref a)]) hx hb dX6_before_3 hl (by decide) rfl (fun ls hl => ?_)
  refine ct_loop (σ := Nat × Nat) (fun (r_, n_) ls => lv_has ls 8 [(4, .int (nI r_)), (3, .int (nI n_)), (0, .ref t9), (1, .int (nI k9)), (2, .ref a)] ∧ (r_ ≤ tRows tb) ∧ (n_ = sumN (cntB (tCols tb) (cellW tb) k9 u) r_)) (fun (r_, n_) => tRows tb - r_) (g := fun (r_, n_) ls => F0 m 5 ls []) (x0 := (0, 0)) (ls0 := ls) ?_ ⟨lv_sub hl [0, 1, 2, 3, 4] rfl, Nat.zero_le _, rfl⟩
  clear hl
  intro x9 ls hI ih_1
  obtain ⟨r_, n_⟩ := x9
  obtain ⟨hl, hr_, hn_⟩ := hI
  refine W.eq (g2 := F0 m 5 ls []) rfl ?_
  refine lv_iload hx hb dX6_before_5 (lv_at hl 0 rfl) ?_
  refine lv_aload_n hx hb dX6_before_7 rfl (lv_at hl 2 rfl) ?_
  refine ct_callR (ct_runV (As := []) (rest := [.int (nI r_)]) B (met_X11_rows l E im t9 n9 c9 ln tb s.heap.size hT hok) (lw_V q1158 q1159 q1160 q63 q1161) (n := 0) ⟨by decide, by decide, by decide +kernel⟩ rfl ⟨rfl, rfl, (Nat.le_of_ble_eq_true rfl), (Nat.le_of_ble_eq_true rfl), (Nat.le_of_ble_eq_true rfl), (Nat.le_of_ble_eq_true rfl)⟩ (va_S.rf (A := fun _ => False)) (fun _ h => h.elim) (ct_recv B hC kX11 0 rfl) ⟨(hC.sub [0] rfl), hI⟩ hl.1 (Nat.le_of_ble_eq_true rfl) dX6_before_8) (fun v hv => ?_)
  subst hv
  refine W.eq (g2 := F0 m 11 ls [.int (nI (tRows tb)), .int (nI r_)]) rfl ?_
  refine n_icmp_ge (tgt := 126) hx hb dX6_before_11 (by decide) (by omega) (by omega) (fun cend => ?_) (fun cend => ?_)
  · refine lv_iload_n hx hb dX6_before_126 rfl (lv_at hl 1 rfl) ?_
    exact ct_iretR (ty := .int) (v := (nI n_)) B rfl rfl (by rw [hn_, show r_ = tRows tb by omega]) dX6_before_127
  · refine lv_aload_n hx hb dX6_before_14 rfl (lv_at hl 2 rfl) ?_
    refine lv_iload hx hb dX6_before_15 (lv_at hl 0 rfl) ?_
    refine lv_iload_n hx hb dX6_before_17 rfl (lv_at hl 3 rfl) ?_
    refine ct_callR (ct_runV (As := [.int (nI r_), .int (nI k9)]) (rest := []) B (met_X11_at l E im t9 n9 c9 ln tb r_ k9 s.heap.size hT hok (by omega) hk9) (lw_V q1163 q1164 q1165 q63 q1166) (n := 2) ⟨by decide, by decide, by decide +kernel⟩ rfl ⟨rfl, rfl, (Nat.le_of_ble_eq_true rfl), (Nat.le_of_ble_eq_true rfl), (Nat.le_of_ble_eq_true rfl), (Nat.le_of_ble_eq_true rfl)⟩ (va_S.rf (A := fun _ => False)) (fun _ h => h.elim) (ct_recv B hC kX11 0 rfl) ⟨(hC.sub [0] rfl), hI⟩ hl.1 (Nat.le_of_ble_eq_true rfl) dX6_before_18) (fun v hv => ?_)
    obtain ⟨x9, rfl, s9, hx9, hs9⟩ := hv
    refine W.eq (g2 := F0 m 21 ls [.ref x9]) rfl ?_
    refine lv_astore (lv' := [(5, .ref x9), (4, .int (nI r_)), (3, .int (nI n_)), (0, .ref t9), (1, .int (nI k9)), (2, .ref a)]) hx hb dX6_before_21 hl (by decide) rfl (fun ls hl => ?_)
    refine lv_aload hx hb dX6_before_23 (lv_at hl 0 rfl) ?_
    refine ct_callR (ct_runV (As := []) (rest := []) B (met_X12_isMissing l E _ x9 s9 (if (cellW tb (tCols tb * r_ + k9)).2 = true then 1 else 0) ((cellW tb (tCols tb * r_ + k9)).1) s.heap.size (by split <;> omega)) (lw_V q1169 q1170 q1171 q74 q1172) (n := 0) ⟨by decide, by decide, by decide +kernel⟩ rfl ⟨rfl, rfl, (Nat.le_of_ble_eq_true rfl), (Nat.le_of_ble_eq_true rfl), (Nat.le_of_ble_eq_true rfl), (Nat.le_of_ble_eq_true rfl)⟩ (va_S.rf (A := fun _ => False)) (fun _ h => h.elim) (ct_recv B (ct_sel hI (by intro z9 h9; rw [List.mem_singleton.mp h9]; exact hx9)) kX12 0 rfl) ⟨((ct_sel hI (by intro z9 h9; rw [List.mem_singleton.mp h9]; exact hx9)).sub [0] rfl), (hs9.S hI)⟩ hl.1 (Nat.le_of_ble_eq_true rfl) dX6_before_25) (fun v hv => ?_)
    subst hv
    refine W.eq (g2 := F0 m 28 ls [.int (if (if (cellW tb (tCols tb * r_ + k9)).2 = true then 1 else 0) = 0 ∧ ((cellW tb (tCols tb * r_ + k9)).1).length = 0 then 1 else 0)]) rfl ?_
    refine b_if_ne (tgt := 47) hx hb dX6_before_28 (by decide) (fun cms => ?_) (fun cms => ?_)
    · refine lv_iconst (v := nI 0) hx hb dX6_before_47 (by decide) ?_
      refine lv_istore (lv' := [(6, .int (nI 0)), (5, .ref x9), (4, .int (nI r_)), (3, .int (nI n_)), (0, .ref t9), (1, .int (nI k9)), (2, .ref a)]) hx hb dX6_before_48 hl (by decide) rfl (fun ls hl => ?_)
      refine lv_iconst (v := nI 0) hx hb dX6_before_50 (by decide) ?_
      refine lv_istore (lv' := [(7, .int (nI 0)), (6, .int (nI 0)), (5, .ref x9), (4, .int (nI r_)), (3, .int (nI n_)), (0, .ref t9), (1, .int (nI k9)), (2, .ref a)]) hx hb dX6_before_51 hl (by decide) rfl (fun ls hl => ?_)
      refine lv_iload hx hb dX6_before_53 (lv_at hl 0 rfl) ?_
      refine lv_iload hx hb dX6_before_55 (lv_at hl 3 rfl) ?_
      refine n_icmp_ge (tgt := 112) hx hb dX6_before_57 (by decide) (by omega) (by omega) (fun cq => ?_) (fun cq => ?_)
      · refine lv_iload hx hb dX6_before_112 (lv_at hl 1 rfl) ?_
        refine n_if_eq (tgt := 120) hx hb dX6_before_114 (by decide) (by first | omega | (rcases hb_ with z9 | z9 <;> omega)) (fun cbb => ?_) (fun cbb => absurd cbb (by omega))
        refine n_iinc (n := 1) (lv' := [(4, .int (nI (r_ + 1))), (7, .int (nI 0)), (6, .int (nI 0)), (5, .ref x9), (3, .int (nI n_)), (0, .ref t9), (1, .int (nI k9)), (2, .ref a)]) hx hb dX6_before_120 hl (k := 3) rfl rfl (by decide) (by decide) rfl (fun ls hl => ?_)
        refine lv_goto (tgt := 5) hx hb dX6_before_123 (by decide) ?_
        exact ih_1 ((r_ + 1), n_) ls (by dsimp only; omega) ⟨lv_sub hl [0, 4, 5, 6, 7] rfl, by omega, by rw [sumN_S, ← hn_]; unfold cntB; rw [if_neg (fun z9 => z9.1 (missW_of cms)), Nat.add_zero]⟩
      · refine lv_iload hx hb dX6_before_60 (lv_at hl 1 rfl) ?_
        refine n_if_eq (tgt := 112) hx hb dX6_before_62 (by decide) (by first | omega | (rcases hb_ with z9 | z9 <;> omega)) (fun cb => ?_) (fun cb => absurd cb (by omega))
        refine lv_iload hx hb dX6_before_112 (lv_at hl 1 rfl) ?_
        refine n_if_eq (tgt := 120) hx hb dX6_before_114 (by decide) (by first | omega | (rcases hb_ with z9 | z9 <;> omega)) (fun cbb => ?_) (fun cbb => absurd cbb (by omega))
        refine n_iinc (n := 1) (lv' := [(4, .int (nI (r_ + 1))), (7, .int (nI 0)), (6, .int (nI 0)), (5, .ref x9), (3, .int (nI n_)), (0, .ref t9), (1, .int (nI k9)), (2, .ref a)]) hx hb dX6_before_120 hl (k := 3) rfl rfl (by decide) (by decide) rfl (fun ls hl => ?_)
        refine lv_goto (tgt := 5) hx hb dX6_before_123 (by decide) ?_
        exact ih_1 ((r_ + 1), n_) ls (by dsimp only; omega) ⟨lv_sub hl [0, 4, 5, 6, 7] rfl, by omega, by rw [sumN_S, ← hn_]; unfold cntB; rw [if_neg (fun z9 => z9.1 (missW_of cms)), Nat.add_zero]⟩
    · refine lv_aload hx hb dX6_before_31 (lv_at hl 0 rfl) ?_
      refine ct_get (v := .ref s9) B (ct_sel hI (by intro z9 h9; rw [List.mem_singleton.mp h9]; exact hx9)) kX12 0 rfl 0 (Nat.le_of_ble_eq_true rfl) q1118 rfl dX6_before_33 ?_
      refine lv_aload_n hx hb dX6_before_36 rfl (lv_at hl 5 rfl) ?_
      refine ct_callR (ct_runS (As := [.ref s9, .ref a]) (rest := []) B (met_X6_compare l E _ _ s9 a ((cellW tb (tCols tb * r_ + k9)).1) u s.heap.size) (lw_S q1280 q1281 q54 q1282) (n := 2) ⟨by decide, by decide, by decide +kernel⟩ rfl ⟨rfl, rfl, (Nat.le_of_ble_eq_true rfl), (Nat.le_of_ble_eq_true rfl), (Nat.le_of_ble_eq_true rfl), (Nat.le_of_ble_eq_true rfl)⟩ (va_S.rf (A := fun _ => False)) (fun _ h => h.elim) ⟨(hs9.S hI), hV0.str⟩ hl.1 (Nat.le_of_ble_eq_true rfl) dX6_before_37) (fun v hv => ?_)
      subst hv
      refine W.eq (g2 := F0 m 40 ls [.int (cmpI ((cellW tb (tCols tb * r_ + k9)).1) u)]) rfl ?_
      refine lv_if_ge (tgt := 47) hx hb dX6_before_40 (by decide) (fun clt => ?_) (fun clt => ?_)
      · refine lv_iconst (v := nI 0) hx hb dX6_before_47 (by decide) ?_
        refine lv_istore (lv' := [(6, .int (nI 0)), (5, .ref x9), (4, .int (nI r_)), (3, .int (nI n_)), (0, .ref t9), (1, .int (nI k9)), (2, .ref a)]) hx hb dX6_before_48 hl (by decide) rfl (fun ls hl => ?_)
        refine lv_iconst (v := nI 0) hx hb dX6_before_50 (by decide) ?_
        refine lv_istore (lv' := [(7, .int (nI 0)), (6, .int (nI 0)), (5, .ref x9), (4, .int (nI r_)), (3, .int (nI n_)), (0, .ref t9), (1, .int (nI k9)), (2, .ref a)]) hx hb dX6_before_51 hl (by decide) rfl (fun ls hl => ?_)
        refine lv_iload hx hb dX6_before_53 (lv_at hl 0 rfl) ?_
        refine lv_iload hx hb dX6_before_55 (lv_at hl 3 rfl) ?_
        refine n_icmp_ge (tgt := 112) hx hb dX6_before_57 (by decide) (by omega) (by omega) (fun cq => ?_) (fun cq => ?_)
        · refine lv_iload hx hb dX6_before_112 (lv_at hl 1 rfl) ?_
          refine n_if_eq (tgt := 120) hx hb dX6_before_114 (by decide) (by first | omega | (rcases hb_ with z9 | z9 <;> omega)) (fun cbb => ?_) (fun cbb => absurd cbb (by omega))
          refine n_iinc (n := 1) (lv' := [(4, .int (nI (r_ + 1))), (7, .int (nI 0)), (6, .int (nI 0)), (5, .ref x9), (3, .int (nI n_)), (0, .ref t9), (1, .int (nI k9)), (2, .ref a)]) hx hb dX6_before_120 hl (k := 3) rfl rfl (by decide) (by decide) rfl (fun ls hl => ?_)
          refine lv_goto (tgt := 5) hx hb dX6_before_123 (by decide) ?_
          exact ih_1 ((r_ + 1), n_) ls (by dsimp only; omega) ⟨lv_sub hl [0, 4, 5, 6, 7] rfl, by omega, by rw [sumN_S, ← hn_]; unfold cntB; rw [if_neg (fun z9 => absurd z9.2.1 (Int32.not_lt.mpr clt)), Nat.add_zero]⟩
        · refine lv_iload hx hb dX6_before_60 (lv_at hl 1 rfl) ?_
          refine n_if_eq (tgt := 112) hx hb dX6_before_62 (by decide) (by first | omega | (rcases hb_ with z9 | z9 <;> omega)) (fun cb => ?_) (fun cb => absurd cb (by omega))
          refine lv_iload hx hb dX6_before_112 (lv_at hl 1 rfl) ?_
          refine n_if_eq (tgt := 120) hx hb dX6_before_114 (by decide) (by first | omega | (rcases hb_ with z9 | z9 <;> omega)) (fun cbb => ?_) (fun cbb => absurd cbb (by omega))
          refine n_iinc (n := 1) (lv' := [(4, .int (nI (r_ + 1))), (7, .int (nI 0)), (6, .int (nI 0)), (5, .ref x9), (3, .int (nI n_)), (0, .ref t9), (1, .int (nI k9)), (2, .ref a)]) hx hb dX6_before_120 hl (k := 3) rfl rfl (by decide) (by decide) rfl (fun ls hl => ?_)
          refine lv_goto (tgt := 5) hx hb dX6_before_123 (by decide) ?_
          exact ih_1 ((r_ + 1), n_) ls (by dsimp only; omega) ⟨lv_sub hl [0, 4, 5, 6, 7] rfl, by omega, by rw [sumN_S, ← hn_]; unfold cntB; rw [if_neg (fun z9 => absurd z9.2.1 (Int32.not_lt.mpr clt)), Nat.add_zero]⟩
      · refine lv_iconst (v := nI 1) hx hb dX6_before_43 (by decide) ?_
        refine lv_goto (tgt := 48) hx hb dX6_before_44 (by decide) ?_
        refine lv_istore (lv' := [(6, .int (nI 1)), (5, .ref x9), (4, .int (nI r_)), (3, .int (nI n_)), (0, .ref t9), (1, .int (nI k9)), (2, .ref a)]) hx hb dX6_before_48 hl (by decide) rfl (fun ls hl => ?_)
        refine lv_iconst (v := nI 0) hx hb dX6_before_50 (by decide) ?_
        refine lv_istore (lv' := [(7, .int (nI 0)), (6, .int (nI 1)), (5, .ref x9), (4, .int (nI r_)), (3, .int (nI n_)), (0, .ref t9), (1, .int (nI k9)), (2, .ref a)]) hx hb dX6_before_51 hl (by decide) rfl (fun ls hl => ?_)
        refine ct_loop (σ := Nat × Nat) (fun (q_, b_) ls => lv_has ls 8 [(7, .int (nI q_)), (6, .int (nI b_)), (5, .ref x9), (4, .int (nI r_)), (3, .int (nI n_)), (0, .ref t9), (1, .int (nI k9)), (2, .ref a)] ∧ (q_ ≤ r_) ∧ ((b_ = 1 ∧ ∀ j, j < q_ → missW (cellW tb (tCols tb * j + k9)) ∨ (cellW tb (tCols tb * j + k9)).1 ≠ (cellW tb (tCols tb * r_ + k9)).1) ∨ (b_ = 0 ∧ ¬ fstW (tCols tb) (cellW tb) k9 r_))) (fun (q_, b_) => r_ - q_) (g := fun (q_, b_) ls => F0 m 53 ls []) (x0 := (0, 1)) (ls0 := ls) ?_ ⟨lv_sub hl [0, 1, 2, 3, 4, 5, 6, 7] rfl, Nat.zero_le _, Or.inl ⟨rfl, fun j hj => absurd hj (Nat.not_lt_zero j)⟩⟩
        clear hl
        intro x9 ls hI ih_2
        obtain ⟨q_, b_⟩ := x9
        obtain ⟨hl, hq_, hb_⟩ := hI
        refine W.eq (g2 := F0 m 53 ls []) rfl ?_
        refine lv_iload hx hb dX6_before_53 (lv_at hl 0 rfl) ?_
        refine lv_iload hx hb dX6_before_55 (lv_at hl 3 rfl) ?_
        refine n_icmp_ge (tgt := 112) hx hb dX6_before_57 (by decide) (by omega) (by omega) (fun cq => ?_) (fun cq => ?_)
        · refine lv_iload hx hb dX6_before_112 (lv_at hl 1 rfl) ?_
          refine n_if_eq (tgt := 120) hx hb dX6_before_114 (by decide) (by first | omega | (rcases hb_ with z9 | z9 <;> omega)) (fun cbb => ?_) (fun cbb => ?_)
          · refine n_iinc (n := 1) (lv' := [(4, .int (nI (r_ + 1))), (7, .int (nI q_)), (6, .int (nI b_)), (5, .ref x9), (3, .int (nI n_)), (0, .ref t9), (1, .int (nI k9)), (2, .ref a)]) hx hb dX6_before_120 hl (k := 3) rfl rfl (by decide) (by decide) rfl (fun ls hl => ?_)
            refine lv_goto (tgt := 5) hx hb dX6_before_123 (by decide) ?_
            exact ih_1 ((r_ + 1), n_) ls (by dsimp only; omega) ⟨lv_sub hl [0, 4, 5, 6, 7] rfl, by omega, by rw [sumN_S, ← hn_]; unfold cntB; rw [if_neg (fun z9 => by rcases hb_ with y9 | y9; omega; exact y9.2 z9.2.2), Nat.add_zero]⟩
          · refine n_iinc (n := 1) (lv' := [(3, .int (nI (n_ + 1))), (7, .int (nI q_)), (6, .int (nI b_)), (5, .ref x9), (4, .int (nI r_)), (0, .ref t9), (1, .int (nI k9)), (2, .ref a)]) hx hb dX6_before_117 hl (k := 4) rfl rfl (by decide) (by decide) rfl (fun ls hl => ?_)
            refine n_iinc (n := 1) (lv' := [(4, .int (nI (r_ + 1))), (3, .int (nI (n_ + 1))), (7, .int (nI q_)), (6, .int (nI b_)), (5, .ref x9), (0, .ref t9), (1, .int (nI k9)), (2, .ref a)]) hx hb dX6_before_120 hl (k := 4) rfl rfl (by decide) (by decide) rfl (fun ls hl => ?_)
            refine lv_goto (tgt := 5) hx hb dX6_before_123 (by decide) ?_
            exact ih_1 ((r_ + 1), (n_ + 1)) ls (by dsimp only; omega) ⟨lv_sub hl [0, 1, 5, 6, 7] rfl, by omega, by rw [sumN_S, ← hn_]; unfold cntB; rw [if_pos ⟨fun z9 => cms (missW_to z9), Int32.not_le.mp clt, by rcases hb_ with z9 | z9; exact (fun j hj => z9.2 j (by omega)); exact absurd z9.1 (by omega)⟩]⟩
        · refine lv_iload hx hb dX6_before_60 (lv_at hl 1 rfl) ?_
          refine n_if_eq (tgt := 112) hx hb dX6_before_62 (by decide) (by first | omega | (rcases hb_ with z9 | z9 <;> omega)) (fun cb => ?_) (fun cb => ?_)
          · refine lv_iload hx hb dX6_before_112 (lv_at hl 1 rfl) ?_
            refine n_if_eq (tgt := 120) hx hb dX6_before_114 (by decide) (by first | omega | (rcases hb_ with z9 | z9 <;> omega)) (fun cbb => ?_) (fun cbb => ?_)
            · refine n_iinc (n := 1) (lv' := [(4, .int (nI (r_ + 1))), (7, .int (nI q_)), (6, .int (nI b_)), (5, .ref x9), (3, .int (nI n_)), (0, .ref t9), (1, .int (nI k9)), (2, .ref a)]) hx hb dX6_before_120 hl (k := 3) rfl rfl (by decide) (by decide) rfl (fun ls hl => ?_)
              refine lv_goto (tgt := 5) hx hb dX6_before_123 (by decide) ?_
              exact ih_1 ((r_ + 1), n_) ls (by dsimp only; omega) ⟨lv_sub hl [0, 4, 5, 6, 7] rfl, by omega, by rw [sumN_S, ← hn_]; unfold cntB; rw [if_neg (fun z9 => by rcases hb_ with y9 | y9; omega; exact y9.2 z9.2.2), Nat.add_zero]⟩
            · refine n_iinc (n := 1) (lv' := [(3, .int (nI (n_ + 1))), (7, .int (nI q_)), (6, .int (nI b_)), (5, .ref x9), (4, .int (nI r_)), (0, .ref t9), (1, .int (nI k9)), (2, .ref a)]) hx hb dX6_before_117 hl (k := 4) rfl rfl (by decide) (by decide) rfl (fun ls hl => ?_)
              refine n_iinc (n := 1) (lv' := [(4, .int (nI (r_ + 1))), (3, .int (nI (n_ + 1))), (7, .int (nI q_)), (6, .int (nI b_)), (5, .ref x9), (0, .ref t9), (1, .int (nI k9)), (2, .ref a)]) hx hb dX6_before_120 hl (k := 4) rfl rfl (by decide) (by decide) rfl (fun ls hl => ?_)
              refine lv_goto (tgt := 5) hx hb dX6_before_123 (by decide) ?_
              exact ih_1 ((r_ + 1), (n_ + 1)) ls (by dsimp only; omega) ⟨lv_sub hl [0, 1, 5, 6, 7] rfl, by omega, by rw [sumN_S, ← hn_]; unfold cntB; rw [if_pos ⟨fun z9 => cms (missW_to z9), Int32.not_le.mp clt, by rcases hb_ with z9 | z9; exact (fun j hj => z9.2 j (by omega)); exact absurd z9.1 (by omega)⟩]⟩
          · have hno : ∀ j, j < q_ → missW (cellW tb (tCols tb * j + k9)) ∨ (cellW tb (tCols tb * j + k9)).1 ≠ (cellW tb (tCols tb * r_ + k9)).1 := by rcases hb_ with z9 | z9; exact z9.2; exact absurd z9.1 (by omega)
            refine lv_aload_n hx hb dX6_before_65 rfl (lv_at hl 5 rfl) ?_
            refine lv_iload hx hb dX6_before_66 (lv_at hl 0 rfl) ?_
            refine lv_iload_n hx hb dX6_before_68 rfl (lv_at hl 6 rfl) ?_
            refine ct_callR (ct_runV (As := [.int (nI q_), .int (nI k9)]) (rest := []) B (met_X11_at l E im t9 n9 c9 ln tb q_ k9 s.heap.size hT hok (by omega) hk9) (lw_V q1163 q1164 q1165 q63 q1166) (n := 2) ⟨by decide, by decide, by decide +kernel⟩ rfl ⟨rfl, rfl, (Nat.le_of_ble_eq_true rfl), (Nat.le_of_ble_eq_true rfl), (Nat.le_of_ble_eq_true rfl), (Nat.le_of_ble_eq_true rfl)⟩ (va_S.rf (A := fun _ => False)) (fun _ h => h.elim) (ct_recv B hC kX11 0 rfl) ⟨(hC.sub [0] rfl), hI⟩ hl.1 (Nat.le_of_ble_eq_true rfl) dX6_before_69) (fun v hv => ?_)
            obtain ⟨y9, rfl, t9_, hy9, ht9_⟩ := hv
            refine W.eq (g2 := F0 m 72 ls [.ref y9]) rfl ?_
            refine ct_callR (ct_runV (As := []) (rest := []) B (met_X12_isMissing l E _ y9 t9_ (if (cellW tb (tCols tb * q_ + k9)).2 = true then 1 else 0) ((cellW tb (tCols tb * q_ + k9)).1) s.heap.size (by split <;> omega)) (lw_V q1169 q1170 q1171 q74 q1172) (n := 0) ⟨by decide, by decide, by decide +kernel⟩ rfl ⟨rfl, rfl, (Nat.le_of_ble_eq_true rfl), (Nat.le_of_ble_eq_true rfl), (Nat.le_of_ble_eq_true rfl), (Nat.le_of_ble_eq_true rfl)⟩ (va_S.rf (A := fun _ => False)) (fun _ h => h.elim) (ct_recv B (ct_sel hI (by intro z9 h9; rw [List.mem_singleton.mp h9]; exact hy9)) kX12 0 rfl) ⟨((ct_sel hI (by intro z9 h9; rw [List.mem_singleton.mp h9]; exact hy9)).sub [0] rfl), (ht9_.S hI)⟩ hl.1 (Nat.le_of_ble_eq_true rfl) dX6_before_72) (fun v hv => ?_)
            subst hv
            refine W.eq (g2 := F0 m 75 ls [.int (if (if (cellW tb (tCols tb * q_ + k9)).2 = true then 1 else 0) = 0 ∧ ((cellW tb (tCols tb * q_ + k9)).1).length = 0 then 1 else 0)]) rfl ?_
            refine b_if_ne (tgt := 99) hx hb dX6_before_75 (by decide) (fun cmq => ?_) (fun cmq => ?_)
            · refine lv_iconst (v := nI 1) hx hb dX6_before_99 (by decide) ?_
              refine lv_goto (tgt := 104) hx hb dX6_before_100 (by decide) ?_
              refine lv_istore (lv' := [(6, .int (nI 1)), (7, .int (nI q_)), (5, .ref x9), (4, .int (nI r_)), (3, .int (nI n_)), (0, .ref t9), (1, .int (nI k9)), (2, .ref a)]) hx hb dX6_before_104 hl (by decide) rfl (fun ls hl => ?_)
              refine n_iinc (n := 1) (lv' := [(7, .int (nI (q_ + 1))), (6, .int (nI 1)), (5, .ref x9), (4, .int (nI r_)), (3, .int (nI n_)), (0, .ref t9), (1, .int (nI k9)), (2, .ref a)]) hx hb dX6_before_106 hl (k := 1) rfl rfl (by decide) (by decide) rfl (fun ls hl => ?_)
              refine lv_goto (tgt := 53) hx hb dX6_before_109 (by decide) ?_
              exact ih_2 ((q_ + 1), 1) ls (by dsimp only; omega) ⟨lv_sub hl [0, 1, 2, 3, 4, 5, 6, 7] rfl, by omega, Or.inl ⟨rfl, fun j hj => by rcases Nat.lt_succ_iff_lt_or_eq.mp hj with q9 | q9; exact hno j q9; rw [q9]; exact Or.inl (missW_of cmq)⟩⟩
            · refine lv_aload_n hx hb dX6_before_78 rfl (lv_at hl 5 rfl) ?_
              refine lv_iload hx hb dX6_before_79 (lv_at hl 0 rfl) ?_
              refine lv_iload_n hx hb dX6_before_81 rfl (lv_at hl 6 rfl) ?_
              refine ct_callR (ct_runV (As := [.int (nI q_), .int (nI k9)]) (rest := []) B (met_X11_at l E im t9 n9 c9 ln tb q_ k9 s.heap.size hT hok (by omega) hk9) (lw_V q1163 q1164 q1165 q63 q1166) (n := 2) ⟨by decide, by decide, by decide +kernel⟩ rfl ⟨rfl, rfl, (Nat.le_of_ble_eq_true rfl), (Nat.le_of_ble_eq_true rfl), (Nat.le_of_ble_eq_true rfl), (Nat.le_of_ble_eq_true rfl)⟩ (va_S.rf (A := fun _ => False)) (fun _ h => h.elim) (ct_recv B hC kX11 0 rfl) ⟨(hC.sub [0] rfl), hI⟩ hl.1 (Nat.le_of_ble_eq_true rfl) dX6_before_82) (fun v hv => ?_)
              obtain ⟨z_9, rfl, u_9, hz_9, hu_9⟩ := hv
              refine W.eq (g2 := F0 m 85 ls [.ref z_9]) rfl ?_
              refine ct_get (v := .ref u_9) B (ct_sel hI (by intro z9 h9; rw [List.mem_singleton.mp h9]; exact hz_9)) kX12 0 rfl 0 (Nat.le_of_ble_eq_true rfl) q1118 rfl dX6_before_85 ?_
              refine lv_aload hx hb dX6_before_88 (lv_at hl 2 rfl) ?_
              refine ct_get (v := .ref s9) B (ct_sel hI (by intro z9 h9; rw [List.mem_singleton.mp h9]; exact hx9)) kX12 0 rfl 0 (Nat.le_of_ble_eq_true rfl) q1118 rfl dX6_before_90 ?_
              refine ct_callR (ct_runS (As := [.ref u_9, .ref s9]) (rest := []) B (met_X6_compare l E _ _ u_9 s9 ((cellW tb (tCols tb * q_ + k9)).1) ((cellW tb (tCols tb * r_ + k9)).1) s.heap.size) (lw_S q1280 q1281 q54 q1282) (n := 2) ⟨by decide, by decide, by decide +kernel⟩ rfl ⟨rfl, rfl, (Nat.le_of_ble_eq_true rfl), (Nat.le_of_ble_eq_true rfl), (Nat.le_of_ble_eq_true rfl), (Nat.le_of_ble_eq_true rfl)⟩ (va_S.rf (A := fun _ => False)) (fun _ h => h.elim) ⟨(hu_9.S hI), (hs9.S hI)⟩ hl.1 (Nat.le_of_ble_eq_true rfl) dX6_before_93) (fun v hv => ?_)
              subst hv
              refine W.eq (g2 := F0 m 96 ls [.int (cmpI ((cellW tb (tCols tb * q_ + k9)).1) ((cellW tb (tCols tb * r_ + k9)).1))]) rfl ?_
              refine lv_if_eq (tgt := 103) hx hb dX6_before_96 (by decide) (fun ceq => ?_) (fun ceq => ?_)
              · refine lv_iconst (v := nI 0) hx hb dX6_before_103 (by decide) ?_
                refine lv_istore (lv' := [(6, .int (nI 0)), (7, .int (nI q_)), (5, .ref x9), (4, .int (nI r_)), (3, .int (nI n_)), (0, .ref t9), (1, .int (nI k9)), (2, .ref a)]) hx hb dX6_before_104 hl (by decide) rfl (fun ls hl => ?_)
                refine n_iinc (n := 1) (lv' := [(7, .int (nI (q_ + 1))), (6, .int (nI 0)), (5, .ref x9), (4, .int (nI r_)), (3, .int (nI n_)), (0, .ref t9), (1, .int (nI k9)), (2, .ref a)]) hx hb dX6_before_106 hl (k := 1) rfl rfl (by decide) (by decide) rfl (fun ls hl => ?_)
                refine lv_goto (tgt := 53) hx hb dX6_before_109 (by decide) ?_
                exact ih_2 ((q_ + 1), 0) ls (by dsimp only; omega) ⟨lv_sub hl [0, 1, 2, 3, 4, 5, 6, 7] rfl, by omega, Or.inr ⟨rfl, fun z9 => by rcases z9 q_ (by omega) with y9 | y9; exact cmq (missW_to y9); exact y9 (cmp_0 ceq)⟩⟩
              · refine lv_iconst (v := nI 1) hx hb dX6_before_99 (by decide) ?_
                refine lv_goto (tgt := 104) hx hb dX6_before_100 (by decide) ?_
                refine lv_istore (lv' := [(6, .int (nI 1)), (7, .int (nI q_)), (5, .ref x9), (4, .int (nI r_)), (3, .int (nI n_)), (0, .ref t9), (1, .int (nI k9)), (2, .ref a)]) hx hb dX6_before_104 hl (by decide) rfl (fun ls hl => ?_)
                refine n_iinc (n := 1) (lv' := [(7, .int (nI (q_ + 1))), (6, .int (nI 1)), (5, .ref x9), (4, .int (nI r_)), (3, .int (nI n_)), (0, .ref t9), (1, .int (nI k9)), (2, .ref a)]) hx hb dX6_before_106 hl (k := 1) rfl rfl (by decide) (by decide) rfl (fun ls hl => ?_)
                refine lv_goto (tgt := 53) hx hb dX6_before_109 (by decide) ?_
                exact ih_2 ((q_ + 1), 1) ls (by dsimp only; omega) ⟨lv_sub hl [0, 1, 2, 3, 4, 5, 6, 7] rfl, by omega, Or.inl ⟨rfl, fun j hj => by rcases Nat.lt_succ_iff_lt_or_eq.mp hj with q9 | q9; exact hno j q9; rw [q9]; exact Or.inr (fun y9 => ceq (by rw [y9]; exact cmp_r _))⟩⟩
