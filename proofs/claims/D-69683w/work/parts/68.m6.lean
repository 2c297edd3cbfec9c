set_option maxHeartbeats 4000000 in
set_option maxRecDepth 100000 in
theorem met_X6_word (l : Launch) (E : CE) (b0 b1 b2 b3 b4 b5 b7 trayed fed : Nat) (place : Int32) (tcn wby pcn : Nat) (tray : Nat → Int32) (v9 : Int32) (sz : Nat) (hn4 : trayed + 4 ≤ 16000) : Met l yX6_word (ws_ yX6_word cX6_word 3 none) { frames := 0, cells := 0, slots := 0, locals := 0 } (ctP E [.ref b0, .int v9] sz (fun H => va_P E.1 ct_cl ([(b0, .inr (6, [.ref b1, .int (nI trayed), .int (nI fed), .int place, .ref b2, .ref b3, .int (nI tcn), .int (nI wby), .ref b4, .int (nI pcn), .ref b5, .ref b7])), (b1, .inl (E.2.1 0, 16000, .inl tray))]) H ∧ va_D (fun q => E.2.2.1 ≤ q) ([(b0, .inr (6, [.ref b1, .int (nI trayed), .int (nI fed), .int place, .ref b2, .ref b3, .int (nI tcn), .int (nI wby), .ref b4, .int (nI pcn), .ref b5, .ref b7])), (b1, .inl (E.2.1 0, 16000, .inl tray))]))) (ctQ (fun v H => v = none ∧ va_P E.1 ct_cl ([(b0, .inr (6, [.ref b1, .int (nI (trayed + 4)), .int (nI fed), .int place, .ref b2, .ref b3, .int (nI tcn), .int (nI wby), .ref b4, .int (nI pcn), .ref b5, .ref b7])), (b1, .inl (E.2.1 0, 16000, .inl (fourT tray trayed v9)))]) H ∧ va_D (va_A ([(b0, .inr (6, [.ref b1, .int (nI trayed), .int (nI fed), .int place, .ref b2, .ref b3, .int (nI tcn), .int (nI wby), .ref b4, .int (nI pcn), .ref b5, .ref b7])), (b1, .inl (E.2.1 0, 16000, .inl tray))]) sz) ([(b0, .inr (6, [.ref b1, .int (nI (trayed + 4)), .int (nI fed), .int place, .ref b2, .ref b3, .int (nI tcn), .int (nI wby), .ref b4, .int (nI pcn), .ref b5, .ref b7])), (b1, .inl (E.2.1 0, 16000, .inl (fourT tray trayed v9)))])) (va_A ([(b0, .inr (6, [.ref b1, .int (nI trayed), .int (nI fed), .int place, .ref b2, .ref b3, .int (nI tcn), .int (nI wby), .ref b4, .int (nI pcn), .ref b5, .ref b7])), (b1, .inl (E.2.1 0, 16000, .inl tray))]) sz)) 0 0 (va_A ([(b0, .inr (6, [.ref b1, .int (nI trayed), .int (nI fed), .int place, .ref b2, .ref b3, .int (nI tcn), .int (nI wby), .ref b4, .int (nI pcn), .ref b5, .ref b7])), (b1, .inl (E.2.1 0, 16000, .inl tray))]) sz) := by
  refine ct_start (by decide) (Nat.le_of_ble_eq_true rfl) ?_
  intro p e s m below meth c ls B hsz hH hl
  obtain ⟨hP, hD⟩ := hH
  obtain ⟨A, hAe, h, hA, hAn⟩ := ct_enter B.2.2.2.2.2.2.2.2 hsz hP hD
  rw [hAe]
  refine ct_gen h (fun H locs h => ?_)
  have hx := B.1
  have hb := B.2.1
  have hl : lv_has ls 3 [(0, .ref b0), (1, .int v9)] := hl
  refine lv_iconst (v := nI 0) hx hb dX6_word_0 (by decide) ?_
  refine lv_istore_n (lv' := [(2, .int (nI 0)), (0, .ref b0), (1, .int v9)]) hx hb dX6_word_1 rfl hl (by decide) rfl (fun ls hl => ?_)
  refine lv_iload_n hx hb dX6_word_2 rfl (lv_at hl 0 rfl) ?_
  refine lv_iconst (v := nI 4) hx hb dX6_word_3 (by decide) ?_
  refine n_icmp_ge (tgt := 42) hx hb dX6_word_4 (by decide) (by omega) (by omega) (fun c_1 => absurd c_1 (by omega)) (fun c_1 => ?_)
  refine lv_aload_n hx hb dX6_word_7 rfl (lv_at hl 1 rfl) ?_
  refine ct_get (v := .ref b1) B h.1 kX6 0 rfl 0 (Nat.le_of_ble_eq_true rfl) q727 rfl dX6_word_8 ?_
  refine lv_aload_n hx hb dX6_word_11 rfl (lv_at hl 1 rfl) ?_
  refine ct_get (v := .int (nI trayed)) B h.1 kX6 0 rfl 1 (Nat.le_of_ble_eq_true rfl) q728 rfl dX6_word_12 ?_
  refine lv_iload_n hx hb dX6_word_15 rfl (lv_at hl 2 rfl) ?_
  refine lv_bipush (v := nI 24) hx hb dX6_word_16 (by decide) ?_
  refine lv_bipush (v := nI 8) hx hb dX6_word_18 (by decide) ?_
  refine lv_iload_n hx hb dX6_word_20 rfl (lv_at hl 0 rfl) ?_
  refine n_imul hx hb dX6_word_21 ?_
  refine W.eq (g2 := F0 m 22 ls [.int (nI 0), .int (nI 24), .int v9, .int (nI trayed), .ref b1]) rfl ?_
  refine n_isub hx hb (by omega) dX6_word_22 ?_
  refine W.eq (g2 := F0 m 23 ls [.int (nI 24), .int v9, .int (nI trayed), .ref b1]) rfl ?_
  refine lv_ishr hx hb dX6_word_23 ?_
  refine lv_i2b (v := (v9 >>> ((nI 24) &&& 31)).toInt8.toInt32) hx hb dX6_word_24 rfl ?_
  refine ct_bast (ws' := [(b0, .inr (6, [.ref b1, .int (nI trayed), .int (nI fed), .int place, .ref b2, .ref b3, .int (nI tcn), .int (nI wby), .ref b4, .int (nI pcn), .ref b5, .ref b7])), (b1, .inl (E.2.1 0, 16000, .inl (upd tray trayed (vp_nar .byte ((v9 >>> ((nI 24) &&& 31)).toInt8.toInt32)))))]) B h 1 rfl (by omega) (by omega) rfl dX6_word_25 (fun H locs h => ?_)
  refine lv_aload_n hx hb dX6_word_26 rfl (lv_at hl 1 rfl) ?_
  refine lv_dup hx hb dX6_word_27 rfl ?_
  refine ct_get (v := .int (nI trayed)) B h.1 kX6 0 rfl 1 (Nat.le_of_ble_eq_true rfl) q728 rfl dX6_word_28 ?_
  refine lv_iconst (v := nI 1) hx hb dX6_word_31 (by decide) ?_
  refine n_iadd hx hb dX6_word_32 ?_
  refine ct_put (ws' := [(b0, .inr (6, [.ref b1, .int (nI (trayed + 1)), .int (nI fed), .int place, .ref b2, .ref b3, .int (nI tcn), .int (nI wby), .ref b4, .int (nI pcn), .ref b5, .ref b7])), (b1, .inl (E.2.1 0, 16000, .inl (upd tray trayed (vp_nar .byte ((v9 >>> ((nI 24) &&& 31)).toInt8.toInt32)))))]) B h kX6 0 rfl 1 (Nat.le_of_ble_eq_true rfl) q728 rfl rfl rfl (Nat.le_of_ble_eq_true rfl) rfl dX6_word_33 (fun H locs h => ?_)
  refine n_iinc (n := 1) (lv' := [(2, .int (nI 1)), (0, .ref b0), (1, .int v9)]) hx hb dX6_word_36 hl (k := 0) rfl rfl (by decide) (by decide) rfl (fun ls hl => ?_)
  refine lv_goto (tgt := 2) hx hb dX6_word_39 (by decide) ?_
  refine lv_iload_n hx hb dX6_word_2 rfl (lv_at hl 0 rfl) ?_
  refine lv_iconst (v := nI 4) hx hb dX6_word_3 (by decide) ?_
  refine n_icmp_ge (tgt := 42) hx hb dX6_word_4 (by decide) (by omega) (by omega) (fun c_2 => absurd c_2 (by omega)) (fun c_2 => ?_)
  refine lv_aload_n hx hb dX6_word_7 rfl (lv_at hl 1 rfl) ?_
  refine ct_get (v := .ref b1) B h.1 kX6 0 rfl 0 (Nat.le_of_ble_eq_true rfl) q727 rfl dX6_word_8 ?_
  refine lv_aload_n hx hb dX6_word_11 rfl (lv_at hl 1 rfl) ?_
  refine ct_get (v := .int (nI (trayed + 1))) B h.1 kX6 0 rfl 1 (Nat.le_of_ble_eq_true rfl) q728 rfl dX6_word_12 ?_
  refine lv_iload_n hx hb dX6_word_15 rfl (lv_at hl 2 rfl) ?_
  refine lv_bipush (v := nI 24) hx hb dX6_word_16 (by decide) ?_
  refine lv_bipush (v := nI 8) hx hb dX6_word_18 (by decide) ?_
  refine lv_iload_n hx hb dX6_word_20 rfl (lv_at hl 0 rfl) ?_
  refine n_imul hx hb dX6_word_21 ?_
  refine W.eq (g2 := F0 m 22 ls [.int (nI 8), .int (nI 24), .int v9, .int (nI (trayed + 1)), .ref b1]) rfl ?_
  refine n_isub hx hb (by omega) dX6_word_22 ?_
  refine W.eq (g2 := F0 m 23 ls [.int (nI 16), .int v9, .int (nI (trayed + 1)), .ref b1]) rfl ?_
  refine lv_ishr hx hb dX6_word_23 ?_
  refine lv_i2b (v := (v9 >>> ((nI 16) &&& 31)).toInt8.toInt32) hx hb dX6_word_24 rfl ?_
  refine ct_bast (ws' := [(b0, .inr (6, [.ref b1, .int (nI (trayed + 1)), .int (nI fed), .int place, .ref b2, .ref b3, .int (nI tcn), .int (nI wby), .ref b4, .int (nI pcn), .ref b5, .ref b7])), (b1, .inl (E.2.1 0, 16000, .inl (upd (upd tray trayed (vp_nar .byte ((v9 >>> ((nI 24) &&& 31)).toInt8.toInt32))) (trayed + 1) (vp_nar .byte ((v9 >>> ((nI 16) &&& 31)).toInt8.toInt32)))))]) B h 1 rfl (by omega) (by omega) rfl dX6_word_25 (fun H locs h => ?_)
  refine lv_aload_n hx hb dX6_word_26 rfl (lv_at hl 1 rfl) ?_
  refine lv_dup hx hb dX6_word_27 rfl ?_
  refine ct_get (v := .int (nI (trayed + 1))) B h.1 kX6 0 rfl 1 (Nat.le_of_ble_eq_true rfl) q728 rfl dX6_word_28 ?_
  refine lv_iconst (v := nI 1) hx hb dX6_word_31 (by decide) ?_
  refine n_iadd hx hb dX6_word_32 ?_
  refine ct_put (ws' := [(b0, .inr (6, [.ref b1, .int (nI (trayed + 2)), .int (nI fed), .int place, .ref b2, .ref b3, .int (nI tcn), .int (nI wby), .ref b4, .int (nI pcn), .ref b5, .ref b7])), (b1, .inl (E.2.1 0, 16000, .inl (upd (upd tray trayed (vp_nar .byte ((v9 >>> ((nI 24) &&& 31)).toInt8.toInt32))) (trayed + 1) (vp_nar .byte ((v9 >>> ((nI 16) &&& 31)).toInt8.toInt32)))))]) B h kX6 0 rfl 1 (Nat.le_of_ble_eq_true rfl) q728 rfl rfl rfl (Nat.le_of_ble_eq_true rfl) rfl dX6_word_33 (fun H locs h => ?_)
  refine n_iinc (n := 1) (lv' := [(2, .int (nI 2)), (0, .ref b0), (1, .int v9)]) hx hb dX6_word_36 hl (k := 0) rfl rfl (by decide) (by decide) rfl (fun ls hl => ?_)
  refine lv_goto (tgt := 2) hx hb dX6_word_39 (by decide) ?_
  refine lv_iload_n hx hb dX6_word_2 rfl (lv_at hl 0 rfl) ?_
  refine lv_iconst (v := nI 4) hx hb dX6_word_3 (by decide) ?_
  refine n_icmp_ge (tgt := 42) hx hb dX6_word_4 (by decide) (by omega) (by omega) (fun c_3 => absurd c_3 (by omega)) (fun c_3 => ?_)
  refine lv_aload_n hx hb dX6_word_7 rfl (lv_at hl 1 rfl) ?_
  refine ct_get (v := .ref b1) B h.1 kX6 0 rfl 0 (Nat.le_of_ble_eq_true rfl) q727 rfl dX6_word_8 ?_
  refine lv_aload_n hx hb dX6_word_11 rfl (lv_at hl 1 rfl) ?_
  refine ct_get (v := .int (nI (trayed + 2))) B h.1 kX6 0 rfl 1 (Nat.le_of_ble_eq_true rfl) q728 rfl dX6_word_12 ?_
  refine lv_iload_n hx hb dX6_word_15 rfl (lv_at hl 2 rfl) ?_
  refine lv_bipush (v := nI 24) hx hb dX6_word_16 (by decide) ?_
  refine lv_bipush (v := nI 8) hx hb dX6_word_18 (by decide) ?_
  refine lv_iload_n hx hb dX6_word_20 rfl (lv_at hl 0 rfl) ?_
  refine n_imul hx hb dX6_word_21 ?_
  refine W.eq (g2 := F0 m 22 ls [.int (nI 16), .int (nI 24), .int v9, .int (nI (trayed + 2)), .ref b1]) rfl ?_
  refine n_isub hx hb (by omega) dX6_word_22 ?_
  refine W.eq (g2 := F0 m 23 ls [.int (nI 8), .int v9, .int (nI (trayed + 2)), .ref b1]) rfl ?_
  refine lv_ishr hx hb dX6_word_23 ?_
  refine lv_i2b (v := (v9 >>> ((nI 8) &&& 31)).toInt8.toInt32) hx hb dX6_word_24 rfl ?_
  refine ct_bast (ws' := [(b0, .inr (6, [.ref b1, .int (nI (trayed + 2)), .int (nI fed), .int place, .ref b2, .ref b3, .int (nI tcn), .int (nI wby), .ref b4, .int (nI pcn), .ref b5, .ref b7])), (b1, .inl (E.2.1 0, 16000, .inl (upd (upd (upd tray trayed (vp_nar .byte ((v9 >>> ((nI 24) &&& 31)).toInt8.toInt32))) (trayed + 1) (vp_nar .byte ((v9 >>> ((nI 16) &&& 31)).toInt8.toInt32))) (trayed + 2) (vp_nar .byte ((v9 >>> ((nI 8) &&& 31)).toInt8.toInt32)))))]) B h 1 rfl (by omega) (by omega) rfl dX6_word_25 (fun H locs h => ?_)
  refine lv_aload_n hx hb dX6_word_26 rfl (lv_at hl 1 rfl) ?_
  refine lv_dup hx hb dX6_word_27 rfl ?_
  refine ct_get (v := .int (nI (trayed + 2))) B h.1 kX6 0 rfl 1 (Nat.le_of_ble_eq_true rfl) q728 rfl dX6_word_28 ?_
  refine lv_iconst (v := nI 1) hx hb dX6_word_31 (by decide) ?_
  refine n_iadd hx hb dX6_word_32 ?_
  refine ct_put (ws' := [(b0, .inr (6, [.ref b1, .int (nI (trayed + 3)), .int (nI fed), .int place, .ref b2, .ref b3, .int (nI tcn), .int (nI wby), .ref b4, .int (nI pcn), .ref b5, .ref b7])), (b1, .inl (E.2.1 0, 16000, .inl (upd (upd (upd tray trayed (vp_nar .byte ((v9 >>> ((nI 24) &&& 31)).toInt8.toInt32))) (trayed + 1) (vp_nar .byte ((v9 >>> ((nI 16) &&& 31)).toInt8.toInt32))) (trayed + 2) (vp_nar .byte ((v9 >>> ((nI 8) &&& 31)).toInt8.toInt32)))))]) B h kX6 0 rfl 1 (Nat.le_of_ble_eq_true rfl) q728 rfl rfl rfl (Nat.le_of_ble_eq_true rfl) rfl dX6_word_33 (fun H locs h => ?_)
  refine n_iinc (n := 1) (lv' := [(2, .int (nI 3)), (0, .ref b0), (1, .int v9)]) hx hb dX6_word_36 hl (k := 0) rfl rfl (by decide) (by decide) rfl (fun ls hl => ?_)
  refine lv_goto (tgt := 2) hx hb dX6_word_39 (by decide) ?_
  refine lv_iload_n hx hb dX6_word_2 rfl (lv_at hl 0 rfl) ?_
  refine lv_iconst (v := nI 4) hx hb dX6_word_3 (by decide) ?_
  refine n_icmp_ge (tgt := 42) hx hb dX6_word_4 (by decide) (by omega) (by omega) (fun c_4 => absurd c_4 (by omega)) (fun c_4 => ?_)
  refine lv_aload_n hx hb dX6_word_7 rfl (lv_at hl 1 rfl) ?_
  refine ct_get (v := .ref b1) B h.1 kX6 0 rfl 0 (Nat.le_of_ble_eq_true rfl) q727 rfl dX6_word_8 ?_
  refine lv_aload_n hx hb dX6_word_11 rfl (lv_at hl 1 rfl) ?_
  refine ct_get (v := .int (nI (trayed + 3))) B h.1 kX6 0 rfl 1 (Nat.le_of_ble_eq_true rfl) q728 rfl dX6_word_12 ?_
  refine lv_iload_n hx hb dX6_word_15 rfl (lv_at hl 2 rfl) ?_
  refine lv_bipush (v := nI 24) hx hb dX6_word_16 (by decide) ?_
  refine lv_bipush (v := nI 8) hx hb dX6_word_18 (by decide) ?_
  refine lv_iload_n hx hb dX6_word_20 rfl (lv_at hl 0 rfl) ?_
  refine n_imul hx hb dX6_word_21 ?_
  refine W.eq (g2 := F0 m 22 ls [.int (nI 24), .int (nI 24), .int v9, .int (nI (trayed + 3)), .ref b1]) rfl ?_
  refine n_isub hx hb (by omega) dX6_word_22 ?_
  refine W.eq (g2 := F0 m 23 ls [.int (nI 0), .int v9, .int (nI (trayed + 3)), .ref b1]) rfl ?_
  refine lv_ishr hx hb dX6_word_23 ?_
  refine lv_i2b (v := (v9 >>> ((nI 0) &&& 31)).toInt8.toInt32) hx hb dX6_word_24 rfl ?_
  refine ct_bast (ws' := [(b0, .inr (6, [.ref b1, .int (nI (trayed + 3)), .int (nI fed), .int place, .ref b2, .ref b3, .int (nI tcn), .int (nI wby), .ref b4, .int (nI pcn), .ref b5, .ref b7])), (b1, .inl (E.2.1 0, 16000, .inl (upd (upd (upd (upd tray trayed (vp_nar .byte ((v9 >>> ((nI 24) &&& 31)).toInt8.toInt32))) (trayed + 1) (vp_nar .byte ((v9 >>> ((nI 16) &&& 31)).toInt8.toInt32))) (trayed + 2) (vp_nar .byte ((v9 >>> ((nI 8) &&& 31)).toInt8.toInt32))) (trayed + 3) (vp_nar .byte ((v9 >>> ((nI 0) &&& 31)).toInt8.toInt32)))))]) B h 1 rfl (by omega) (by omega) rfl dX6_word_25 (fun H locs h => ?_)
  refine lv_aload_n hx hb dX6_word_26 rfl (lv_at hl 1 rfl) ?_
  refine lv_dup hx hb dX6_word_27 rfl ?_
  refine ct_get (v := .int (nI (trayed + 3))) B h.1 kX6 0 rfl 1 (Nat.le_of_ble_eq_true rfl) q728 rfl dX6_word_28 ?_
  refine lv_iconst (v := nI 1) hx hb dX6_word_31 (by decide) ?_
  refine n_iadd hx hb dX6_word_32 ?_
  refine ct_put (ws' := [(b0, .inr (6, [.ref b1, .int (nI (trayed + 4)), .int (nI fed), .int place, .ref b2, .ref b3, .int (nI tcn), .int (nI wby), .ref b4, .int (nI pcn), .ref b5, .ref b7])), (b1, .inl (E.2.1 0, 16000, .inl (upd (upd (upd (upd tray trayed (vp_nar .byte ((v9 >>> ((nI 24) &&& 31)).toInt8.toInt32))) (trayed + 1) (vp_nar .byte ((v9 >>> ((nI 16) &&& 31)).toInt8.toInt32))) (trayed + 2) (vp_nar .byte ((v9 >>> ((nI 8) &&& 31)).toInt8.toInt32))) (trayed + 3) (vp_nar .byte ((v9 >>> ((nI 0) &&& 31)).toInt8.toInt32)))))]) B h kX6 0 rfl 1 (Nat.le_of_ble_eq_true rfl) q728 rfl rfl rfl (Nat.le_of_ble_eq_true rfl) rfl dX6_word_33 (fun H locs h => ?_)
  refine n_iinc (n := 1) (lv' := [(2, .int (nI 4)), (0, .ref b0), (1, .int v9)]) hx hb dX6_word_36 hl (k := 0) rfl rfl (by decide) (by decide) rfl (fun ls hl => ?_)
  refine lv_goto (tgt := 2) hx hb dX6_word_39 (by decide) ?_
  refine lv_iload_n hx hb dX6_word_2 rfl (lv_at hl 0 rfl) ?_
  refine lv_iconst (v := nI 4) hx hb dX6_word_3 (by decide) ?_
  refine n_icmp_ge (tgt := 42) hx hb dX6_word_4 (by decide) (by omega) (by omega) (fun c_5 => ?_) (fun c_5 => absurd c_5 (by omega))
  have h : Hs E A s.heap ([(b0, .inr (6, [.ref b1, .int (nI (trayed + 4)), .int (nI fed), .int place, .ref b2, .ref b3, .int (nI tcn), .int (nI wby), .ref b4, .int (nI pcn), .ref b5, .ref b7])), (b1, .inl (E.2.1 0, 16000, .inl (fourT tray trayed v9)))]) H locs := h
  exact ct_vret B h.2.2 ⟨rfl, h.1, h.2.1⟩ dX6_word_42
set_option maxHeartbeats 4000000 in
set_option maxRecDepth 100000 in
theorem met_X6_feed (l : Launch) (E : CE) (b0 b1 b2 b3 b4 b5 b7 trayed fed : Nat) (place : Int32) (tcn wby pcn : Nat) (tray : Nat → Int32) (a9 b9 c9 d9 e9 : Int32) (sz : Nat) (hty : trayed ≤ 16000) (hfe : fed ≤ 65536) : Met l yX6_feed (ws_ yX6_feed cX6_feed 6 (some .int)) { frames := 1, cells := 0, slots := 0, locals := 22 } (ctP E [.ref b0, .int a9, .int b9, .int c9, .int d9, .int e9] sz (fun H => va_P E.1 ct_cl ([(b0, .inr (6, [.ref b1, .int (nI trayed), .int (nI fed), .int place, .ref b2, .ref b3, .int (nI tcn), .int (nI wby), .ref b4, .int (nI pcn), .ref b5, .ref b7])), (b1, .inl (E.2.1 0, 16000, .inl tray))]) H ∧ va_D (fun q => E.2.2.1 ≤ q) ([(b0, .inr (6, [.ref b1, .int (nI trayed), .int (nI fed), .int place, .ref b2, .ref b3, .int (nI tcn), .int (nI wby), .ref b4, .int (nI pcn), .ref b5, .ref b7])), (b1, .inl (E.2.1 0, 16000, .inl tray))]))) (ctQ (fun v H => ∃ tr2 : Nat → Int32, ∃ n2 : Nat, ∃ f2 : Nat, ∃ r2 : Int32, v = some (.int r2) ∧ va_P E.1 ct_cl ([(b0, .inr (6, [.ref b1, .int (nI n2), .int (nI f2), .int place, .ref b2, .ref b3, .int (nI tcn), .int (nI wby), .ref b4, .int (nI pcn), .ref b5, .ref b7])), (b1, .inl (E.2.1 0, 16000, .inl tr2))]) H ∧ va_D (va_A ([(b0, .inr (6, [.ref b1, .int (nI trayed), .int (nI fed), .int place, .ref b2, .ref b3, .int (nI tcn), .int (nI wby), .ref b4, .int (nI pcn), .ref b5, .ref b7])), (b1, .inl (E.2.1 0, 16000, .inl tray))]) sz) ([(b0, .inr (6, [.ref b1, .int (nI n2), .int (nI f2), .int place, .ref b2, .ref b3, .int (nI tcn), .int (nI wby), .ref b4, .int (nI pcn), .ref b5, .ref b7])), (b1, .inl (E.2.1 0, 16000, .inl tr2))]) ∧ ((tr2, n2, f2, r2) = (if feedOK trayed fed then (feedT tray trayed a9 b9 c9 d9 e9, trayed + 20, fed + 20, nI (trayed + 20)) else (tray, trayed, fed, -1)))) (va_A ([(b0, .inr (6, [.ref b1, .int (nI trayed), .int (nI fed), .int place, .ref b2, .ref b3, .int (nI tcn), .int (nI wby), .ref b4, .int (nI pcn), .ref b5, .ref b7])), (b1, .inl (E.2.1 0, 16000, .inl tray))]) sz)) 0 0 (va_A ([(b0, .inr (6, [.ref b1, .int (nI trayed), .int (nI fed), .int place, .ref b2, .ref b3, .int (nI tcn), .int (nI wby), .ref b4, .int (nI pcn), .ref b5, .ref b7])), (b1, .inl (E.2.1 0, 16000, .inl tray))]) sz) := by
  refine ct_start (by decide) (Nat.le_of_ble_eq_true rfl) ?_
  intro p e s m below meth c ls B hsz hH hl
  obtain ⟨hP, hD⟩ := hH
  obtain ⟨A, hAe, h, hA, hAn⟩ := ct_enter B.2.2.2.2.2.2.2.2 hsz hP hD
  rw [hAe]
  refine ct_gen h (fun H locs h => ?_)
  have hx := B.1
  have hb := B.2.1
  have hl : lv_has ls 6 [(0, .ref b0), (1, .int a9), (2, .int b9), (3, .int c9), (4, .int d9), (5, .int e9)] := hl
  refine lv_aload_n hx hb dX6_feed_0 rfl (lv_at hl 0 rfl) ?_
  refine ct_get (v := .int (nI trayed)) B h.1 kX6 0 rfl 1 (Nat.le_of_ble_eq_true rfl) q728 rfl dX6_feed_1 ?_
  refine lv_bipush (v := nI 20) hx hb dX6_feed_4 (by decide) ?_
  refine n_iadd hx hb dX6_feed_6 ?_
  refine lv_sipush (v := nI 16000) hx hb dX6_feed_7 (by decide) ?_
  refine n_icmp_gt (tgt := 25) hx hb dX6_feed_10 (by decide) (by omega) (by omega) (fun c_1 => ?_) (fun c_1 => ?_)
  · refine lv_iconst (v := (-1)) hx hb dX6_feed_25 (by decide) ?_
    have h : Hs E A s.heap ([(b0, .inr (6, [.ref b1, .int (nI trayed), .int (nI fed), .int place, .ref b2, .ref b3, .int (nI tcn), .int (nI wby), .ref b4, .int (nI pcn), .ref b5, .ref b7])), (b1, .inl (E.2.1 0, 16000, .inl tray))]) H locs := h
    exact ct_iret (ty := .int) (v := (-1)) B rfl rfl h.2.2 ⟨tray, trayed, fed, (-1), rfl, h.1, h.2.1, by rw [if_neg (by omega)]⟩ dX6_feed_26
  · refine lv_aload_n hx hb dX6_feed_13 rfl (lv_at hl 0 rfl) ?_
    refine ct_get (v := .int (nI fed)) B h.1 kX6 0 rfl 2 (Nat.le_of_ble_eq_true rfl) q729 rfl dX6_feed_14 ?_
    refine lv_bipush (v := nI 20) hx hb dX6_feed_17 (by decide) ?_
    refine n_iadd hx hb dX6_feed_19 ?_
    refine lv_ldc (v := nI 65536) hx hb B.2.2.1 (B.2.2.2.1 _ q768) dX6_feed_20 ?_
    refine n_icmp_le (tgt := 27) hx hb dX6_feed_22 (by decide) (by omega) (by omega) (fun c_2 => ?_) (fun c_2 => ?_)
    · refine lv_aload_n hx hb dX6_feed_27 rfl (lv_at hl 0 rfl) ?_
      refine lv_iload_n hx hb dX6_feed_28 rfl (lv_at hl 1 rfl) ?_
      have h : Hs E A s.heap ([(b0, .inr (6, [.ref b1, .int (nI trayed), .int (nI fed), .int place, .ref b2, .ref b3, .int (nI tcn), .int (nI wby), .ref b4, .int (nI pcn), .ref b5, .ref b7])), (b1, .inl (E.2.1 0, 16000, .inl tray))] ++ ([])) H locs := h
      refine ct_callQ (ct_runV (As := [.int a9]) (rest := []) B (met_X6_word l E b0 b1 b2 b3 b4 b5 b7 trayed fed place tcn wby pcn tray a9 H.size (by omega)) (lw_V q769 q771 qs26 q54 q772) (n := 1) ⟨by decide, by decide, by decide +kernel⟩ rfl ⟨rfl, rfl, (Nat.le_of_ble_eq_true rfl), (Nat.le_of_ble_eq_true rfl), (Nat.le_of_ble_eq_true rfl), (Nat.le_of_ble_eq_true rfl)⟩ h.2.2 hA (ct_recv B h.1 kX6 0 rfl) ⟨(ct_Pl h.1), (ct_Dl (ct_D0 h hA))⟩ hl.1 (Nat.le_of_ble_eq_true rfl) dX6_feed_29) h.2.2 (ct_subL h hAn) (ct_subL h hAn) (fun v H locs hv hz hk hS => ?_)
      obtain ⟨rfl, hP1, hD1⟩ := hv
      have h : Hs E A s.heap ([(b0, .inr (6, [.ref b1, .int (nI (trayed + 4)), .int (nI fed), .int place, .ref b2, .ref b3, .int (nI tcn), .int (nI wby), .ref b4, .int (nI pcn), .ref b5, .ref b7])), (b1, .inl (E.2.1 0, 16000, .inl (fourT tray trayed a9)))] ++ ([])) H locs := ct_frL h hP1 hD1 hk hS hAn
      have h : Hs E A s.heap ([(b0, .inr (6, [.ref b1, .int (nI (trayed + 4)), .int (nI fed), .int place, .ref b2, .ref b3, .int (nI tcn), .int (nI wby), .ref b4, .int (nI pcn), .ref b5, .ref b7])), (b1, .inl (E.2.1 0, 16000, .inl (fourT tray trayed a9)))]) H locs := h
      clear hP1 hD1 hS hz hk
      refine W.eq (g2 := F0 m 32 ls []) rfl ?_
      refine lv_aload_n hx hb dX6_feed_32 rfl (lv_at hl 0 rfl) ?_
      refine lv_iload_n hx hb dX6_feed_33 rfl (lv_at hl 2 rfl) ?_
      have h : Hs E A s.heap ([(b0, .inr (6, [.ref b1, .int (nI (trayed + 4)), .int (nI fed), .int place, .ref b2, .ref b3, .int (nI tcn), .int (nI wby), .ref b4, .int (nI pcn), .ref b5, .ref b7])), (b1, .inl (E.2.1 0, 16000, .inl (fourT tray trayed a9)))] ++ ([])) H locs := h
      refine ct_callQ (ct_runV (As := [.int b9]) (rest := []) B (met_X6_word l E b0 b1 b2 b3 b4 b5 b7 (trayed + 4) fed place tcn wby pcn (fourT tray trayed a9) b9 H.size (by omega)) (lw_V q769 q771 qs26 q54 q772) (n := 1) ⟨by decide, by decide, by decide +kernel⟩ rfl ⟨rfl, rfl, (Nat.le_of_ble_eq_true rfl), (Nat.le_of_ble_eq_true rfl), (Nat.le_of_ble_eq_true rfl), (Nat.le_of_ble_eq_true rfl)⟩ h.2.2 hA (ct_recv B h.1 kX6 0 rfl) ⟨(ct_Pl h.1), (ct_Dl (ct_D0 h hA))⟩ hl.1 (Nat.le_of_ble_eq_true rfl) dX6_feed_34) h.2.2 (ct_subL h hAn) (ct_subL h hAn) (fun v H locs hv hz hk hS => ?_)
      obtain ⟨rfl, hP1, hD1⟩ := hv
      have h : Hs E A s.heap ([(b0, .inr (6, [.ref b1, .int (nI ((trayed + 4) + 4)), .int (nI fed), .int place, .ref b2, .ref b3, .int (nI tcn), .int (nI wby), .ref b4, .int (nI pcn), .ref b5, .ref b7])), (b1, .inl (E.2.1 0, 16000, .inl (fourT (fourT tray trayed a9) (trayed + 4) b9)))] ++ ([])) H locs := ct_frL h hP1 hD1 hk hS hAn
      have h : Hs E A s.heap ([(b0, .inr (6, [.ref b1, .int (nI ((trayed + 4) + 4)), .int (nI fed), .int place, .ref b2, .ref b3, .int (nI tcn), .int (nI wby), .ref b4, .int (nI pcn), .ref b5, .ref b7])), (b1, .inl (E.2.1 0, 16000, .inl (fourT (fourT tray trayed a9) (trayed + 4) b9)))]) H locs := h
      clear hP1 hD1 hS hz hk
      refine W.eq (g2 := F0 m 37 ls []) rfl ?_
      refine lv_aload_n hx hb dX6_feed_37 rfl (lv_at hl 0 rfl) ?_
      refine lv_iload_n hx hb dX6_feed_38 rfl (lv_at hl 3 rfl) ?_
      have h : Hs E A s.heap ([(b0, .inr (6, [.ref b1, .int (nI ((trayed + 4) + 4)), .int (nI fed), .int place, .ref b2, .ref b3, .int (nI tcn), .int (nI wby), .ref b4, .int (nI pcn), .ref b5, .ref b7])), (b1, .inl (E.2.1 0, 16000, .inl (fourT (fourT tray trayed a9) (trayed + 4) b9)))] ++ ([])) H locs := h
      refine ct_callQ (ct_runV (As := [.int c9]) (rest := []) B (met_X6_word l E b0 b1 b2 b3 b4 b5 b7 ((trayed + 4) + 4) fed place tcn wby pcn (fourT (fourT tray trayed a9) (trayed + 4) b9) c9 H.size (by omega)) (lw_V q769 q771 qs26 q54 q772) (n := 1) ⟨by decide, by decide, by decide +kernel⟩ rfl ⟨rfl, rfl, (Nat.le_of_ble_eq_true rfl), (Nat.le_of_ble_eq_true rfl), (Nat.le_of_ble_eq_true rfl), (Nat.le_of_ble_eq_true rfl)⟩ h.2.2 hA (ct_recv B h.1 kX6 0 rfl) ⟨(ct_Pl h.1), (ct_Dl (ct_D0 h hA))⟩ hl.1 (Nat.le_of_ble_eq_true rfl) dX6_feed_39) h.2.2 (ct_subL h hAn) (ct_subL h hAn) (fun v H locs hv hz hk hS => ?_)
      obtain ⟨rfl, hP1, hD1⟩ := hv
      have h : Hs E A s.heap ([(b0, .inr (6, [.ref b1, .int (nI (((trayed + 4) + 4) + 4)), .int (nI fed), .int place, .ref b2, .ref b3, .int (nI tcn), .int (nI wby), .ref b4, .int (nI pcn), .ref b5, .ref b7])), (b1, .inl (E.2.1 0, 16000, .inl (fourT (fourT (fourT tray trayed a9) (trayed + 4) b9) ((trayed + 4) + 4) c9)))] ++ ([])) H locs := ct_frL h hP1 hD1 hk hS hAn
      have h : Hs E A s.heap ([(b0, .inr (6, [.ref b1, .int (nI (((trayed + 4) + 4) + 4)), .int (nI fed), .int place, .ref b2, .ref b3, .int (nI tcn), .int (nI wby), .ref b4, .int (nI pcn), .ref b5, .ref b7])), (b1, .inl (E.2.1 0, 16000, .inl (fourT (fourT (fourT tray trayed a9) (trayed + 4) b9) ((trayed + 4) + 4) c9)))]) H locs := h
      clear hP1 hD1 hS hz hk
      refine W.eq (g2 := F0 m 42 ls []) rfl ?_
      refine lv_aload_n hx hb dX6_feed_42 rfl (lv_at hl 0 rfl) ?_
      refine lv_iload hx hb dX6_feed_43 (lv_at hl 4 rfl) ?_
      have h : Hs E A s.heap ([(b0, .inr (6, [.ref b1, .int (nI (((trayed + 4) + 4) + 4)), .int (nI fed), .int place, .ref b2, .ref b3, .int (nI tcn), .int (nI wby), .ref b4, .int (nI pcn), .ref b5, .ref b7])), (b1, .inl (E.2.1 0, 16000, .inl (fourT (fourT (fourT tray trayed a9) (trayed + 4) b9) ((trayed + 4) + 4) c9)))] ++ ([])) H locs := h
      refine ct_callQ (ct_runV (As := [.int d9]) (rest := []) B (met_X6_word l E b0 b1 b2 b3 b4 b5 b7 (((trayed + 4) + 4) + 4) fed place tcn wby pcn (fourT (fourT (fourT tray trayed a9) (trayed + 4) b9) ((trayed + 4) + 4) c9) d9 H.size (by omega)) (lw_V q769 q771 qs26 q54 q772) (n := 1) ⟨by decide, by decide, by decide +kernel⟩ rfl ⟨rfl, rfl, (Nat.le_of_ble_eq_true rfl), (Nat.le_of_ble_eq_true rfl), (Nat.le_of_ble_eq_true rfl), (Nat.le_of_ble_eq_true rfl)⟩ h.2.2 hA (ct_recv B h.1 kX6 0 rfl) ⟨(ct_Pl h.1), (ct_Dl (ct_D0 h hA))⟩ hl.1 (Nat.le_of_ble_eq_true rfl) dX6_feed_45) h.2.2 (ct_subL h hAn) (ct_subL h hAn) (fun v H locs hv hz hk hS => ?_)
      obtain ⟨rfl, hP1, hD1⟩ := hv
      have h : Hs E A s.heap ([(b0, .inr (6, [.ref b1, .int (nI ((((trayed + 4) + 4) + 4) + 4)), .int (nI fed), .int place, .ref b2, .ref b3, .int (nI tcn), .int (nI wby), .ref b4, .int (nI pcn), .ref b5, .ref b7])), (b1, .inl (E.2.1 0, 16000, .inl (fourT (fourT (fourT (fourT tray trayed a9) (trayed + 4) b9) ((trayed + 4) + 4) c9) (((trayed + 4) + 4) + 4) d9)))] ++ ([])) H locs := ct_frL h hP1 hD1 hk hS hAn
      have h : Hs E A s.heap ([(b0, .inr (6, [.ref b1, .int (nI ((((trayed + 4) + 4) + 4) + 4)), .int (nI fed), .int place, .ref b2, .ref b3, .int (nI tcn), .int (nI wby), .ref b4, .int (nI pcn), .ref b5, .ref b7])), (b1, .inl (E.2.1 0, 16000, .inl (fourT (fourT (fourT (fourT tray trayed a9) (trayed + 4) b9) ((trayed + 4) + 4) c9) (((trayed + 4) + 4) + 4) d9)))]) H locs := h
      clear hP1 hD1 hS hz hk
      refine W.eq (g2 := F0 m 48 ls []) rfl ?_
      refine lv_aload_n hx hb dX6_feed_48 rfl (lv_at hl 0 rfl) ?_
      refine lv_iload hx hb dX6_feed_49 (lv_at hl 5 rfl) ?_
      have h : Hs E A s.heap ([(b0, .inr (6, [.ref b1, .int (nI ((((trayed + 4) + 4) + 4) + 4)), .int (nI fed), .int place, .ref b2, .ref b3, .int (nI tcn), .int (nI wby), .ref b4, .int (nI pcn), .ref b5, .ref b7])), (b1, .inl (E.2.1 0, 16000, .inl (fourT (fourT (fourT (fourT tray trayed a9) (trayed + 4) b9) ((trayed + 4) + 4) c9) (((trayed + 4) + 4) + 4) d9)))] ++ ([])) H locs := h
      refine ct_callQ (ct_runV (As := [.int e9]) (rest := []) B (met_X6_word l E b0 b1 b2 b3 b4 b5 b7 ((((trayed + 4) + 4) + 4) + 4) fed place tcn wby pcn (fourT (fourT (fourT (fourT tray trayed a9) (trayed + 4) b9) ((trayed + 4) + 4) c9) (((trayed + 4) + 4) + 4) d9) e9 H.size (by omega)) (lw_V q769 q771 qs26 q54 q772) (n := 1) ⟨by decide, by decide, by decide +kernel⟩ rfl ⟨rfl, rfl, (Nat.le_of_ble_eq_true rfl), (Nat.le_of_ble_eq_true rfl), (Nat.le_of_ble_eq_true rfl), (Nat.le_of_ble_eq_true rfl)⟩ h.2.2 hA (ct_recv B h.1 kX6 0 rfl) ⟨(ct_Pl h.1), (ct_Dl (ct_D0 h hA))⟩ hl.1 (Nat.le_of_ble_eq_true rfl) dX6_feed_51) h.2.2 (ct_subL h hAn) (ct_subL h hAn) (fun v H locs hv hz hk hS => ?_)
      obtain ⟨rfl, hP1, hD1⟩ := hv
      have h : Hs E A s.heap ([(b0, .inr (6, [.ref b1, .int (nI (((((trayed + 4) + 4) + 4) + 4) + 4)), .int (nI fed), .int place, .ref b2, .ref b3, .int (nI tcn), .int (nI wby), .ref b4, .int (nI pcn), .ref b5, .ref b7])), (b1, .inl (E.2.1 0, 16000, .inl (fourT (fourT (fourT (fourT (fourT tray trayed a9) (trayed + 4) b9) ((trayed + 4) + 4) c9) (((trayed + 4) + 4) + 4) d9) ((((trayed + 4) + 4) + 4) + 4) e9)))] ++ ([])) H locs := ct_frL h hP1 hD1 hk hS hAn
      have h : Hs E A s.heap ([(b0, .inr (6, [.ref b1, .int (nI (((((trayed + 4) + 4) + 4) + 4) + 4)), .int (nI fed), .int place, .ref b2, .ref b3, .int (nI tcn), .int (nI wby), .ref b4, .int (nI pcn), .ref b5, .ref b7])), (b1, .inl (E.2.1 0, 16000, .inl (fourT (fourT (fourT (fourT (fourT tray trayed a9) (trayed + 4) b9) ((trayed + 4) + 4) c9) (((trayed + 4) + 4) + 4) d9) ((((trayed + 4) + 4) + 4) + 4) e9)))]) H locs := h
      clear hP1 hD1 hS hz hk
      refine W.eq (g2 := F0 m 54 ls []) rfl ?_
      refine lv_aload_n hx hb dX6_feed_54 rfl (lv_at hl 0 rfl) ?_
      refine lv_dup hx hb dX6_feed_55 rfl ?_
      refine ct_get (v := .int (nI fed)) B h.1 kX6 0 rfl 2 (Nat.le_of_ble_eq_true rfl) q729 rfl dX6_feed_56 ?_
      refine lv_bipush (v := nI 20) hx hb dX6_feed_59 (by decide) ?_
      refine n_iadd hx hb dX6_feed_61 ?_
      refine ct_put (ws' := [(b0, .inr (6, [.ref b1, .int (nI (((((trayed + 4) + 4) + 4) + 4) + 4)), .int (nI (fed + 20)), .int place, .ref b2, .ref b3, .int (nI tcn), .int (nI wby), .ref b4, .int (nI pcn), .ref b5, .ref b7])), (b1, .inl (E.2.1 0, 16000, .inl (fourT (fourT (fourT (fourT (fourT tray trayed a9) (trayed + 4) b9) ((trayed + 4) + 4) c9) (((trayed + 4) + 4) + 4) d9) ((((trayed + 4) + 4) + 4) + 4) e9)))]) B h kX6 0 rfl 2 (Nat.le_of_ble_eq_true rfl) q729 rfl rfl rfl (Nat.le_of_ble_eq_true rfl) rfl dX6_feed_62 (fun H locs h => ?_)
      refine lv_aload_n hx hb dX6_feed_65 rfl (lv_at hl 0 rfl) ?_
      refine ct_get (v := .int (nI (((((trayed + 4) + 4) + 4) + 4) + 4))) B h.1 kX6 0 rfl 1 (Nat.le_of_ble_eq_true rfl) q728 rfl dX6_feed_66 ?_
      have h : Hs E A s.heap ([(b0, .inr (6, [.ref b1, .int (nI (trayed + 20)), .int (nI (fed + 20)), .int place, .ref b2, .ref b3, .int (nI tcn), .int (nI wby), .ref b4, .int (nI pcn), .ref b5, .ref b7])), (b1, .inl (E.2.1 0, 16000, .inl (feedT tray trayed a9 b9 c9 d9 e9)))]) H locs := h
      exact ct_iret (ty := .int) (v := (nI (((((trayed + 4) + 4) + 4) + 4) + 4))) B rfl rfl h.2.2 ⟨_, _, _, (nI (((((trayed + 4) + 4) + 4) + 4) + 4)), rfl, h.1, h.2.1, by rw [if_pos (by omega)]⟩ dX6_feed_69
    · refine lv_iconst (v := (-1)) hx hb dX6_feed_25 (by decide) ?_
      have h : Hs E A s.heap ([(b0, .inr (6, [.ref b1, .int (nI trayed), .int (nI fed), .int place, .ref b2, .ref b3, .int (nI tcn), .int (nI wby), .ref b4, .int (nI pcn), .ref b5, .ref b7])), (b1, .inl (E.2.1 0, 16000, .inl tray))]) H locs := h
      exact ct_iret (ty := .int) (v := (-1)) B rfl rfl h.2.2 ⟨tray, trayed, fed, (-1), rfl, h.1, h.2.1, by rw [if_neg (by omega)]⟩ dX6_feed_26
set_option maxHeartbeats 4000000 in
set_option maxRecDepth 100000 in
theorem met_X6_end (l : Launch) (E : CE) (b0 b1 b2 b3 b4 b5 b7 trayed fed : Nat) (place : Int32) (tcn wby pcn : Nat) (n9 : Int32) (sz : Nat) (hty : trayed ≤ 16000) : Met l yX6_end (ws_ yX6_end cX6_end 2 (some .int)) { frames := 0, cells := 0, slots := 0, locals := 0 } (ctP E [.ref b0, .int n9] sz (fun H => va_P E.1 ct_cl ([(b0, .inr (6, [.ref b1, .int (nI trayed), .int (nI fed), .int place, .ref b2, .ref b3, .int (nI tcn), .int (nI wby), .ref b4, .int (nI pcn), .ref b5, .ref b7]))]) H ∧ va_D (fun q => E.2.2.1 ≤ q) ([(b0, .inr (6, [.ref b1, .int (nI trayed), .int (nI fed), .int place, .ref b2, .ref b3, .int (nI tcn), .int (nI wby), .ref b4, .int (nI pcn), .ref b5, .ref b7]))]))) (ctQ (fun v H => ∃ n2 : Nat, ∃ r2 : Int32, v = some (.int r2) ∧ va_P E.1 ct_cl ([(b0, .inr (6, [.ref b1, .int (nI n2), .int (nI fed), .int place, .ref b2, .ref b3, .int (nI tcn), .int (nI wby), .ref b4, .int (nI pcn), .ref b5, .ref b7]))]) H ∧ va_D (va_A ([(b0, .inr (6, [.ref b1, .int (nI trayed), .int (nI fed), .int place, .ref b2, .ref b3, .int (nI tcn), .int (nI wby), .ref b4, .int (nI pcn), .ref b5, .ref b7]))]) sz) ([(b0, .inr (6, [.ref b1, .int (nI n2), .int (nI fed), .int place, .ref b2, .ref b3, .int (nI tcn), .int (nI wby), .ref b4, .int (nI pcn), .ref b5, .ref b7]))]) ∧ ((n2, r2) = endS trayed n9)) (va_A ([(b0, .inr (6, [.ref b1, .int (nI trayed), .int (nI fed), .int place, .ref b2, .ref b3, .int (nI tcn), .int (nI wby), .ref b4, .int (nI pcn), .ref b5, .ref b7]))]) sz)) 0 0 (va_A ([(b0, .inr (6, [.ref b1, .int (nI trayed), .int (nI fed), .int place, .ref b2, .ref b3, .int (nI tcn), .int (nI wby), .ref b4, .int (nI pcn), .ref b5, .ref b7]))]) sz) := by
  refine ct_start (by decide) (Nat.le_of_ble_eq_true rfl) ?_
  intro p e s m below meth c ls B hsz hH hl
  obtain ⟨hP, hD⟩ := hH
  obtain ⟨A, hAe, h, hA, hAn⟩ := ct_enter B.2.2.2.2.2.2.2.2 hsz hP hD
  rw [hAe]
  refine ct_gen h (fun H locs h => ?_)
  have hx := B.1
  have hb := B.2.1
  have hl : lv_has ls 2 [(0, .ref b0), (1, .int n9)] := hl
  refine lv_iload_n hx hb dX6_end_0 rfl (lv_at hl 1 rfl) ?_
  refine lv_if_lt (tgt := 12) hx hb dX6_end_1 (by decide) (fun c1 => ?_) (fun c1 => ?_)
  · refine lv_iconst (v := (-1)) hx hb dX6_end_12 (by decide) ?_
    have h : Hs E A s.heap ([(b0, .inr (6, [.ref b1, .int (nI trayed), .int (nI fed), .int place, .ref b2, .ref b3, .int (nI tcn), .int (nI wby), .ref b4, .int (nI pcn), .ref b5, .ref b7]))]) H locs := h
    exact ct_iret (ty := .int) (v := (-1)) B rfl rfl h.2.2 ⟨trayed, (-1), rfl, h.1, h.2.1, by rw [endS, if_neg (by have := Int32.lt_iff_toInt_lt.mp c1; rw [show (0 : Int32).toInt = 0 from rfl] at this; omega)]⟩ dX6_end_13
  · refine lv_iload_n hx hb dX6_end_4 rfl (lv_at hl 1 rfl) ?_
    refine lv_aload_n hx hb dX6_end_5 rfl (lv_at hl 0 rfl) ?_
    refine ct_get (v := .int (nI trayed)) B h.1 kX6 0 rfl 1 (Nat.le_of_ble_eq_true rfl) q728 rfl dX6_end_6 ?_
    refine lv_icmp_le (tgt := 14) hx hb dX6_end_9 (by decide) (fun c2 => ?_) (fun c2 => ?_)
    · obtain ⟨j, hj, rfl⟩ := nI_of2 (n := trayed) (nI_toInt (by omega)) c1 c2
      refine lv_aload_n hx hb dX6_end_14 rfl (lv_at hl 0 rfl) ?_
      refine lv_iload_n hx hb dX6_end_15 rfl (lv_at hl 1 rfl) ?_
      refine ct_put (ws' := [(b0, .inr (6, [.ref b1, .int (nI j), .int (nI fed), .int place, .ref b2, .ref b3, .int (nI tcn), .int (nI wby), .ref b4, .int (nI pcn), .ref b5, .ref b7]))]) B h kX6 0 rfl 1 (Nat.le_of_ble_eq_true rfl) q728 rfl rfl rfl (Nat.le_of_ble_eq_true rfl) rfl dX6_end_16 (fun H locs h => ?_)
      refine lv_iload_n hx hb dX6_end_19 rfl (lv_at hl 1 rfl) ?_
      have h : Hs E A s.heap ([(b0, .inr (6, [.ref b1, .int (nI j), .int (nI fed), .int place, .ref b2, .ref b3, .int (nI tcn), .int (nI wby), .ref b4, .int (nI pcn), .ref b5, .ref b7]))]) H locs := h
      exact ct_iret (ty := .int) (v := (nI j)) B rfl rfl h.2.2 ⟨j, _, rfl, h.1, h.2.1, by rw [endS, nI_toInt (by omega), if_pos ⟨by omega, by omega⟩] <;> rfl⟩ dX6_end_20
    · refine lv_iconst (v := (-1)) hx hb dX6_end_12 (by decide) ?_
      have h : Hs E A s.heap ([(b0, .inr (6, [.ref b1, .int (nI trayed), .int (nI fed), .int place, .ref b2, .ref b3, .int (nI tcn), .int (nI wby), .ref b4, .int (nI pcn), .ref b5, .ref b7]))]) H locs := h
      exact ct_iret (ty := .int) (v := (-1)) B rfl rfl h.2.2 ⟨trayed, (-1), rfl, h.1, h.2.1, by rw [endS, if_neg (fun q9 => c2 (Int32.le_iff_toInt_le.mpr (by rw [nI_toInt (by omega)]; omega)))]⟩ dX6_end_13
def mPk (f : Nat → Int32) (n : Nat) (pk : List Nat) : Prop := n = pk.length ∧ pk.length ≤ 499 ∧ (∀ j, j < pk.length → f j = nI (pk.getD j 0)) ∧ ∀ x ∈ pk, x < 2147483648
theorem mPk_snoc {f : Nat → Int32} {n j : Nat} {pk : List Nat} (h : mPk f n pk) (hn : pk.length ≠ 499) (hj : j < 2147483648) : mPk (upd f n (nI j)) (n + 1) (pk ++ [j]) := by
  obtain ⟨h1, h2, h3, h4⟩ := h
  refine ⟨by rw [List.length_append, h1]; rfl, by rw [List.length_append, List.length_singleton]; omega, fun i hi => ?_, fun x hx => ?_⟩
  · rw [List.length_append, List.length_singleton] at hi
    by_cases e : i = pk.length
    · rw [e, h1, upd_s, gD_r (Nat.le_refl _), Nat.sub_self]; rfl
    · rw [upd_n (by omega), gD_l (by omega)]; exact h3 i (by omega)
  · rcases List.mem_append.mp hx with q | q
    · exact h4 x q
    · rw [List.mem_singleton.mp q]; exact hj
/-- bytes that have been written: of those beyond 30000 only the number is kept -/
def wB (f : Nat → Int32) (n : Nat) (o : List Nat) : Prop := n = o.length ∧ ∀ j, j < n → j < 30000 → f j = nI (o.getD j 0)
def addB (f : Nat → Int32) (n b : Nat) : Nat → Int32 := if n < 30000 then upd f n (nI b) else f
theorem wB_0 {f : Nat → Int32} : wB f 0 [] := ⟨rfl, fun j hj => absurd hj (Nat.not_lt_zero j)⟩
theorem wB_add {f : Nat → Int32} {n b : Nat} {o : List Nat} (h : wB f n o) : wB (addB f n b) (n + 1) (o ++ [b]) := by
  obtain ⟨h1, h2⟩ := h
  refine ⟨by rw [List.length_append, h1]; rfl, fun j hj hj2 => ?_⟩
  unfold addB
  by_cases e : j = n
  · rw [if_pos (by omega), e, upd_s, gD_r (by omega), h1, Nat.sub_self]; rfl
  · rw [gD_l (by omega)]
    split
    · rw [upd_n e]; exact h2 j (by omega) hj2
    · exact h2 j (by omega) hj2
set_option maxHeartbeats 4000000 in
set_option maxRecDepth 100000 in
theorem met_X6_row (l : Launch) (E : CE) (b0 b1 b2 b3 b4 b5 b7 trayed fed : Nat) (place : Int32) (tcn wby pcn : Nat) (pkf : Nat → Int32) (r9 : Int32) (pk : List Nat) (sz : Nat) (hpk : mPk pkf pcn pk) : Met l yX6_row (ws_ yX6_row cX6_row 2 (some .int)) { frames := 0, cells := 0, slots := 0, locals := 0 } (ctP E [.ref b0, .int r9] sz (fun H => va_P E.1 ct_cl ([(b0, .inr (6, [.ref b1, .int (nI trayed), .int (nI fed), .int place, .ref b2, .ref b3, .int (nI tcn), .int (nI wby), .ref b4, .int (nI pcn), .ref b5, .ref b7])), (b4, .inl (E.2.1 1, 499, .inl pkf))]) H ∧ va_D (fun q => E.2.2.1 ≤ q) ([(b0, .inr (6, [.ref b1, .int (nI trayed), .int (nI fed), .int place, .ref b2, .ref b3, .int (nI tcn), .int (nI wby), .ref b4, .int (nI pcn), .ref b5, .ref b7])), (b4, .inl (E.2.1 1, 499, .inl pkf))]))) (ctQ (fun v H => ∃ f2 : Nat → Int32, ∃ n2 : Nat, ∃ r2 : Int32, ∃ pk2 : List Nat, v = some (.int r2) ∧ va_P E.1 ct_cl ([(b0, .inr (6, [.ref b1, .int (nI trayed), .int (nI fed), .int place, .ref b2, .ref b3, .int (nI tcn), .int (nI wby), .ref b4, .int (nI n2), .ref b5, .ref b7])), (b4, .inl (E.2.1 1, 499, .inl f2))]) H ∧ va_D (va_A ([(b0, .inr (6, [.ref b1, .int (nI trayed), .int (nI fed), .int place, .ref b2, .ref b3, .int (nI tcn), .int (nI wby), .ref b4, .int (nI pcn), .ref b5, .ref b7])), (b4, .inl (E.2.1 1, 499, .inl pkf))]) sz) ([(b0, .inr (6, [.ref b1, .int (nI trayed), .int (nI fed), .int place, .ref b2, .ref b3, .int (nI tcn), .int (nI wby), .ref b4, .int (nI n2), .ref b5, .ref b7])), (b4, .inl (E.2.1 1, 499, .inl f2))]) ∧ ((pk2, r2) = rowS pk r9) ∧ (mPk f2 n2 pk2)) (va_A ([(b0, .inr (6, [.ref b1, .int (nI trayed), .int (nI fed), .int place, .ref b2, .ref b3, .int (nI tcn), .int (nI wby), .ref b4, .int (nI pcn), .ref b5, .ref b7])), (b4, .inl (E.2.1 1, 499, .inl pkf))]) sz)) 0 0 (va_A ([(b0, .inr (6, [.ref b1, .int (nI trayed), .int (nI fed), .int place, .ref b2, .ref b3, .int (nI tcn), .int (nI wby), .ref b4, .int (nI pcn), .ref b5, .ref b7])), (b4, .inl (E.2.1 1, 499, .inl pkf))]) sz) := by
  refine ct_start (by decide) (Nat.le_of_ble_eq_true rfl) ?_
  intro p e s m below meth c ls B hsz hH hl
  obtain ⟨hP, hD⟩ := hH
  obtain ⟨A, hAe, h, hA, hAn⟩ := ct_enter B.2.2.2.2.2.2.2.2 hsz hP hD
  rw [hAe]
  refine ct_gen h (fun H locs h => ?_)
  have hx := B.1
  have hb := B.2.1
  have hl : lv_has ls 2 [(0, .ref b0), (1, .int r9)] := hl
  have hp1 := hpk.1
  have hp2 := hpk.2.1
  refine lv_iload_n hx hb dX6_row_0 rfl (lv_at hl 1 rfl) ?_
  refine lv_if_lt (tgt := 16) hx hb dX6_row_1 (by decide) (fun c1 => ?_) (fun c1 => ?_)
  · refine lv_iconst (v := (-1)) hx hb dX6_row_16 (by decide) ?_
    have h : Hs E A s.heap ([(b0, .inr (6, [.ref b1, .int (nI trayed), .int (nI fed), .int place, .ref b2, .ref b3, .int (nI tcn), .int (nI wby), .ref b4, .int (nI pcn), .ref b5, .ref b7])), (b4, .inl (E.2.1 1, 499, .inl pkf))]) H locs := h
    exact ct_iret (ty := .int) (v := (-1)) B rfl rfl h.2.2 ⟨pkf, pcn, (-1), pk, rfl, h.1, h.2.1, by rw [rowS, if_neg (fun q9 => by have := Int32.lt_iff_toInt_lt.mp c1; rw [show (0 : Int32).toInt = 0 from rfl] at this; omega)], hpk⟩ dX6_row_17
  · refine lv_aload_n hx hb dX6_row_4 rfl (lv_at hl 0 rfl) ?_
    refine ct_get (v := .int (nI pcn)) B h.1 kX6 0 rfl 9 (Nat.le_of_ble_eq_true rfl) q736 rfl dX6_row_5 ?_
    refine lv_aload_n hx hb dX6_row_8 rfl (lv_at hl 0 rfl) ?_
    refine ct_get (v := .ref b4) B h.1 kX6 0 rfl 8 (Nat.le_of_ble_eq_true rfl) q735 rfl dX6_row_9 ?_
    refine ct_alen B h.1 1 1 rfl rfl dX6_row_12 ?_
    refine n_icmp_ne (tgt := 18) hx hb dX6_row_13 (by decide) (by omega) (by omega) (fun c499 => ?_) (fun c499 => ?_)
    · obtain ⟨j, hj, rfl⟩ := nI_of c1
      refine lv_aload_n hx hb dX6_row_18 rfl (lv_at hl 0 rfl) ?_
      refine ct_get (v := .ref b4) B h.1 kX6 0 rfl 8 (Nat.le_of_ble_eq_true rfl) q735 rfl dX6_row_19 ?_
      refine lv_aload_n hx hb dX6_row_22 rfl (lv_at hl 0 rfl) ?_
      refine ct_get (v := .int (nI pcn)) B h.1 kX6 0 rfl 9 (Nat.le_of_ble_eq_true rfl) q736 rfl dX6_row_23 ?_
      refine lv_iload_n hx hb dX6_row_26 rfl (lv_at hl 1 rfl) ?_
      refine ct_iast (ws' := [(b0, .inr (6, [.ref b1, .int (nI trayed), .int (nI fed), .int place, .ref b2, .ref b3, .int (nI tcn), .int (nI wby), .ref b4, .int (nI pcn), .ref b5, .ref b7])), (b4, .inl (E.2.1 1, 499, .inl (upd pkf pcn (nI j))))]) B h 1 rfl (by omega) (by omega) rfl dX6_row_27 (fun H locs h => ?_)
      refine lv_aload_n hx hb dX6_row_28 rfl (lv_at hl 0 rfl) ?_
      refine lv_dup hx hb dX6_row_29 rfl ?_
      refine ct_get (v := .int (nI pcn)) B h.1 kX6 0 rfl 9 (Nat.le_of_ble_eq_true rfl) q736 rfl dX6_row_30 ?_
      refine lv_iconst (v := nI 1) hx hb dX6_row_33 (by decide) ?_
      refine n_iadd hx hb dX6_row_34 ?_
      refine ct_put (ws' := [(b0, .inr (6, [.ref b1, .int (nI trayed), .int (nI fed), .int place, .ref b2, .ref b3, .int (nI tcn), .int (nI wby), .ref b4, .int (nI (pcn + 1)), .ref b5, .ref b7])), (b4, .inl (E.2.1 1, 499, .inl (upd pkf pcn (nI j))))]) B h kX6 0 rfl 9 (Nat.le_of_ble_eq_true rfl) q736 rfl rfl rfl (Nat.le_of_ble_eq_true rfl) rfl dX6_row_35 (fun H locs h => ?_)
      refine lv_aload_n hx hb dX6_row_38 rfl (lv_at hl 0 rfl) ?_
      refine ct_get (v := .int (nI (pcn + 1))) B h.1 kX6 0 rfl 9 (Nat.le_of_ble_eq_true rfl) q736 rfl dX6_row_39 ?_
      have h : Hs E A s.heap ([(b0, .inr (6, [.ref b1, .int (nI trayed), .int (nI fed), .int place, .ref b2, .ref b3, .int (nI tcn), .int (nI wby), .ref b4, .int (nI (pcn + 1)), .ref b5, .ref b7])), (b4, .inl (E.2.1 1, 499, .inl (upd pkf pcn (nI j))))]) H locs := h
      exact ct_iret (ty := .int) (v := (nI (pcn + 1))) B rfl rfl h.2.2 ⟨(upd pkf pcn (nI j)), (pcn + 1), _, (pk ++ [j]), rfl, h.1, h.2.1, by rw [rowS, nI_toInt (by omega), if_pos ⟨by omega, by omega⟩, hp1] <;> rfl, mPk_snoc hpk (by omega) (by omega)⟩ dX6_row_42
    · refine lv_iconst (v := (-1)) hx hb dX6_row_16 (by decide) ?_
      have h : Hs E A s.heap ([(b0, .inr (6, [.ref b1, .int (nI trayed), .int (nI fed), .int place, .ref b2, .ref b3, .int (nI tcn), .int (nI wby), .ref b4, .int (nI pcn), .ref b5, .ref b7])), (b4, .inl (E.2.1 1, 499, .inl pkf))]) H locs := h
      exact ct_iret (ty := .int) (v := (-1)) B rfl rfl h.2.2 ⟨pkf, pcn, (-1), pk, rfl, h.1, h.2.1, by rw [rowS, if_neg (by omega)], hpk⟩ dX6_row_17
set_option maxHeartbeats 4000000 in
set_option maxRecDepth 100000 in
theorem met_X6_out (l : Launch) (E : CE) (b0 b1 b2 b3 b4 b5 b7 trayed fed : Nat) (place : Int32) (tcn wby pcn : Nat) (b6 on : Nat) (ob : Nat → Int32) (i9 : Int32) (o : List Nat) (sz : Nat) (ho : outX ob on o) : Met l yX6_out (ws_ yX6_out cX6_out 2 (some .int)) { frames := 0, cells := 0, slots := 0, locals := 0 } (ctP E [.ref b0, .int i9] sz (fun H => va_P E.1 ct_cl [(b0, .inr (6, [.ref b1, .int (nI trayed), .int (nI fed), .int place, .ref b2, .ref b3, .int (nI tcn), .int (nI wby), .ref b4, .int (nI pcn), .ref b5, .ref b7])), (b5, .inr (8, [.ref b6, .int (nI on)])), (b6, .inl (E.2.1 0, 30000, .inl ob))] H)) (ctR (fun v => v = some (.int (outS o i9)))) 0 0 (fun _ => False) := by
  refine ct_start (by decide) (Nat.le_of_ble_eq_true rfl) ?_
  intro p e s m below meth c ls B hsz hH hl
  have hC := hH
  have hx := B.1
  have hb := B.2.1
  have hl : lv_has ls 2 [(0, .ref b0), (1, .int i9)] := hl
  have ho1 := ho.1
  have ho2 := ho.2.1
  refine lv_iload_n hx hb dX6_out_0 rfl (lv_at hl 1 rfl) ?_
  refine lv_if_lt (tgt := 31) hx hb dX6_out_1 (by decide) (fun c1 => ?_) (fun c1 => ?_)
  · refine lv_iconst (v := (-1)) hx hb dX6_out_31 (by decide) ?_
    exact ct_iretR (ty := .int) (v := (-1)) B rfl rfl (by rw [outS, ← ho1, idx_neg c1]) dX6_out_32
  · refine lv_iload_n hx hb dX6_out_4 rfl (lv_at hl 1 rfl) ?_
    refine lv_aload_n hx hb dX6_out_5 rfl (lv_at hl 0 rfl) ?_
    refine ct_get (v := .ref b5) B hC kX6 0 rfl 10 (Nat.le_of_ble_eq_true rfl) q737 rfl dX6_out_6 ?_
    refine ct_get (v := .int (nI on)) B hC kX8 1 rfl 1 (Nat.le_of_ble_eq_true rfl) q721 rfl dX6_out_9 ?_
    refine lv_icmp_ge (tgt := 31) hx hb dX6_out_12 (by decide) (fun c2 => ?_) (fun c2 => ?_)
    · refine lv_iconst (v := (-1)) hx hb dX6_out_31 (by decide) ?_
      exact ct_iretR (ty := .int) (v := (-1)) B rfl rfl (by rw [outS, ← ho1, idx_big (by omega) c2]) dX6_out_32
    · obtain ⟨j, hj, rfl⟩ := idx_of (by omega) c1 c2
      refine lv_aload_n hx hb dX6_out_15 rfl (lv_at hl 0 rfl) ?_
      refine ct_get (v := .ref b5) B hC kX6 0 rfl 10 (Nat.le_of_ble_eq_true rfl) q737 rfl dX6_out_16 ?_
      refine ct_get (v := .ref b6) B hC kX8 1 rfl 0 (Nat.le_of_ble_eq_true rfl) q719 rfl dX6_out_19 ?_
      refine lv_iload_n hx hb dX6_out_22 rfl (lv_at hl 1 rfl) ?_
      refine ct_bald (f := ob) B hC 2 rfl (by omega) (by omega) dX6_out_23 ?_
      refine W.eq (g2 := F0 m 24 ls [.int (nI (o.getD j 0))]) (by rw [(ho.2.2.1 j hj)]) ?_
      refine lv_sipush (v := nI 255) hx hb dX6_out_24 (by decide) ?_
      refine lv_iand hx hb dX6_out_27 ?_
      refine W.eq (g2 := F0 m 28 ls [.int (nI (o.getD j 0))]) (by rw [(c_and255 (tx_lt ho.2.2.2 j))]) ?_
      refine lv_goto (tgt := 32) hx hb dX6_out_28 (by decide) ?_
      exact ct_iretR (ty := .int) (v := (nI (o.getD j 0))) B rfl rfl (by rw [outS, ← ho1, idx_in (by omega) hj]) dX6_out_32
set_option maxHeartbeats 4000000 in
set_option maxRecDepth 100000 in
theorem met_X8_init (l : Launch) (E : CE) (w0 : Nat) (sz : Nat)  : Met l yX8_init (ws_ yX8_init cX8_init 1 none) { frames := 1, cells := 1, slots := 30000, locals := 20 } (ctP E [.ref w0] sz (fun H => va_P E.1 ct_cl ([(w0, .inr (8, [.null, .int 0]))]) H ∧ va_D (fun q => E.2.2.1 ≤ q) ([(w0, .inr (8, [.null, .int 0]))]))) (ctQ (fun v H => ∃ q2 : Nat, v = none ∧ va_P E.1 ct_cl ([(w0, .inr (8, [.ref q2, .int (nI 0)])), (q2, .inl (E.2.1 0, 30000, .inl (fun _ => 0)))]) H ∧ va_D (va_A ([(w0, .inr (8, [.null, .int 0]))]) sz) ([(w0, .inr (8, [.ref q2, .int (nI 0)])), (q2, .inl (E.2.1 0, 30000, .inl (fun _ => 0)))])) (va_A ([(w0, .inr (8, [.null, .int 0]))]) sz)) 1 30000 (va_A ([(w0, .inr (8, [.null, .int 0]))]) sz) := by
  refine ct_start (by decide) (Nat.le_of_ble_eq_true rfl) ?_
  intro p e s m below meth c ls B hsz hH hl
  obtain ⟨hP, hD⟩ := hH
  obtain ⟨A, hAe, h, hA, hAn⟩ := ct_enter B.2.2.2.2.2.2.2.2 hsz hP hD
  rw [hAe]
  refine ct_gen h (fun H locs h => ?_)
  have hx := B.1
  have hb := B.2.1
  have hl : lv_has ls 1 [(0, .ref w0)] := hl
  refine lv_aload_n hx hb dX8_init_0 rfl (lv_at hl 0 rfl) ?_
  refine ct_objInit B q717 q87 q88 hl.1 dX8_init_1 (Nat.le_of_ble_eq_true rfl) (Nat.le_of_ble_eq_true rfl) ?_
  refine lv_aload_n hx hb dX8_init_4 rfl (lv_at hl 0 rfl) ?_
  refine lv_sipush (v := nI 30000) hx hb dX8_init_5 (by decide) ?_
  refine ct_newa (atype := .byte) (ty := .byte) (a0 := (30000, .inl (fun _ => 0))) B h hAn 0 rfl q156 rfl rfl (fun _ => rfl) (by omega) (by simp only [componentBytes]; omega) (Nat.le_of_ble_eq_true rfl) (by dsimp only; omega) dX8_init_8 (fun q1 H h hq1 => ?_)
  have h : Hs E A s.heap ([(q1, .inl (E.2.1 0, 30000, .inl (fun _ => 0)))] ++ ([(w0, .inr (8, [.null, .int 0]))])) H locs := ct_Hc h
  have h : Hs E A s.heap ([(q1, .inl (E.2.1 0, 30000, .inl (fun _ => 0))), (w0, .inr (8, [.null, .int 0]))]) H locs := h
  refine ct_putF (ws' := [(q1, .inl (E.2.1 0, 30000, .inl (fun _ => 0))), (w0, .inr (8, [.ref q1, .int 0]))]) B h kX8 1 rfl 0 (Nat.le_of_ble_eq_true rfl) q718 rfl rfl rfl rfl (Nat.le_of_ble_eq_true rfl) rfl dX8_init_10 (fun H locs h => ?_)
  have h : Hs E A s.heap ([(w0, .inr (8, [.ref q1, .int (nI 0)])), (q1, .inl (E.2.1 0, 30000, .inl (fun _ => 0)))]) H locs := ct_part0 h [1, 0] rfl rfl
  refine W.widen (k := 1) (n := 30000) (by first | omega | (dsimp only; omega)) (by first | omega | (dsimp only; omega)) ?_
  exact ct_vret B h.2.2 ⟨q1, rfl, h.1, h.2.1⟩ dX8_init_13
set_option maxHeartbeats 4000000 in
set_option maxRecDepth 100000 in
theorem met_X8_add (l : Launch) (E : CE) (w0 w1 n9 : Nat) (f : Nat → Int32) (b9 : Nat) (sz : Nat) (hb9 : b9 < 128) (hn : n9 ≤ 1000000000) : Met l yX8_add (ws_ yX8_add cX8_add 2 none) { frames := 0, cells := 0, slots := 0, locals := 0 } (ctP E [.ref w0, .int (nI b9)] sz (fun H => va_P E.1 ct_cl ([(w0, .inr (8, [.ref w1, .int (nI n9)])), (w1, .inl (E.2.1 0, 30000, .inl f))]) H ∧ va_D (fun q => E.2.2.1 ≤ q) ([(w0, .inr (8, [.ref w1, .int (nI n9)])), (w1, .inl (E.2.1 0, 30000, .inl f))]))) (ctQ (fun v H => ∃ f2 : Nat → Int32, v = none ∧ va_P E.1 ct_cl ([(w0, .inr (8, [.ref w1, .int (nI (n9 + 1))])), (w1, .inl (E.2.1 0, 30000, .inl f2))]) H ∧ va_D (va_A ([(w0, .inr (8, [.ref w1, .int (nI n9)])), (w1, .inl (E.2.1 0, 30000, .inl f))]) sz) ([(w0, .inr (8, [.ref w1, .int (nI (n9 + 1))])), (w1, .inl (E.2.1 0, 30000, .inl f2))]) ∧ (f2 = addB f n9 b9)) (va_A ([(w0, .inr (8, [.ref w1, .int (nI n9)])), (w1, .inl (E.2.1 0, 30000, .inl f))]) sz)) 0 0 (va_A ([(w0, .inr (8, [.ref w1, .int (nI n9)])), (w1, .inl (E.2.1 0, 30000, .inl f))]) sz) := by
  refine ct_start (by decide) (Nat.le_of_ble_eq_true rfl) ?_
  intro p e s m below meth c ls B hsz hH hl
  obtain ⟨hP, hD⟩ := hH
  obtain ⟨A, hAe, h, hA, hAn⟩ := ct_enter B.2.2.2.2.2.2.2.2 hsz hP hD
  rw [hAe]
  refine ct_gen h (fun H locs h => ?_)
  have hx := B.1
  have hb := B.2.1
  have hl : lv_has ls 2 [(0, .ref w0), (1, .int (nI b9))] := hl
  refine lv_aload_n hx hb dX8_add_0 rfl (lv_at hl 0 rfl) ?_
  refine ct_get (v := .int (nI n9)) B h.1 kX8 0 rfl 1 (Nat.le_of_ble_eq_true rfl) q720 rfl dX8_add_1 ?_
  refine lv_sipush (v := nI 30000) hx hb dX8_add_4 (by decide) ?_
  refine n_icmp_ge (tgt := 21) hx hb dX8_add_7 (by decide) (by omega) (by omega) (fun c3 => ?_) (fun c3 => ?_)
  · refine lv_aload_n hx hb dX8_add_21 rfl (lv_at hl 0 rfl) ?_
    refine lv_dup hx hb dX8_add_22 rfl ?_
    refine ct_get (v := .int (nI n9)) B h.1 kX8 0 rfl 1 (Nat.le_of_ble_eq_true rfl) q720 rfl dX8_add_23 ?_
    refine lv_iconst (v := nI 1) hx hb dX8_add_26 (by decide) ?_
    refine n_iadd hx hb dX8_add_27 ?_
    refine ct_put (ws' := [(w0, .inr (8, [.ref w1, .int (nI (n9 + 1))])), (w1, .inl (E.2.1 0, 30000, .inl f))]) B h kX8 0 rfl 1 (Nat.le_of_ble_eq_true rfl) q720 rfl rfl rfl (Nat.le_of_ble_eq_true rfl) rfl dX8_add_28 (fun H locs h => ?_)
    have h : Hs E A s.heap ([(w0, .inr (8, [.ref w1, .int (nI (n9 + 1))])), (w1, .inl (E.2.1 0, 30000, .inl f))]) H locs := h
    exact ct_vret B h.2.2 ⟨f, rfl, h.1, h.2.1, by unfold addB; rw [if_neg (by omega)]⟩ dX8_add_31
  · refine lv_aload_n hx hb dX8_add_10 rfl (lv_at hl 0 rfl) ?_
    refine ct_get (v := .ref w1) B h.1 kX8 0 rfl 0 (Nat.le_of_ble_eq_true rfl) q718 rfl dX8_add_11 ?_
    refine lv_aload_n hx hb dX8_add_14 rfl (lv_at hl 0 rfl) ?_
    refine ct_get (v := .int (nI n9)) B h.1 kX8 0 rfl 1 (Nat.le_of_ble_eq_true rfl) q720 rfl dX8_add_15 ?_
    refine lv_iload_n hx hb dX8_add_18 rfl (lv_at hl 1 rfl) ?_
    refine lv_i2b (v := (nI b9)) hx hb dX8_add_19 (c_byte128 _ hb9) ?_
    refine ct_bast (ws' := [(w0, .inr (8, [.ref w1, .int (nI n9)])), (w1, .inl (E.2.1 0, 30000, .inl (upd f n9 (nI b9))))]) B h 1 rfl (by omega) (by omega) (congrArg (fun z9 => ([(w0, .inr (8, [.ref w1, .int (nI n9)])), (w1, .inl (E.2.1 0, 30000, .inl z9))] : va_W)) ((by rw [vp_b hb9] : upd f n9 (vp_nar .byte (nI b9)) = upd f n9 (nI b9)))) dX8_add_20 (fun H locs h => ?_)
    refine lv_aload_n hx hb dX8_add_21 rfl (lv_at hl 0 rfl) ?_
    refine lv_dup hx hb dX8_add_22 rfl ?_
    refine ct_get (v := .int (nI n9)) B h.1 kX8 0 rfl 1 (Nat.le_of_ble_eq_true rfl) q720 rfl dX8_add_23 ?_
    refine lv_iconst (v := nI 1) hx hb dX8_add_26 (by decide) ?_
    refine n_iadd hx hb dX8_add_27 ?_
    refine ct_put (ws' := [(w0, .inr (8, [.ref w1, .int (nI (n9 + 1))])), (w1, .inl (E.2.1 0, 30000, .inl (upd f n9 (nI b9))))]) B h kX8 0 rfl 1 (Nat.le_of_ble_eq_true rfl) q720 rfl rfl rfl (Nat.le_of_ble_eq_true rfl) rfl dX8_add_28 (fun H locs h => ?_)
    have h : Hs E A s.heap ([(w0, .inr (8, [.ref w1, .int (nI (n9 + 1))])), (w1, .inl (E.2.1 0, 30000, .inl (upd f n9 (nI b9))))]) H locs := h
    exact ct_vret B h.2.2 ⟨(upd f n9 (nI b9)), rfl, h.1, h.2.1, by unfold addB; rw [if_pos (by omega)]⟩ dX8_add_31
set_option maxHeartbeats 4000000 in
set_option maxRecDepth 100000 in
theorem met_X6_told (l : Launch) (E : CE) (b0 b1 b2 b3 b4 b5 b7 trayed fed : Nat) (place : Int32) (tcn wby pcn : Nat) (b6 on b8 dn : Nat) (sz : Nat) (hdn : dn ≤ 1000000000) : Met l yX6_told (ws_ yX6_told cX6_told 2 (some .int)) { frames := 0, cells := 0, slots := 0, locals := 0 } (ctP E [.ref b0] sz (fun H => va_P E.1 ct_cl ([(b0, .inr (6, [.ref b1, .int (nI trayed), .int (nI fed), .int place, .ref b2, .ref b3, .int (nI tcn), .int (nI wby), .ref b4, .int (nI pcn), .ref b5, .ref b7])), (b5, .inr (8, [.ref b6, .int (nI on)])), (b7, .inr (8, [.ref b8, .int (nI dn)]))]) H ∧ va_D (fun q => E.2.2.1 ≤ q) ([(b0, .inr (6, [.ref b1, .int (nI trayed), .int (nI fed), .int place, .ref b2, .ref b3, .int (nI tcn), .int (nI wby), .ref b4, .int (nI pcn), .ref b5, .ref b7])), (b5, .inr (8, [.ref b6, .int (nI on)])), (b7, .inr (8, [.ref b8, .int (nI dn)]))]))) (ctQ (fun v H => ∃ u2 : Nat, ∃ v2 : Nat, v = some (.int (if dn ≤ 30000 then nI dn else (-12))) ∧ va_P E.1 ct_cl ([(b0, .inr (6, [.ref b1, .int (nI trayed), .int (nI fed), .int place, .ref b2, .ref b3, .int (nI tcn), .int (nI wby), .ref b4, .int (nI pcn), .ref u2, .ref v2])), (b5, .inr (8, [.ref b6, .int (nI on)])), (b7, .inr (8, [.ref b8, .int (nI dn)]))]) H ∧ va_D (va_A ([(b0, .inr (6, [.ref b1, .int (nI trayed), .int (nI fed), .int place, .ref b2, .ref b3, .int (nI tcn), .int (nI wby), .ref b4, .int (nI pcn), .ref b5, .ref b7])), (b5, .inr (8, [.ref b6, .int (nI on)])), (b7, .inr (8, [.ref b8, .int (nI dn)]))]) sz) ([(b0, .inr (6, [.ref b1, .int (nI trayed), .int (nI fed), .int place, .ref b2, .ref b3, .int (nI tcn), .int (nI wby), .ref b4, .int (nI pcn), .ref u2, .ref v2])), (b5, .inr (8, [.ref b6, .int (nI on)])), (b7, .inr (8, [.ref b8, .int (nI dn)]))]) ∧ ((30000 < dn ∧ u2 = b5 ∧ v2 = b7) ∨ (dn ≤ 30000 ∧ u2 = b7 ∧ v2 = b5))) (va_A ([(b0, .inr (6, [.ref b1, .int (nI trayed), .int (nI fed), .int place, .ref b2, .ref b3, .int (nI tcn), .int (nI wby), .ref b4, .int (nI pcn), .ref b5, .ref b7])), (b5, .inr (8, [.ref b6, .int (nI on)])), (b7, .inr (8, [.ref b8, .int (nI dn)]))]) sz)) 0 0 (va_A ([(b0, .inr (6, [.ref b1, .int (nI trayed), .int (nI fed), .int place, .ref b2, .ref b3, .int (nI tcn), .int (nI wby), .ref b4, .int (nI pcn), .ref b5, .ref b7])), (b5, .inr (8, [.ref b6, .int (nI on)])), (b7, .inr (8, [.ref b8, .int (nI dn)]))]) sz) := by
  refine ct_start (by decide) (Nat.le_of_ble_eq_true rfl) ?_
  intro p e s m below meth c ls B hsz hH hl
  obtain ⟨hP, hD⟩ := hH
  obtain ⟨A, hAe, h, hA, hAn⟩ := ct_enter B.2.2.2.2.2.2.2.2 hsz hP hD
  rw [hAe]
  refine ct_gen h (fun H locs h => ?_)
  have hx := B.1
  have hb := B.2.1
  have hl : lv_has ls 2 [(0, .ref b0)] := hl
  refine lv_aload_n hx hb dX6_told_0 rfl (lv_at hl 0 rfl) ?_
  refine ct_get (v := .ref b7) B h.1 kX6 0 rfl 11 (Nat.le_of_ble_eq_true rfl) q738 rfl dX6_told_1 ?_
  refine ct_get (v := .int (nI dn)) B h.1 kX8 2 rfl 1 (Nat.le_of_ble_eq_true rfl) q721 rfl dX6_told_4 ?_
  refine lv_sipush (v := nI 30000) hx hb dX6_told_7 (by decide) ?_
  refine n_icmp_le (tgt := 16) hx hb dX6_told_10 (by decide) (by omega) (by omega) (fun c3 => ?_) (fun c3 => ?_)
  · refine lv_aload_n hx hb dX6_told_16 rfl (lv_at hl 0 rfl) ?_
    refine ct_get (v := .ref b5) B h.1 kX6 0 rfl 10 (Nat.le_of_ble_eq_true rfl) q737 rfl dX6_told_17 ?_
    refine lv_astore_n (lv' := [(1, .ref b5), (0, .ref b0)]) hx hb dX6_told_20 rfl hl (by decide) rfl (fun ls hl => ?_)
    refine lv_aload_n hx hb dX6_told_21 rfl (lv_at hl 1 rfl) ?_
    refine lv_aload_n hx hb dX6_told_22 rfl (lv_at hl 1 rfl) ?_
    refine ct_get (v := .ref b7) B h.1 kX6 0 rfl 11 (Nat.le_of_ble_eq_true rfl) q738 rfl dX6_told_23 ?_
    refine ct_put (ws' := [(b0, .inr (6, [.ref b1, .int (nI trayed), .int (nI fed), .int place, .ref b2, .ref b3, .int (nI tcn), .int (nI wby), .ref b4, .int (nI pcn), .ref b7, .ref b7])), (b5, .inr (8, [.ref b6, .int (nI on)])), (b7, .inr (8, [.ref b8, .int (nI dn)]))]) B h kX6 0 rfl 10 (Nat.le_of_ble_eq_true rfl) q737 rfl rfl rfl (Nat.le_of_ble_eq_true rfl) rfl dX6_told_26 (fun H locs h => ?_)
    refine lv_aload_n hx hb dX6_told_29 rfl (lv_at hl 1 rfl) ?_
    refine lv_aload_n hx hb dX6_told_30 rfl (lv_at hl 0 rfl) ?_
    refine ct_put (ws' := [(b0, .inr (6, [.ref b1, .int (nI trayed), .int (nI fed), .int place, .ref b2, .ref b3, .int (nI tcn), .int (nI wby), .ref b4, .int (nI pcn), .ref b7, .ref b5])), (b5, .inr (8, [.ref b6, .int (nI on)])), (b7, .inr (8, [.ref b8, .int (nI dn)]))]) B h kX6 0 rfl 11 (Nat.le_of_ble_eq_true rfl) q738 rfl rfl rfl (Nat.le_of_ble_eq_true rfl) rfl dX6_told_31 (fun H locs h => ?_)
    refine lv_aload_n hx hb dX6_told_34 rfl (lv_at hl 1 rfl) ?_
    refine ct_get (v := .ref b7) B h.1 kX6 0 rfl 10 (Nat.le_of_ble_eq_true rfl) q737 rfl dX6_told_35 ?_
    refine ct_get (v := .int (nI dn)) B h.1 kX8 2 rfl 1 (Nat.le_of_ble_eq_true rfl) q721 rfl dX6_told_38 ?_
    have h : Hs E A s.heap ([(b0, .inr (6, [.ref b1, .int (nI trayed), .int (nI fed), .int place, .ref b2, .ref b3, .int (nI tcn), .int (nI wby), .ref b4, .int (nI pcn), .ref b7, .ref b5])), (b5, .inr (8, [.ref b6, .int (nI on)])), (b7, .inr (8, [.ref b8, .int (nI dn)]))]) H locs := h
    exact ct_iret (ty := .int) (v := (nI dn)) B rfl rfl h.2.2 ⟨b7, b5, by rw [if_pos (by omega)], h.1, h.2.1, Or.inr ⟨by omega, rfl, rfl⟩⟩ dX6_told_41
  · refine lv_bipush (v := (-12)) hx hb dX6_told_13 (by decide) ?_
    have h : Hs E A s.heap ([(b0, .inr (6, [.ref b1, .int (nI trayed), .int (nI fed), .int place, .ref b2, .ref b3, .int (nI tcn), .int (nI wby), .ref b4, .int (nI pcn), .ref b5, .ref b7])), (b5, .inr (8, [.ref b6, .int (nI on)])), (b7, .inr (8, [.ref b8, .int (nI dn)]))]) H locs := h
    exact ct_iret (ty := .int) (v := (-12)) B rfl rfl h.2.2 ⟨b5, b7, by rw [if_neg (by omega)], h.1, h.2.1, Or.inl ⟨by omega, rfl, rfl⟩⟩ dX6_told_15
set_option maxHeartbeats 4000000 in
set_option maxRecDepth 100000 in
theorem met_X6_isBlankAtEnds (l : Launch) (E : CE) (A0 : Nat → Prop) (a : Nat) (t : List Nat) (sz : Nat)  : Met l yX6_isBlankAtEnds (ws_ yX6_isBlankAtEnds cX6_isBlankAtEnds 1 (some .boolean)) { frames := 4, cells := 0, slots := 0, locals := 85 } (ctP E [.ref a] sz (fun H => ct_S E A0 H a t)) (ctR (fun v => v = some (.int (if 0 < t.length ∧ (t.getD 0 0 = 32 ∨ t.getD (t.length - 1) 0 = 32) then 1 else 0)))) 0 0 (fun _ => False) := by
  refine ct_start (by decide) (Nat.le_of_ble_eq_true rfl) ?_
  intro p e s m below meth c ls B hsz hH hl
  have hS0 := hH
  have hx := B.1
  have hb := B.2.1
  have hl : lv_has ls 1 [(0, .ref a)] := hl
  obtain ⟨v0, hV0⟩ := hS0.val
  have hs0 := hS0.small
  refine lv_aload_n hx hb dX6_isBlankAtEnds_0 rfl (lv_at hl 0 rfl) ?_
  refine ct_callR (ct_runV (As := []) (rest := []) B (met_J4_length l E  _ a t s.heap.size) (lw_V q1189 q466 q467 q58 q468) (n := 0) ⟨by decide, by decide, by decide +kernel⟩ rfl ⟨rfl, rfl, (Nat.le_of_ble_eq_true rfl), (Nat.le_of_ble_eq_true rfl), (Nat.le_of_ble_eq_true rfl), (Nat.le_of_ble_eq_true rfl)⟩ (va_S.rf (A := fun _ => False)) (fun _ h => h.elim) (ct_Srecv B hV0.str) hV0.str hl.1 (Nat.le_of_ble_eq_true rfl) dX6_isBlankAtEnds_1) (fun v hv => ?_)
  subst hv
  refine W.eq (g2 := F0 m 4 ls [.int (nI t.length)]) rfl ?_
  refine n_if_le (tgt := 36) hx hb dX6_isBlankAtEnds_4 (by decide) (by omega) (fun c0 => ?_) (fun c0 => ?_)
  · refine lv_iconst (v := nI 0) hx hb dX6_isBlankAtEnds_36 (by decide) ?_
    exact ct_iretR (ty := .boolean) (v := (nI 0)) B rfl rfl (by rw [if_neg (fun z9 => by have := z9.1; omega)] <;> rfl) dX6_isBlankAtEnds_37
  · refine lv_aload_n hx hb dX6_isBlankAtEnds_7 rfl (lv_at hl 0 rfl) ?_
    refine lv_iconst (v := nI 0) hx hb dX6_isBlankAtEnds_8 (by decide) ?_
    refine ct_callR (ct_runV (As := [.int (nI 0)]) (rest := []) B (met_J4_charAt l E  _ a 0 t s.heap.size c0) (lw_V q1190 q476 q477 q58 q478) (n := 1) ⟨by decide, by decide, by decide +kernel⟩ rfl ⟨rfl, rfl, (Nat.le_of_ble_eq_true rfl), (Nat.le_of_ble_eq_true rfl), (Nat.le_of_ble_eq_true rfl), (Nat.le_of_ble_eq_true rfl)⟩ (va_S.rf (A := fun _ => False)) (fun _ h => h.elim) (ct_Srecv B hV0.str) hV0.str hl.1 (Nat.le_of_ble_eq_true rfl) dX6_isBlankAtEnds_9) (fun v hv => ?_)
    subst hv
    refine W.eq (g2 := F0 m 12 ls [.int (nI (t.getD 0 0))]) rfl ?_
    refine lv_bipush (v := nI 32) hx hb dX6_isBlankAtEnds_12 (by decide) ?_
    refine n_icmp_eq (tgt := 32) hx hb dX6_isBlankAtEnds_14 (by decide) (by have := tx_lt hs0.2 0; omega) (by omega) (fun c1 => ?_) (fun c1 => ?_)
    · refine lv_iconst (v := nI 1) hx hb dX6_isBlankAtEnds_32 (by decide) ?_
      refine lv_goto (tgt := 37) hx hb dX6_isBlankAtEnds_33 (by decide) ?_
      exact ct_iretR (ty := .boolean) (v := (nI 1)) B rfl rfl (by rw [if_pos ⟨c0, Or.inl c1⟩] <;> rfl) dX6_isBlankAtEnds_37
    · refine lv_aload_n hx hb dX6_isBlankAtEnds_17 rfl (lv_at hl 0 rfl) ?_
      refine lv_aload_n hx hb dX6_isBlankAtEnds_18 rfl (lv_at hl 0 rfl) ?_
      refine ct_callR (ct_runV (As := []) (rest := [.ref a]) B (met_J4_length l E  _ a t s.heap.size) (lw_V q1189 q466 q467 q58 q468) (n := 0) ⟨by decide, by decide, by decide +kernel⟩ rfl ⟨rfl, rfl, (Nat.le_of_ble_eq_true rfl), (Nat.le_of_ble_eq_true rfl), (Nat.le_of_ble_eq_true rfl), (Nat.le_of_ble_eq_true rfl)⟩ (va_S.rf (A := fun _ => False)) (fun _ h => h.elim) (ct_Srecv B hV0.str) hV0.str hl.1 (Nat.le_of_ble_eq_true rfl) dX6_isBlankAtEnds_19) (fun v hv => ?_)
      subst hv
      refine W.eq (g2 := F0 m 22 ls [.int (nI t.length), .ref a]) rfl ?_
      refine lv_iconst (v := nI 1) hx hb dX6_isBlankAtEnds_22 (by decide) ?_
      refine n_isub hx hb (by omega) dX6_isBlankAtEnds_23 ?_
      refine ct_callR (ct_runV (As := [.int (nI (t.length - 1))]) (rest := []) B (met_J4_charAt l E  _ a (t.length - 1) t s.heap.size (by omega)) (lw_V q1190 q476 q477 q58 q478) (n := 1) ⟨by decide, by decide, by decide +kernel⟩ rfl ⟨rfl, rfl, (Nat.le_of_ble_eq_true rfl), (Nat.le_of_ble_eq_true rfl), (Nat.le_of_ble_eq_true rfl), (Nat.le_of_ble_eq_true rfl)⟩ (va_S.rf (A := fun _ => False)) (fun _ h => h.elim) (ct_Srecv B hV0.str) hV0.str hl.1 (Nat.le_of_ble_eq_true rfl) dX6_isBlankAtEnds_24) (fun v hv => ?_)
      subst hv
      refine W.eq (g2 := F0 m 27 ls [.int (nI (t.getD (t.length - 1) 0))]) rfl ?_
      refine lv_bipush (v := nI 32) hx hb dX6_isBlankAtEnds_27 (by decide) ?_
      refine n_icmp_ne (tgt := 36) hx hb dX6_isBlankAtEnds_29 (by decide) (by have := tx_lt hs0.2 (t.length - 1); omega) (by omega) (fun c2 => ?_) (fun c2 => ?_)
      · refine lv_iconst (v := nI 0) hx hb dX6_isBlankAtEnds_36 (by decide) ?_
        exact ct_iretR (ty := .boolean) (v := (nI 0)) B rfl rfl (by rw [if_neg (fun z9 => by rcases z9.2 with y9 | y9; exact c1 y9; exact c2 y9)] <;> rfl) dX6_isBlankAtEnds_37
      · refine lv_iconst (v := nI 1) hx hb dX6_isBlankAtEnds_32 (by decide) ?_
        refine lv_goto (tgt := 37) hx hb dX6_isBlankAtEnds_33 (by decide) ?_
        exact ct_iretR (ty := .boolean) (v := (nI 1)) B rfl rfl (by rw [if_pos ⟨c0, Or.inr c2⟩] <;> rfl) dX6_isBlankAtEnds_37
set_option maxHeartbeats 4000000 in
set_option maxRecDepth 100000 in
theorem met_X6_hasSigns (l : Launch) (E : CE) (A0 : Nat → Prop) (a : Nat) (t : List Nat) (sz : Nat)  : Met l yX6_hasSigns (ws_ yX6_hasSigns cX6_hasSigns 2 (some .boolean)) { frames := 5, cells := 0, slots := 0, locals := 105 } (ctP E [.ref a] sz (fun H => ct_S E A0 H a t)) (ctR (fun v => v = some (.int (if (∃ j, j < t.length ∧ (t.getD j 0 = 34 ∨ t.getD j 0 = 44)) ∨ (0 < t.length ∧ (t.getD 0 0 = 32 ∨ t.getD (t.length - 1) 0 = 32)) then 1 else 0)))) 0 0 (fun _ => False) := by
  refine ct_start (by decide) (Nat.le_of_ble_eq_true rfl) ?_
  intro p e s m below meth c ls B hsz hH hl
  have hS0 := hH
  have hx := B.1
  have hb := B.2.1
  have hl : lv_has ls 2 [(0, .ref a)] := hl
  obtain ⟨v0, hV0⟩ := hS0.val
  have hs0 := hS0.small
  refine lv_iconst (v := nI 0) hx hb dX6_hasSigns_0 (by decide) ?_
  refine lv_istore_n (lv' := [(1, .int (nI 0)), (0, .ref a)]) hx hb dX6_hasSigns_1 rfl hl (by decide) rfl (fun ls hl => ?_)
  refine ct_loop (σ := Nat) (fun k ls => lv_has ls 2 [(1, .int (nI k)), (0, .ref a)] ∧ (k ≤ t.length) ∧ (∀ j, j < k → ¬ (t.getD j 0 = 34 ∨ t.getD j 0 = 44))) (fun k => t.length - k) (g := fun k ls => F0 m 2 ls []) (x0 := 0) (ls0 := ls) ?_ ⟨lv_sub hl [0, 1] rfl, Nat.zero_le _, fun j hj => absurd hj (Nat.not_lt_zero j)⟩
  clear hl
  intro k ls hI ih_1
  obtain ⟨hl, hk, hno⟩ := hI
  refine W.eq (g2 := F0 m 2 ls []) rfl ?_
  refine lv_iload_n hx hb dX6_hasSigns_2 rfl (lv_at hl 0 rfl) ?_
  refine lv_aload_n hx hb dX6_hasSigns_3 rfl (lv_at hl 1 rfl) ?_
  refine ct_callR (ct_runV (As := []) (rest := [.int (nI k)]) B (met_J4_length l E  _ a t s.heap.size) (lw_V q1189 q466 q467 q58 q468) (n := 0) ⟨by decide, by decide, by decide +kernel⟩ rfl ⟨rfl, rfl, (Nat.le_of_ble_eq_true rfl), (Nat.le_of_ble_eq_true rfl), (Nat.le_of_ble_eq_true rfl), (Nat.le_of_ble_eq_true rfl)⟩ (va_S.rf (A := fun _ => False)) (fun _ h => h.elim) (ct_Srecv B hV0.str) hV0.str hl.1 (Nat.le_of_ble_eq_true rfl) dX6_hasSigns_4) (fun v hv => ?_)
  subst hv
  refine W.eq (g2 := F0 m 7 ls [.int (nI t.length), .int (nI k)]) rfl ?_
  refine n_icmp_ge (tgt := 38) hx hb dX6_hasSigns_7 (by decide) (by omega) (by omega) (fun c_2 => ?_) (fun c_2 => ?_)
  · refine lv_aload_n hx hb dX6_hasSigns_38 rfl (lv_at hl 1 rfl) ?_
    refine ct_callR (ct_runS (As := [.ref a]) (rest := []) B (met_X6_isBlankAtEnds l E _ a t s.heap.size) (lw_S q1319 q1320 q54 q1321) (n := 1) ⟨by decide, by decide, by decide +kernel⟩ rfl ⟨rfl, rfl, (Nat.le_of_ble_eq_true rfl), (Nat.le_of_ble_eq_true rfl), (Nat.le_of_ble_eq_true rfl), (Nat.le_of_ble_eq_true rfl)⟩ (va_S.rf (A := fun _ => False)) (fun _ h => h.elim) hV0.str hl.1 (Nat.le_of_ble_eq_true rfl) dX6_hasSigns_39) (fun v hv => ?_)
    subst hv
    refine W.eq (g2 := F0 m 42 ls [.int (if 0 < t.length ∧ (t.getD 0 0 = 32 ∨ t.getD (t.length - 1) 0 = 32) then 1 else 0)]) rfl ?_
    exact ct_iretR (ty := .boolean) (v := (if 0 < t.length ∧ (t.getD 0 0 = 32 ∨ t.getD (t.length - 1) 0 = 32) then 1 else 0)) B rfl (by split <;> rfl) (by by_cases z9 : 0 < t.length ∧ (t.getD 0 0 = 32 ∨ t.getD (t.length - 1) 0 = 32); rw [if_pos z9, if_pos (Or.inr z9)]; rw [if_neg z9, if_neg (fun y9 => by rcases y9 with ⟨j9, y1, y2⟩ | y9; exact hno j9 (by omega) y2; exact z9 y9)]) dX6_hasSigns_42
  · refine lv_aload_n hx hb dX6_hasSigns_10 rfl (lv_at hl 1 rfl) ?_
    refine lv_iload_n hx hb dX6_hasSigns_11 rfl (lv_at hl 0 rfl) ?_
    refine ct_callR (ct_runV (As := [.int (nI k)]) (rest := []) B (met_J4_charAt l E  _ a k t s.heap.size (by omega)) (lw_V q1190 q476 q477 q58 q478) (n := 1) ⟨by decide, by decide, by decide +kernel⟩ rfl ⟨rfl, rfl, (Nat.le_of_ble_eq_true rfl), (Nat.le_of_ble_eq_true rfl), (Nat.le_of_ble_eq_true rfl), (Nat.le_of_ble_eq_true rfl)⟩ (va_S.rf (A := fun _ => False)) (fun _ h => h.elim) (ct_Srecv B hV0.str) hV0.str hl.1 (Nat.le_of_ble_eq_true rfl) dX6_hasSigns_12) (fun v hv => ?_)
    subst hv
    refine W.eq (g2 := F0 m 15 ls [.int (nI (t.getD k 0))]) rfl ?_
    refine lv_bipush (v := nI 34) hx hb dX6_hasSigns_15 (by decide) ?_
    refine n_icmp_eq (tgt := 30) hx hb dX6_hasSigns_17 (by decide) (by have := tx_lt hs0.2 k; omega) (by omega) (fun c34 => ?_) (fun c34 => ?_)
    · refine lv_iconst (v := nI 1) hx hb dX6_hasSigns_30 (by decide) ?_
      exact ct_iretR (ty := .boolean) (v := (nI 1)) B rfl rfl (by rw [if_pos (Or.inl ⟨k, by omega, Or.inl c34⟩)] <;> rfl) dX6_hasSigns_31
    · refine lv_aload_n hx hb dX6_hasSigns_20 rfl (lv_at hl 1 rfl) ?_
      refine lv_iload_n hx hb dX6_hasSigns_21 rfl (lv_at hl 0 rfl) ?_
      refine ct_callR (ct_runV (As := [.int (nI k)]) (rest := []) B (met_J4_charAt l E  _ a k t s.heap.size (by omega)) (lw_V q1190 q476 q477 q58 q478) (n := 1) ⟨by decide, by decide, by decide +kernel⟩ rfl ⟨rfl, rfl, (Nat.le_of_ble_eq_true rfl), (Nat.le_of_ble_eq_true rfl), (Nat.le_of_ble_eq_true rfl), (Nat.le_of_ble_eq_true rfl)⟩ (va_S.rf (A := fun _ => False)) (fun _ h => h.elim) (ct_Srecv B hV0.str) hV0.str hl.1 (Nat.le_of_ble_eq_true rfl) dX6_hasSigns_22) (fun v hv => ?_)
      subst hv
      refine W.eq (g2 := F0 m 25 ls [.int (nI (t.getD k 0))]) rfl ?_
      refine lv_bipush (v := nI 44) hx hb dX6_hasSigns_25 (by decide) ?_
      refine n_icmp_ne (tgt := 32) hx hb dX6_hasSigns_27 (by decide) (by have := tx_lt hs0.2 k; omega) (by omega) (fun c44 => ?_) (fun c44 => ?_)
      · refine n_iinc (n := 1) (lv' := [(1, .int (nI (k + 1))), (0, .ref a)]) hx hb dX6_hasSigns_32 hl (k := 0) rfl rfl (by decide) (by decide) rfl (fun ls hl => ?_)
        refine lv_goto (tgt := 2) hx hb dX6_hasSigns_35 (by decide) ?_
        exact ih_1 (k + 1) ls (by omega) ⟨lv_sub hl [0, 1] rfl, by omega, fun j hj => by rcases Nat.lt_succ_iff_lt_or_eq.mp hj with q9 | q9; exact hno j q9; rw [q9]; exact (fun z9 => by rcases z9 with y9 | y9; exact c34 y9; exact c44 y9)⟩
      · refine lv_iconst (v := nI 1) hx hb dX6_hasSigns_30 (by decide) ?_
        exact ct_iretR (ty := .boolean) (v := (nI 1)) B rfl rfl (by rw [if_pos (Or.inl ⟨k, by omega, Or.inr c44⟩)] <;> rfl) dX6_hasSigns_31
