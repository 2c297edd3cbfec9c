theorem idx_co {co rw_ : Int32} {cols rows k9 : Nat} (hc : cols < 2 ^ 31) (hr : rows < 2 ^ 31) (h : ixO cols rows co rw_ = some k9) : ∀ j k, j < cols → k < rows → k9 = cols * k + j → co = nI j ∧ rw_ = nI k := by
  intro j k hj hk he
  unfold ixO at h
  cases h1 : idx co cols with
  | none => rw [h1] at h; cases h
  | some j' =>
    rw [h1] at h
    dsimp only at h
    cases h2 : idx rw_ rows with
    | none => rw [h2] at h; cases h
    | some k' =>
      rw [h2] at h
      cases h
      obtain ⟨a1, a2⟩ := idx_some hc h1
      obtain ⟨b1, b2⟩ := idx_some hr h2
      have e1 : j' = j := by
        have := congrArg (· % cols) he
        rwa [Nat.mul_add_mod, Nat.mul_add_mod, Nat.mod_eq_of_lt a1, Nat.mod_eq_of_lt hj] at this
      subst e1
      have e2 : k' = k := Nat.eq_of_mul_eq_mul_left (by omega : 0 < cols) (by omega)
      subst e2
      exact ⟨a2, b2⟩
theorem xw_same (E : CE) (ad : Nat → Nat) (F : XF) (O : XO) (S : XS) (T : XT) (P : XP) (R : XR) (F' : XF) (O' : XO) (S' : XS) (T' : XT) (P' : XP) (R' : XR) : (xw E ad F O S T P R).map Prod.fst = (xw E ad F' O' S' T' P' R').map Prod.fst := rfl
theorem c_and255 {n : Nat} (h : n < 128) : nI n &&& nI 255 = nI n := by
  rw [pk_andN (by omega) 8 (m := nI 255) rfl, Nat.mod_eq_of_lt (by omega)]
theorem pkR_snoc {picked : Nat → Int64} {pcnt j : Nat} {pk : List Nat} (h : pkR picked pcnt pk) (hn : pk.length ≠ 499) (hj : j < 2147483648) : pkR (vp_updL picked pcnt (lN j)) (pcnt + 1) (pk ++ [j]) := by
  obtain ⟨h1, h2, h3, h4⟩ := h
  refine ⟨by rw [List.length_append, h1]; rfl, by rw [List.length_append, List.length_singleton]; omega, fun i hi => ?_, fun x hx => ?_⟩
  · rw [List.length_append, List.length_singleton] at hi
    by_cases e : i = pk.length
    · rw [e, h1, updL_s, gD_r (Nat.le_refl _), Nat.sub_self]; rfl
    · rw [updL_n (by omega), gD_l (by omega)]; exact h3 i (by omega)
  · rcases List.mem_append.mp hx with q | q
    · exact h4 x q
    · rw [List.mem_singleton.mp q]; exact hj
set_option maxHeartbeats 4000000 in
set_option maxRecDepth 100000 in
theorem met_X0_four (l : Launch) (E : CE) (ad : Nat → Nat) (tray : Nat → Int32) (trayed : Nat) (fed : Nat) (place : Int32) (picked : Nat → Int64) (pcnt : Nat) (column : Nat → Int64) (O : XO) (S : XS) (T : XT) (P : XP) (R : XR) (v9 : Int32) (sz : Nat) (hn4 : trayed + 4 ≤ 16000) : Met l yX0_four (ws_ yX0_four cX0_four 3 none) { frames := 0, cells := 0, slots := 0, locals := 0 } (ctP E [.ref (ad 0), .int v9] sz (fun H => va_P E.1 ct_cl (xw E ad (tray, trayed, fed, place, picked, pcnt, column) O S T P R) H ∧ va_D (fun q => E.2.2.1 ≤ q) (xw E ad (tray, trayed, fed, place, picked, pcnt, column) O S T P R))) (ctQ (fun v H => v = none ∧ va_P E.1 ct_cl (xw E ad (fourT tray trayed v9, trayed + 4, fed, place, picked, pcnt, column) O S T P R) H) (va_A (xw E ad (tray, trayed, fed, place, picked, pcnt, column) O S T P R) sz)) 0 0 (va_A (xw E ad (tray, trayed, fed, place, picked, pcnt, column) O S T P R) sz) := by
  refine ct_start (by decide) (Nat.le_of_ble_eq_true rfl) ?_
  intro p e s m below meth c ls B hsz hH hl
  obtain ⟨hP, hD⟩ := hH
  obtain ⟨A, hAe, h, hA, hAn⟩ := ct_enter B.2.2.2.2.2.2.2.2 hsz hP hD
  rw [hAe]
  refine ct_gen h (fun H locs h => ?_)
  have hx := B.1
  have hb := B.2.1
  have hl : lv_has ls 3 [(0, .ref (ad 0)), (1, .int v9)] := hl
  refine lv_bipush (v := nI 24) hx hb dX0_four_0 (by decide) ?_
  refine lv_istore_n (lv' := [(2, .int (nI 24)), (0, .ref (ad 0)), (1, .int v9)]) hx hb dX0_four_2 rfl hl (by decide) rfl (fun ls hl => ?_)
  refine lv_iload_n hx hb dX0_four_3 rfl (lv_at hl 0 rfl) ?_
  refine n_if_lt hx hb dX0_four_4 (by omega) ?_
  refine lv_aload_n hx hb dX0_four_7 rfl (lv_at hl 1 rfl) ?_
  refine ct_get (v := .ref (ad 1)) B h.1 kX0 0 rfl 0 (Nat.le_of_ble_eq_true rfl) q277 rfl dX0_four_8 ?_
  refine lv_aload_n hx hb dX0_four_11 rfl (lv_at hl 1 rfl) ?_
  refine ct_get (v := .int (nI trayed)) B h.1 kX0 0 rfl 1 (Nat.le_of_ble_eq_true rfl) q278 rfl dX0_four_12 ?_
  refine lv_iload_n hx hb dX0_four_15 rfl (lv_at hl 2 rfl) ?_
  refine lv_iload_n hx hb dX0_four_16 rfl (lv_at hl 0 rfl) ?_
  refine lv_ishr hx hb dX0_four_17 ?_
  refine lv_i2b (v := (v9 >>> ((nI 24) &&& 31)).toInt8.toInt32) hx hb dX0_four_18 rfl ?_
  refine ct_bast (ws' := xw E ad ((upd tray trayed (vp_nar .byte ((v9 >>> ((nI 24) &&& 31)).toInt8.toInt32))), trayed, fed, place, picked, pcnt, column) O S T P R) B h 1 rfl (by omega) (by omega) rfl dX0_four_19 (fun H locs h => ?_)
  refine lv_aload_n hx hb dX0_four_20 rfl (lv_at hl 1 rfl) ?_
  refine lv_dup hx hb dX0_four_21 rfl ?_
  refine ct_get (v := .int (nI trayed)) B h.1 kX0 0 rfl 1 (Nat.le_of_ble_eq_true rfl) q278 rfl dX0_four_22 ?_
  refine lv_iconst (v := nI 1) hx hb dX0_four_25 (by decide) ?_
  refine n_iadd hx hb dX0_four_26 ?_
  refine ct_put (ws' := xw E ad ((upd tray trayed (vp_nar .byte ((v9 >>> ((nI 24) &&& 31)).toInt8.toInt32))), trayed + 1, fed, place, picked, pcnt, column) O S T P R) B h kX0 0 rfl 1 (Nat.le_of_ble_eq_true rfl) q278 rfl rfl rfl (Nat.le_of_ble_eq_true rfl) rfl dX0_four_27 (fun H locs h => ?_)
  refine lv_iinc (v := (nI 16)) (lv' := [(2, .int (nI 16)), (0, .ref (ad 0)), (1, .int v9)]) hx hb dX0_four_30 hl (k := 0) rfl (by decide) (by decide) rfl (fun ls hl => ?_)
  refine lv_goto (tgt := 3) hx hb dX0_four_33 (by decide) ?_
  refine lv_iload_n hx hb dX0_four_3 rfl (lv_at hl 0 rfl) ?_
  refine n_if_lt hx hb dX0_four_4 (by omega) ?_
  refine lv_aload_n hx hb dX0_four_7 rfl (lv_at hl 1 rfl) ?_
  refine ct_get (v := .ref (ad 1)) B h.1 kX0 0 rfl 0 (Nat.le_of_ble_eq_true rfl) q277 rfl dX0_four_8 ?_
  refine lv_aload_n hx hb dX0_four_11 rfl (lv_at hl 1 rfl) ?_
  refine ct_get (v := .int (nI (trayed + 1))) B h.1 kX0 0 rfl 1 (Nat.le_of_ble_eq_true rfl) q278 rfl dX0_four_12 ?_
  refine lv_iload_n hx hb dX0_four_15 rfl (lv_at hl 2 rfl) ?_
  refine lv_iload_n hx hb dX0_four_16 rfl (lv_at hl 0 rfl) ?_
  refine lv_ishr hx hb dX0_four_17 ?_
  refine lv_i2b (v := (v9 >>> ((nI 16) &&& 31)).toInt8.toInt32) hx hb dX0_four_18 rfl ?_
  refine ct_bast (ws' := xw E ad ((upd (upd tray trayed (vp_nar .byte ((v9 >>> ((nI 24) &&& 31)).toInt8.toInt32))) (trayed + 1) (vp_nar .byte ((v9 >>> ((nI 16) &&& 31)).toInt8.toInt32))), trayed + 1, fed, place, picked, pcnt, column) O S T P R) B h 1 rfl (by omega) (by omega) rfl dX0_four_19 (fun H locs h => ?_)
  refine lv_aload_n hx hb dX0_four_20 rfl (lv_at hl 1 rfl) ?_
  refine lv_dup hx hb dX0_four_21 rfl ?_
  refine ct_get (v := .int (nI (trayed + 1))) B h.1 kX0 0 rfl 1 (Nat.le_of_ble_eq_true rfl) q278 rfl dX0_four_22 ?_
  refine lv_iconst (v := nI 1) hx hb dX0_four_25 (by decide) ?_
  refine n_iadd hx hb dX0_four_26 ?_
  refine ct_put (ws' := xw E ad ((upd (upd tray trayed (vp_nar .byte ((v9 >>> ((nI 24) &&& 31)).toInt8.toInt32))) (trayed + 1) (vp_nar .byte ((v9 >>> ((nI 16) &&& 31)).toInt8.toInt32))), trayed + 2, fed, place, picked, pcnt, column) O S T P R) B h kX0 0 rfl 1 (Nat.le_of_ble_eq_true rfl) q278 rfl rfl rfl (Nat.le_of_ble_eq_true rfl) rfl dX0_four_27 (fun H locs h => ?_)
  refine lv_iinc (v := (nI 8)) (lv' := [(2, .int (nI 8)), (0, .ref (ad 0)), (1, .int v9)]) hx hb dX0_four_30 hl (k := 0) rfl (by decide) (by decide) rfl (fun ls hl => ?_)
  refine lv_goto (tgt := 3) hx hb dX0_four_33 (by decide) ?_
  refine lv_iload_n hx hb dX0_four_3 rfl (lv_at hl 0 rfl) ?_
  refine n_if_lt hx hb dX0_four_4 (by omega) ?_
  refine lv_aload_n hx hb dX0_four_7 rfl (lv_at hl 1 rfl) ?_
  refine ct_get (v := .ref (ad 1)) B h.1 kX0 0 rfl 0 (Nat.le_of_ble_eq_true rfl) q277 rfl dX0_four_8 ?_
  refine lv_aload_n hx hb dX0_four_11 rfl (lv_at hl 1 rfl) ?_
  refine ct_get (v := .int (nI (trayed + 2))) B h.1 kX0 0 rfl 1 (Nat.le_of_ble_eq_true rfl) q278 rfl dX0_four_12 ?_
  refine lv_iload_n hx hb dX0_four_15 rfl (lv_at hl 2 rfl) ?_
  refine lv_iload_n hx hb dX0_four_16 rfl (lv_at hl 0 rfl) ?_
  refine lv_ishr hx hb dX0_four_17 ?_
  refine lv_i2b (v := (v9 >>> ((nI 8) &&& 31)).toInt8.toInt32) hx hb dX0_four_18 rfl ?_
  refine ct_bast (ws' := xw E ad ((upd (upd (upd tray trayed (vp_nar .byte ((v9 >>> ((nI 24) &&& 31)).toInt8.toInt32))) (trayed + 1) (vp_nar .byte ((v9 >>> ((nI 16) &&& 31)).toInt8.toInt32))) (trayed + 2) (vp_nar .byte ((v9 >>> ((nI 8) &&& 31)).toInt8.toInt32))), trayed + 2, fed, place, picked, pcnt, column) O S T P R) B h 1 rfl (by omega) (by omega) rfl dX0_four_19 (fun H locs h => ?_)
  refine lv_aload_n hx hb dX0_four_20 rfl (lv_at hl 1 rfl) ?_
  refine lv_dup hx hb dX0_four_21 rfl ?_
  refine ct_get (v := .int (nI (trayed + 2))) B h.1 kX0 0 rfl 1 (Nat.le_of_ble_eq_true rfl) q278 rfl dX0_four_22 ?_
  refine lv_iconst (v := nI 1) hx hb dX0_four_25 (by decide) ?_
  refine n_iadd hx hb dX0_four_26 ?_
  refine ct_put (ws' := xw E ad ((upd (upd (upd tray trayed (vp_nar .byte ((v9 >>> ((nI 24) &&& 31)).toInt8.toInt32))) (trayed + 1) (vp_nar .byte ((v9 >>> ((nI 16) &&& 31)).toInt8.toInt32))) (trayed + 2) (vp_nar .byte ((v9 >>> ((nI 8) &&& 31)).toInt8.toInt32))), trayed + 3, fed, place, picked, pcnt, column) O S T P R) B h kX0 0 rfl 1 (Nat.le_of_ble_eq_true rfl) q278 rfl rfl rfl (Nat.le_of_ble_eq_true rfl) rfl dX0_four_27 (fun H locs h => ?_)
  refine lv_iinc (v := (nI 0)) (lv' := [(2, .int (nI 0)), (0, .ref (ad 0)), (1, .int v9)]) hx hb dX0_four_30 hl (k := 0) rfl (by decide) (by decide) rfl (fun ls hl => ?_)
  refine lv_goto (tgt := 3) hx hb dX0_four_33 (by decide) ?_
  refine lv_iload_n hx hb dX0_four_3 rfl (lv_at hl 0 rfl) ?_
  refine n_if_lt hx hb dX0_four_4 (by omega) ?_
  refine lv_aload_n hx hb dX0_four_7 rfl (lv_at hl 1 rfl) ?_
  refine ct_get (v := .ref (ad 1)) B h.1 kX0 0 rfl 0 (Nat.le_of_ble_eq_true rfl) q277 rfl dX0_four_8 ?_
  refine lv_aload_n hx hb dX0_four_11 rfl (lv_at hl 1 rfl) ?_
  refine ct_get (v := .int (nI (trayed + 3))) B h.1 kX0 0 rfl 1 (Nat.le_of_ble_eq_true rfl) q278 rfl dX0_four_12 ?_
  refine lv_iload_n hx hb dX0_four_15 rfl (lv_at hl 2 rfl) ?_
  refine lv_iload_n hx hb dX0_four_16 rfl (lv_at hl 0 rfl) ?_
  refine lv_ishr hx hb dX0_four_17 ?_
  refine lv_i2b (v := (v9 >>> ((nI 0) &&& 31)).toInt8.toInt32) hx hb dX0_four_18 rfl ?_
  refine ct_bast (ws' := xw E ad ((upd (upd (upd (upd tray trayed (vp_nar .byte ((v9 >>> ((nI 24) &&& 31)).toInt8.toInt32))) (trayed + 1) (vp_nar .byte ((v9 >>> ((nI 16) &&& 31)).toInt8.toInt32))) (trayed + 2) (vp_nar .byte ((v9 >>> ((nI 8) &&& 31)).toInt8.toInt32))) (trayed + 3) (vp_nar .byte ((v9 >>> ((nI 0) &&& 31)).toInt8.toInt32))), trayed + 3, fed, place, picked, pcnt, column) O S T P R) B h 1 rfl (by omega) (by omega) rfl dX0_four_19 (fun H locs h => ?_)
  refine lv_aload_n hx hb dX0_four_20 rfl (lv_at hl 1 rfl) ?_
  refine lv_dup hx hb dX0_four_21 rfl ?_
  refine ct_get (v := .int (nI (trayed + 3))) B h.1 kX0 0 rfl 1 (Nat.le_of_ble_eq_true rfl) q278 rfl dX0_four_22 ?_
  refine lv_iconst (v := nI 1) hx hb dX0_four_25 (by decide) ?_
  refine n_iadd hx hb dX0_four_26 ?_
  refine ct_put (ws' := xw E ad ((upd (upd (upd (upd tray trayed (vp_nar .byte ((v9 >>> ((nI 24) &&& 31)).toInt8.toInt32))) (trayed + 1) (vp_nar .byte ((v9 >>> ((nI 16) &&& 31)).toInt8.toInt32))) (trayed + 2) (vp_nar .byte ((v9 >>> ((nI 8) &&& 31)).toInt8.toInt32))) (trayed + 3) (vp_nar .byte ((v9 >>> ((nI 0) &&& 31)).toInt8.toInt32))), trayed + 4, fed, place, picked, pcnt, column) O S T P R) B h kX0 0 rfl 1 (Nat.le_of_ble_eq_true rfl) q278 rfl rfl rfl (Nat.le_of_ble_eq_true rfl) rfl dX0_four_27 (fun H locs h => ?_)
  refine lv_iinc (v := (-8)) (lv' := [(2, .int (-8)), (0, .ref (ad 0)), (1, .int v9)]) hx hb dX0_four_30 hl (k := 0) rfl (by decide) (by decide) rfl (fun ls hl => ?_)
  refine lv_goto (tgt := 3) hx hb dX0_four_33 (by decide) ?_
  refine lv_iload_n hx hb dX0_four_3 rfl (lv_at hl 0 rfl) ?_
  refine lv_if_lt (tgt := 36) hx hb dX0_four_4 (by decide) (fun c_5 => ?_) (fun c_5 => absurd c_5 (by decide))
  exact ct_vret B h.2.2 ⟨rfl, h.1⟩ dX0_four_36
set_option maxHeartbeats 4000000 in
set_option maxRecDepth 100000 in
theorem met_X0_feed (l : Launch) (E : CE) (ad : Nat → Nat) (tray : Nat → Int32) (trayed : Nat) (fed : Nat) (place : Int32) (picked : Nat → Int64) (pcnt : Nat) (column : Nat → Int64) (O : XO) (S : XS) (T : XT) (P : XP) (R : XR) (a9 b9 c9 d9 e9 : Int32) (sz : Nat) (hty : trayed ≤ 16000) (hfe : fed ≤ 65536) : Met l yX0_feed (ws_ yX0_feed cX0_feed 6 (some .int)) { frames := 1, cells := 0, slots := 0, locals := 22 } (ctP E [.ref (ad 0), .int a9, .int b9, .int c9, .int d9, .int e9] sz (fun H => va_P E.1 ct_cl (xw E ad (tray, trayed, fed, place, picked, pcnt, column) O S T P R) H ∧ va_D (fun q => E.2.2.1 ≤ q) (xw E ad (tray, trayed, fed, place, picked, pcnt, column) O S T P R))) (ctQ (fun v H => ∃ tr2 : Nat → Int32, ∃ n2 : Nat, ∃ f2 : Nat, ∃ r2 : Int32, v = some (.int r2) ∧ va_P E.1 ct_cl (xw E ad (tr2, n2, f2, place, picked, pcnt, column) O S T P R) H ∧ (tr2, n2, f2, r2) = (if feedOK trayed fed then (feedT tray trayed a9 b9 c9 d9 e9, trayed + 20, fed + 20, nI (trayed + 20)) else (tray, trayed, fed, -1))) (va_A (xw E ad (tray, trayed, fed, place, picked, pcnt, column) O S T P R) sz)) 0 0 (va_A (xw E ad (tray, trayed, fed, place, picked, pcnt, column) O S T P R) sz) := by
  refine ct_start (by decide) (Nat.le_of_ble_eq_true rfl) ?_
  intro p e s m below meth c ls B hsz hH hl
  obtain ⟨hP, hD⟩ := hH
  obtain ⟨A, hAe, h, hA, hAn⟩ := ct_enter B.2.2.2.2.2.2.2.2 hsz hP hD
  rw [hAe]
  refine ct_gen h (fun H locs h => ?_)
  have hx := B.1
  have hb := B.2.1
  have hl : lv_has ls 6 [(0, .ref (ad 0)), (1, .int a9), (2, .int b9), (3, .int c9), (4, .int d9), (5, .int e9)] := hl
  refine lv_aload_n hx hb dX0_feed_0 rfl (lv_at hl 0 rfl) ?_
  refine ct_get (v := .int (nI trayed)) B h.1 kX0 0 rfl 1 (Nat.le_of_ble_eq_true rfl) q278 rfl dX0_feed_1 ?_
  refine lv_bipush (v := nI 20) hx hb dX0_feed_4 (by decide) ?_
  refine n_iadd hx hb dX0_feed_6 ?_
  refine lv_sipush (v := nI 16000) hx hb dX0_feed_7 (by decide) ?_
  refine n_icmp_gt (tgt := 25) hx hb dX0_feed_10 (by decide) (by omega) (by omega) (fun c_1 => ?_) (fun c_1 => ?_)
  · refine lv_iconst (v := (-1)) hx hb dX0_feed_25 (by decide) ?_
    exact ct_iret (ty := .int) (v := (-1)) B rfl rfl h.2.2 ⟨tray, trayed, fed, (-1), rfl, h.1, by rw [if_neg (by omega)]⟩ dX0_feed_26
  · refine lv_aload_n hx hb dX0_feed_13 rfl (lv_at hl 0 rfl) ?_
    refine ct_get (v := .int (nI fed)) B h.1 kX0 0 rfl 2 (Nat.le_of_ble_eq_true rfl) q279 rfl dX0_feed_14 ?_
    refine lv_bipush (v := nI 20) hx hb dX0_feed_17 (by decide) ?_
    refine n_iadd hx hb dX0_feed_19 ?_
    refine lv_ldc (v := nI 65536) hx hb B.2.2.1 (B.2.2.2.1 _ q315) dX0_feed_20 ?_
    refine n_icmp_le (tgt := 27) hx hb dX0_feed_22 (by decide) (by omega) (by omega) (fun c_2 => ?_) (fun c_2 => ?_)
    · refine lv_aload_n hx hb dX0_feed_27 rfl (lv_at hl 0 rfl) ?_
      refine lv_iload_n hx hb dX0_feed_28 rfl (lv_at hl 1 rfl) ?_
      refine ct_callQ (ct_runV (As := [.int a9]) (rest := []) B (met_X0_four l E ad tray trayed fed place picked pcnt column O S T P R a9 H.size (by omega)) (lw_V q316 q318 qs1 q44 q319) (n := 1) ⟨by decide, by decide, by decide +kernel⟩ rfl ⟨rfl, rfl, (Nat.le_of_ble_eq_true rfl), (Nat.le_of_ble_eq_true rfl), (Nat.le_of_ble_eq_true rfl), (Nat.le_of_ble_eq_true rfl)⟩ h.2.2 hA (ct_recv B h.1 kX0 0 rfl) ⟨h.1, (ct_D0 h hA)⟩ hl.1 (Nat.le_of_ble_eq_true rfl) dX0_feed_29) h.2.2 (ct_sub h hAn) (ct_sub h hAn) (fun v H locs hv hz hk hS => ?_)
      obtain ⟨rfl, hP1⟩ := hv
      have h : Hs E A s.heap (xw E ad (fourT tray trayed a9, trayed + 4, fed, place, picked, pcnt, column) O S T P R) H locs := ct_again h hP1 (xw_same _ _ _ _ _ _ _ _ _ _ _ _ _ _) hS
      clear hP1 hS hz hk
      refine W.eq (g2 := F0 m 32 ls []) rfl ?_
      refine lv_aload_n hx hb dX0_feed_32 rfl (lv_at hl 0 rfl) ?_
      refine lv_iload_n hx hb dX0_feed_33 rfl (lv_at hl 2 rfl) ?_
      refine ct_callQ (ct_runV (As := [.int b9]) (rest := []) B (met_X0_four l E ad (fourT tray trayed a9) (trayed + 4) fed place picked pcnt column O S T P R b9 H.size (by omega)) (lw_V q316 q318 qs1 q44 q319) (n := 1) ⟨by decide, by decide, by decide +kernel⟩ rfl ⟨rfl, rfl, (Nat.le_of_ble_eq_true rfl), (Nat.le_of_ble_eq_true rfl), (Nat.le_of_ble_eq_true rfl), (Nat.le_of_ble_eq_true rfl)⟩ h.2.2 hA (ct_recv B h.1 kX0 0 rfl) ⟨h.1, (ct_D0 h hA)⟩ hl.1 (Nat.le_of_ble_eq_true rfl) dX0_feed_34) h.2.2 (ct_sub h hAn) (ct_sub h hAn) (fun v H locs hv hz hk hS => ?_)
      obtain ⟨rfl, hP1⟩ := hv
      have h : Hs E A s.heap (xw E ad (fourT (fourT tray trayed a9) (trayed + 4) b9, trayed + 8, fed, place, picked, pcnt, column) O S T P R) H locs := ct_again h hP1 (xw_same _ _ _ _ _ _ _ _ _ _ _ _ _ _) hS
      clear hP1 hS hz hk
      refine W.eq (g2 := F0 m 37 ls []) rfl ?_
      refine lv_aload_n hx hb dX0_feed_37 rfl (lv_at hl 0 rfl) ?_
      refine lv_iload_n hx hb dX0_feed_38 rfl (lv_at hl 3 rfl) ?_
      refine ct_callQ (ct_runV (As := [.int c9]) (rest := []) B (met_X0_four l E ad (fourT (fourT tray trayed a9) (trayed + 4) b9) (trayed + 8) fed place picked pcnt column O S T P R c9 H.size (by omega)) (lw_V q316 q318 qs1 q44 q319) (n := 1) ⟨by decide, by decide, by decide +kernel⟩ rfl ⟨rfl, rfl, (Nat.le_of_ble_eq_true rfl), (Nat.le_of_ble_eq_true rfl), (Nat.le_of_ble_eq_true rfl), (Nat.le_of_ble_eq_true rfl)⟩ h.2.2 hA (ct_recv B h.1 kX0 0 rfl) ⟨h.1, (ct_D0 h hA)⟩ hl.1 (Nat.le_of_ble_eq_true rfl) dX0_feed_39) h.2.2 (ct_sub h hAn) (ct_sub h hAn) (fun v H locs hv hz hk hS => ?_)
      obtain ⟨rfl, hP1⟩ := hv
      have h : Hs E A s.heap (xw E ad (fourT (fourT (fourT tray trayed a9) (trayed + 4) b9) (trayed + 8) c9, trayed + 12, fed, place, picked, pcnt, column) O S T P R) H locs := ct_again h hP1 (xw_same _ _ _ _ _ _ _ _ _ _ _ _ _ _) hS
      clear hP1 hS hz hk
      refine W.eq (g2 := F0 m 42 ls []) rfl ?_
      refine lv_aload_n hx hb dX0_feed_42 rfl (lv_at hl 0 rfl) ?_
      refine lv_iload hx hb dX0_feed_43 (lv_at hl 4 rfl) ?_
      refine ct_callQ (ct_runV (As := [.int d9]) (rest := []) B (met_X0_four l E ad (fourT (fourT (fourT tray trayed a9) (trayed + 4) b9) (trayed + 8) c9) (trayed + 12) fed place picked pcnt column O S T P R d9 H.size (by omega)) (lw_V q316 q318 qs1 q44 q319) (n := 1) ⟨by decide, by decide, by decide +kernel⟩ rfl ⟨rfl, rfl, (Nat.le_of_ble_eq_true rfl), (Nat.le_of_ble_eq_true rfl), (Nat.le_of_ble_eq_true rfl), (Nat.le_of_ble_eq_true rfl)⟩ h.2.2 hA (ct_recv B h.1 kX0 0 rfl) ⟨h.1, (ct_D0 h hA)⟩ hl.1 (Nat.le_of_ble_eq_true rfl) dX0_feed_45) h.2.2 (ct_sub h hAn) (ct_sub h hAn) (fun v H locs hv hz hk hS => ?_)
      obtain ⟨rfl, hP1⟩ := hv
      have h : Hs E A s.heap (xw E ad (fourT (fourT (fourT (fourT tray trayed a9) (trayed + 4) b9) (trayed + 8) c9) (trayed + 12) d9, trayed + 16, fed, place, picked, pcnt, column) O S T P R) H locs := ct_again h hP1 (xw_same _ _ _ _ _ _ _ _ _ _ _ _ _ _) hS
      clear hP1 hS hz hk
      refine W.eq (g2 := F0 m 48 ls []) rfl ?_
      refine lv_aload_n hx hb dX0_feed_48 rfl (lv_at hl 0 rfl) ?_
      refine lv_iload hx hb dX0_feed_49 (lv_at hl 5 rfl) ?_
      refine ct_callQ (ct_runV (As := [.int e9]) (rest := []) B (met_X0_four l E ad (fourT (fourT (fourT (fourT tray trayed a9) (trayed + 4) b9) (trayed + 8) c9) (trayed + 12) d9) (trayed + 16) fed place picked pcnt column O S T P R e9 H.size (by omega)) (lw_V q316 q318 qs1 q44 q319) (n := 1) ⟨by decide, by decide, by decide +kernel⟩ rfl ⟨rfl, rfl, (Nat.le_of_ble_eq_true rfl), (Nat.le_of_ble_eq_true rfl), (Nat.le_of_ble_eq_true rfl), (Nat.le_of_ble_eq_true rfl)⟩ h.2.2 hA (ct_recv B h.1 kX0 0 rfl) ⟨h.1, (ct_D0 h hA)⟩ hl.1 (Nat.le_of_ble_eq_true rfl) dX0_feed_51) h.2.2 (ct_sub h hAn) (ct_sub h hAn) (fun v H locs hv hz hk hS => ?_)
      obtain ⟨rfl, hP1⟩ := hv
      have h : Hs E A s.heap (xw E ad (fourT (fourT (fourT (fourT (fourT tray trayed a9) (trayed + 4) b9) (trayed + 8) c9) (trayed + 12) d9) (trayed + 16) e9, trayed + 20, fed, place, picked, pcnt, column) O S T P R) H locs := ct_again h hP1 (xw_same _ _ _ _ _ _ _ _ _ _ _ _ _ _) hS
      clear hP1 hS hz hk
      refine W.eq (g2 := F0 m 54 ls []) rfl ?_
      refine lv_aload_n hx hb dX0_feed_54 rfl (lv_at hl 0 rfl) ?_
      refine lv_dup hx hb dX0_feed_55 rfl ?_
      refine ct_get (v := .int (nI fed)) B h.1 kX0 0 rfl 2 (Nat.le_of_ble_eq_true rfl) q279 rfl dX0_feed_56 ?_
      refine lv_bipush (v := nI 20) hx hb dX0_feed_59 (by decide) ?_
      refine n_iadd hx hb dX0_feed_61 ?_
      refine ct_put (ws' := xw E ad ((fourT (fourT (fourT (fourT (fourT tray trayed a9) (trayed + 4) b9) (trayed + 8) c9) (trayed + 12) d9) (trayed + 16) e9), trayed + 20, fed + 20, place, picked, pcnt, column) O S T P R) B h kX0 0 rfl 2 (Nat.le_of_ble_eq_true rfl) q279 rfl rfl rfl (Nat.le_of_ble_eq_true rfl) rfl dX0_feed_62 (fun H locs h => ?_)
      refine lv_aload_n hx hb dX0_feed_65 rfl (lv_at hl 0 rfl) ?_
      refine ct_get (v := .int (nI (trayed + 20))) B h.1 kX0 0 rfl 1 (Nat.le_of_ble_eq_true rfl) q278 rfl dX0_feed_66 ?_
      exact ct_iret (ty := .int) (v := (nI (trayed + 20))) B rfl rfl h.2.2 ⟨_, _, _, (nI (trayed + 20)), rfl, h.1, by rw [if_pos (by omega)]; rw [feedT]⟩ dX0_feed_69
    · refine lv_iconst (v := (-1)) hx hb dX0_feed_25 (by decide) ?_
      exact ct_iret (ty := .int) (v := (-1)) B rfl rfl h.2.2 ⟨tray, trayed, fed, (-1), rfl, h.1, by rw [if_neg (by omega)]⟩ dX0_feed_26
set_option maxHeartbeats 4000000 in
set_option maxRecDepth 100000 in
theorem met_X0_end (l : Launch) (E : CE) (ad : Nat → Nat) (tray : Nat → Int32) (trayed : Nat) (fed : Nat) (place : Int32) (picked : Nat → Int64) (pcnt : Nat) (column : Nat → Int64) (O : XO) (S : XS) (T : XT) (P : XP) (R : XR) (n9 : Int32) (sz : Nat) (hty : trayed ≤ 16000) : Met l yX0_end (ws_ yX0_end cX0_end 2 (some .int)) { frames := 0, cells := 0, slots := 0, locals := 0 } (ctP E [.ref (ad 0), .int n9] sz (fun H => va_P E.1 ct_cl (xw E ad (tray, trayed, fed, place, picked, pcnt, column) O S T P R) H ∧ va_D (fun q => E.2.2.1 ≤ q) (xw E ad (tray, trayed, fed, place, picked, pcnt, column) O S T P R))) (ctQ (fun v H => ∃ n2 : Nat, ∃ r2 : Int32, v = some (.int r2) ∧ va_P E.1 ct_cl (xw E ad (tray, n2, fed, place, picked, pcnt, column) O S T P R) H ∧ (n2, r2) = endS trayed n9) (va_A (xw E ad (tray, trayed, fed, place, picked, pcnt, column) O S T P R) sz)) 0 0 (va_A (xw E ad (tray, trayed, fed, place, picked, pcnt, column) O S T P R) sz) := by
  refine ct_start (by decide) (Nat.le_of_ble_eq_true rfl) ?_
  intro p e s m below meth c ls B hsz hH hl
  obtain ⟨hP, hD⟩ := hH
  obtain ⟨A, hAe, h, hA, hAn⟩ := ct_enter B.2.2.2.2.2.2.2.2 hsz hP hD
  rw [hAe]
  refine ct_gen h (fun H locs h => ?_)
  have hx := B.1
  have hb := B.2.1
  have hl : lv_has ls 2 [(0, .ref (ad 0)), (1, .int n9)] := hl
  refine lv_iload_n hx hb dX0_end_0 rfl (lv_at hl 1 rfl) ?_
  refine lv_if_lt (tgt := 12) hx hb dX0_end_1 (by decide) (fun c1 => ?_) (fun c1 => ?_)
  · refine lv_iconst (v := (-1)) hx hb dX0_end_12 (by decide) ?_
    exact ct_iret (ty := .int) (v := (-1)) B rfl rfl h.2.2 ⟨trayed, (-1), rfl, h.1, by rw [endS, if_neg (by have := Int32.lt_iff_toInt_lt.mp c1; rw [show (0 : Int32).toInt = 0 from rfl] at this; omega)]⟩ dX0_end_13
  · refine lv_iload_n hx hb dX0_end_4 rfl (lv_at hl 1 rfl) ?_
    refine lv_aload_n hx hb dX0_end_5 rfl (lv_at hl 0 rfl) ?_
    refine ct_get (v := .int (nI trayed)) B h.1 kX0 0 rfl 1 (Nat.le_of_ble_eq_true rfl) q278 rfl dX0_end_6 ?_
    refine lv_icmp_le (tgt := 14) hx hb dX0_end_9 (by decide) (fun c2 => ?_) (fun c2 => ?_)
    · obtain ⟨j, hj, rfl⟩ := nI_of2 (n := trayed) (nI_toInt (by omega)) c1 c2
      refine lv_aload_n hx hb dX0_end_14 rfl (lv_at hl 0 rfl) ?_
      refine lv_iload_n hx hb dX0_end_15 rfl (lv_at hl 1 rfl) ?_
      refine ct_put (ws' := xw E ad (tray, j, fed, place, picked, pcnt, column) O S T P R) B h kX0 0 rfl 1 (Nat.le_of_ble_eq_true rfl) q278 rfl rfl rfl (Nat.le_of_ble_eq_true rfl) rfl dX0_end_16 (fun H locs h => ?_)
      refine lv_iload_n hx hb dX0_end_19 rfl (lv_at hl 1 rfl) ?_
      exact ct_iret (ty := .int) (v := (nI j)) B rfl rfl h.2.2 ⟨j, _, rfl, h.1, by rw [endS, nI_toInt (by omega), if_pos ⟨by omega, by omega⟩]; rfl⟩ dX0_end_20
    · refine lv_iconst (v := (-1)) hx hb dX0_end_12 (by decide) ?_
      exact ct_iret (ty := .int) (v := (-1)) B rfl rfl h.2.2 ⟨trayed, (-1), rfl, h.1, by rw [endS, if_neg (fun q9 => c2 (Int32.le_iff_toInt_le.mpr (by rw [nI_toInt (by omega)]; omega)))]⟩ dX0_end_13
set_option maxHeartbeats 4000000 in
set_option maxRecDepth 100000 in
theorem met_X0_used (l : Launch) (E : CE) (ad : Nat → Nat) (tray : Nat → Int32) (trayed : Nat) (fed : Nat) (place : Int32) (picked : Nat → Int64) (pcnt : Nat) (column : Nat → Int64) (O : XO) (S : XS) (T : XT) (P : XP) (R : XR)  (sz : Nat)  : Met l yX0_used (ws_ yX0_used cX0_used 2 (some .int)) { frames := 0, cells := 0, slots := 0, locals := 0 } (ctP E [.ref (ad 0)] sz (fun H => va_P E.1 ct_cl (xw E ad (tray, trayed, fed, place, picked, pcnt, column) O S T P R) H ∧ va_D (fun q => E.2.2.1 ≤ q) (xw E ad (tray, trayed, fed, place, picked, pcnt, column) O S T P R))) (ctQ (fun v H => v = some (.int (nI trayed)) ∧ va_P E.1 ct_cl (xw E ad (tray, 0, fed, place, picked, pcnt, column) O S T P R) H) (va_A (xw E ad (tray, trayed, fed, place, picked, pcnt, column) O S T P R) sz)) 0 0 (va_A (xw E ad (tray, trayed, fed, place, picked, pcnt, column) O S T P R) sz) := by
  refine ct_start (by decide) (Nat.le_of_ble_eq_true rfl) ?_
  intro p e s m below meth c ls B hsz hH hl
  obtain ⟨hP, hD⟩ := hH
  obtain ⟨A, hAe, h, hA, hAn⟩ := ct_enter B.2.2.2.2.2.2.2.2 hsz hP hD
  rw [hAe]
  refine ct_gen h (fun H locs h => ?_)
  have hx := B.1
  have hb := B.2.1
  have hl : lv_has ls 2 [(0, .ref (ad 0))] := hl
  refine lv_aload_n hx hb dX0_used_0 rfl (lv_at hl 0 rfl) ?_
  refine ct_get (v := .int (nI trayed)) B h.1 kX0 0 rfl 1 (Nat.le_of_ble_eq_true rfl) q278 rfl dX0_used_1 ?_
  refine lv_istore_n (lv' := [(1, .int (nI trayed)), (0, .ref (ad 0))]) hx hb dX0_used_4 rfl hl (by decide) rfl (fun ls hl => ?_)
  refine lv_aload_n hx hb dX0_used_5 rfl (lv_at hl 1 rfl) ?_
  refine lv_iconst (v := nI 0) hx hb dX0_used_6 (by decide) ?_
  refine ct_put (ws' := xw E ad (tray, 0, fed, place, picked, pcnt, column) O S T P R) B h kX0 0 rfl 1 (Nat.le_of_ble_eq_true rfl) q278 rfl rfl rfl (Nat.le_of_ble_eq_true rfl) rfl dX0_used_7 (fun H locs h => ?_)
  refine lv_iload_n hx hb dX0_used_10 rfl (lv_at hl 0 rfl) ?_
  exact ct_iret (ty := .int) (v := (nI trayed)) B rfl rfl h.2.2 ⟨rfl, h.1⟩ dX0_used_11
set_option maxHeartbeats 4000000 in
set_option maxRecDepth 100000 in
theorem met_X0_place (l : Launch) (E : CE) (ad : Nat → Nat) (tray : Nat → Int32) (trayed : Nat) (fed : Nat) (place : Int32) (picked : Nat → Int64) (pcnt : Nat) (column : Nat → Int64) (O : XO) (S : XS) (T : XT) (P : XP) (R : XR)  (sz : Nat)  : Met l yX0_place (ws_ yX0_place cX0_place 1 (some .int)) { frames := 0, cells := 0, slots := 0, locals := 0 } (ctP E [.ref (ad 0)] sz (fun H => va_P E.1 ct_cl (xw E ad (tray, trayed, fed, place, picked, pcnt, column) O S T P R) H)) (ctR (fun v => v = some (.int place))) 0 0 (fun _ => False) := by
  refine ct_start (by decide) (Nat.le_of_ble_eq_true rfl) ?_
  intro p e s m below meth c ls B hsz hH hl
  have hP := hH
  have hx := B.1
  have hb := B.2.1
  have hl : lv_has ls 1 [(0, .ref (ad 0))] := hl
  refine lv_aload_n hx hb dX0_place_0 rfl (lv_at hl 0 rfl) ?_
  refine ct_get (v := .int place) B hP kX0 0 rfl 5 (Nat.le_of_ble_eq_true rfl) q282 rfl dX0_place_1 ?_
  exact ct_iretR (ty := .int) (v := place) B rfl rfl (rfl) dX0_place_4
set_option maxHeartbeats 4000000 in
set_option maxRecDepth 100000 in
theorem met_X0_out (l : Launch) (E : CE) (ad : Nat → Nat) (F : XF) (ob : Nat → Int32) (on : Nat) (db : Nat → Int32) (dn : Nat) (S : XS) (T : XT) (P : XP) (R : XR) (i9 : Int32) (o : List Nat) (sz : Nat) (ho : outX ob on o) : Met l yX0_out (ws_ yX0_out cX0_out 2 (some .int)) { frames := 0, cells := 0, slots := 0, locals := 0 } (ctP E [.ref (ad 0), .int i9] sz (fun H => va_P E.1 ct_cl (xw E ad F (ob, on, db, dn) S T P R) H)) (ctR (fun v => v = some (.int (outS o i9)))) 0 0 (fun _ => False) := by
  refine ct_start (by decide) (Nat.le_of_ble_eq_true rfl) ?_
  intro p e s m below meth c ls B hsz hH hl
  have hP := hH
  have hx := B.1
  have hb := B.2.1
  have hl : lv_has ls 2 [(0, .ref (ad 0)), (1, .int i9)] := hl
  have ho1 := ho.1
  have ho2 := ho.2.1
  refine lv_iload_n hx hb dX0_out_0 rfl (lv_at hl 1 rfl) ?_
  refine lv_if_lt (tgt := 31) hx hb dX0_out_1 (by decide) (fun c1 => ?_) (fun c1 => ?_)
  · refine lv_iconst (v := (-1)) hx hb dX0_out_31 (by decide) ?_
    exact ct_iretR (ty := .int) (v := (-1)) B rfl rfl (by rw [outS, ← ho1, idx_neg c1]) dX0_out_32
  · refine lv_iload_n hx hb dX0_out_4 rfl (lv_at hl 1 rfl) ?_
    refine lv_aload_n hx hb dX0_out_5 rfl (lv_at hl 0 rfl) ?_
    refine ct_get (v := .ref (ad 16)) B hP kX0 0 rfl 9 (Nat.le_of_ble_eq_true rfl) q286 rfl dX0_out_6 ?_
    refine ct_get (v := .int (nI on)) B hP kX5 16 rfl 1 (Nat.le_of_ble_eq_true rfl) q271 rfl dX0_out_9 ?_
    refine lv_icmp_ge (tgt := 31) hx hb dX0_out_12 (by decide) (fun c2 => ?_) (fun c2 => ?_)
    · refine lv_iconst (v := (-1)) hx hb dX0_out_31 (by decide) ?_
      exact ct_iretR (ty := .int) (v := (-1)) B rfl rfl (by rw [outS, ← ho1, idx_big (by omega) c2]) dX0_out_32
    · obtain ⟨j, hj, rfl⟩ := idx_of (by omega) c1 c2
      refine lv_aload_n hx hb dX0_out_15 rfl (lv_at hl 0 rfl) ?_
      refine ct_get (v := .ref (ad 16)) B hP kX0 0 rfl 9 (Nat.le_of_ble_eq_true rfl) q286 rfl dX0_out_16 ?_
      refine ct_get (v := .ref (ad 17)) B hP kX5 16 rfl 0 (Nat.le_of_ble_eq_true rfl) q269 rfl dX0_out_19 ?_
      refine lv_iload_n hx hb dX0_out_22 rfl (lv_at hl 1 rfl) ?_
      refine ct_bald (f := ob) B hP 17 rfl (by omega) (by omega) dX0_out_23 ?_
      refine W.eq (g2 := F0 m 24 ls [.int (nI (o.getD j 0))]) (by rw [(ho.2.2.1 j hj)]) ?_
      refine lv_sipush (v := nI 255) hx hb dX0_out_24 (by decide) ?_
      refine lv_iand hx hb dX0_out_27 ?_
      refine W.eq (g2 := F0 m 28 ls [.int (nI (o.getD j 0))]) (by rw [(c_and255 (tx_lt ho.2.2.2 j))]) ?_
      refine lv_goto (tgt := 32) hx hb dX0_out_28 (by decide) ?_
      exact ct_iretR (ty := .int) (v := (nI (o.getD j 0))) B rfl rfl (by rw [outS, ← ho1, idx_in (by omega) hj]) dX0_out_32
set_option maxHeartbeats 4000000 in
set_option maxRecDepth 100000 in
theorem met_X0_row (l : Launch) (E : CE) (ad : Nat → Nat) (tray : Nat → Int32) (trayed : Nat) (fed : Nat) (place : Int32) (picked : Nat → Int64) (pcnt : Nat) (column : Nat → Int64) (O : XO) (S : XS) (T : XT) (P : XP) (R : XR) (r9 : Int32) (pk : List Nat) (sz : Nat) (hpk : pkR picked pcnt pk) : Met l yX0_row (ws_ yX0_row cX0_row 2 (some .int)) { frames := 0, cells := 0, slots := 0, locals := 0 } (ctP E [.ref (ad 0), .int r9] sz (fun H => va_P E.1 ct_cl (xw E ad (tray, trayed, fed, place, picked, pcnt, column) O S T P R) H ∧ va_D (fun q => E.2.2.1 ≤ q) (xw E ad (tray, trayed, fed, place, picked, pcnt, column) O S T P R))) (ctQ (fun v H => ∃ pc2 : Nat → Int64, ∃ n2 : Nat, ∃ r2 : Int32, ∃ pk2 : List Nat, v = some (.int r2) ∧ va_P E.1 ct_cl (xw E ad (tray, trayed, fed, place, pc2, n2, column) O S T P R) H ∧ (pk2, r2) = rowS pk r9 ∧ pkR pc2 n2 pk2) (va_A (xw E ad (tray, trayed, fed, place, picked, pcnt, column) O S T P R) sz)) 0 0 (va_A (xw E ad (tray, trayed, fed, place, picked, pcnt, column) O S T P R) sz) := by
  refine ct_start (by decide) (Nat.le_of_ble_eq_true rfl) ?_
  intro p e s m below meth c ls B hsz hH hl
  obtain ⟨hP, hD⟩ := hH
  obtain ⟨A, hAe, h, hA, hAn⟩ := ct_enter B.2.2.2.2.2.2.2.2 hsz hP hD
  rw [hAe]
  refine ct_gen h (fun H locs h => ?_)
  have hx := B.1
  have hb := B.2.1
  have hl : lv_has ls 2 [(0, .ref (ad 0)), (1, .int r9)] := hl
  have hp1 := hpk.1
  have hp2 := hpk.2.1
  refine lv_iload_n hx hb dX0_row_0 rfl (lv_at hl 1 rfl) ?_
  refine lv_if_lt (tgt := 14) hx hb dX0_row_1 (by decide) (fun c1 => ?_) (fun c1 => ?_)
  · refine lv_iconst (v := (-1)) hx hb dX0_row_14 (by decide) ?_
    exact ct_iret (ty := .int) (v := (-1)) B rfl rfl h.2.2 ⟨picked, pcnt, (-1), pk, rfl, h.1, by rw [rowS, if_neg (fun q9 => by have := Int32.lt_iff_toInt_lt.mp c1; rw [show (0 : Int32).toInt = 0 from rfl] at this; omega)], hpk⟩ dX0_row_15
  · refine lv_aload_n hx hb dX0_row_4 rfl (lv_at hl 0 rfl) ?_
    refine ct_get (v := .int (nI pcnt)) B h.1 kX0 0 rfl 7 (Nat.le_of_ble_eq_true rfl) q284 rfl dX0_row_5 ?_
    refine lv_sipush (v := nI 499) hx hb dX0_row_8 (by decide) ?_
    refine n_icmp_ne (tgt := 16) hx hb dX0_row_11 (by decide) (by omega) (by omega) (fun c499 => ?_) (fun c499 => ?_)
    · obtain ⟨j, hj, rfl⟩ := nI_of c1
      refine lv_aload_n hx hb dX0_row_16 rfl (lv_at hl 0 rfl) ?_
      refine ct_get (v := .ref (ad 14)) B h.1 kX0 0 rfl 6 (Nat.le_of_ble_eq_true rfl) q283 rfl dX0_row_17 ?_
      refine lv_aload_n hx hb dX0_row_20 rfl (lv_at hl 0 rfl) ?_
      refine ct_get (v := .int (nI pcnt)) B h.1 kX0 0 rfl 7 (Nat.le_of_ble_eq_true rfl) q284 rfl dX0_row_21 ?_
      refine lv_iload_n hx hb dX0_row_24 rfl (lv_at hl 1 rfl) ?_
      refine lv_i2l (v := (lN j)) hx hb dX0_row_25 (nI_l hj) ?_
      refine ct_last (ws' := xw E ad (tray, trayed, fed, place, (vp_updL picked pcnt (lN j)), pcnt, column) O S T P R) B h 14 rfl (by omega) (by omega) rfl dX0_row_26 (fun H locs h => ?_)
      refine lv_aload_n hx hb dX0_row_27 rfl (lv_at hl 0 rfl) ?_
      refine lv_dup hx hb dX0_row_28 rfl ?_
      refine ct_get (v := .int (nI pcnt)) B h.1 kX0 0 rfl 7 (Nat.le_of_ble_eq_true rfl) q284 rfl dX0_row_29 ?_
      refine lv_iconst (v := nI 1) hx hb dX0_row_32 (by decide) ?_
      refine n_iadd hx hb dX0_row_33 ?_
      refine ct_put (ws' := xw E ad (tray, trayed, fed, place, (vp_updL picked pcnt (lN j)), pcnt + 1, column) O S T P R) B h kX0 0 rfl 7 (Nat.le_of_ble_eq_true rfl) q284 rfl rfl rfl (Nat.le_of_ble_eq_true rfl) rfl dX0_row_34 (fun H locs h => ?_)
      refine lv_aload_n hx hb dX0_row_37 rfl (lv_at hl 0 rfl) ?_
      refine ct_get (v := .int (nI (pcnt + 1))) B h.1 kX0 0 rfl 7 (Nat.le_of_ble_eq_true rfl) q284 rfl dX0_row_38 ?_
      exact ct_iret (ty := .int) (v := (nI (pcnt + 1))) B rfl rfl h.2.2 ⟨_, _, _, (pk ++ [j]), rfl, h.1, by rw [rowS, nI_toInt hj, if_pos ⟨by omega, by omega⟩, hp1]; rfl, pkR_snoc hpk (by omega) (by omega)⟩ dX0_row_41
    · refine lv_iconst (v := (-1)) hx hb dX0_row_14 (by decide) ?_
      exact ct_iret (ty := .int) (v := (-1)) B rfl rfl h.2.2 ⟨picked, pcnt, (-1), pk, rfl, h.1, by rw [rowS, if_neg (by omega)], hpk⟩ dX0_row_15
set_option maxHeartbeats 4000000 in
set_option maxRecDepth 100000 in
theorem met_X0_named (l : Launch) (E : CE) (ad : Nat → Nat) (tray : Nat → Int32) (trayed : Nat) (fed : Nat) (place : Int32) (picked : Nat → Int64) (pcnt : Nat) (column : Nat → Int64) (O : XO) (S : XS) (made : Nat) (all : Nat → Option Nat) (wn : Nat) (wb : Nat → Int32) (P : XP) (R : XR) (t : Int32) (ts : List Tab) (tx : List Nat) (sz : Nat) (hty : trayed ≤ 16000) (htx : txR tray trayed tx) : Met l yX0_named (ws_ yX0_named cX0_named 5 (some .int)) { frames := 1, cells := 0, slots := 0, locals := 26 } (ctP E [.ref (ad 0), .int t] sz (fun H => va_P E.1 ct_cl (xw E ad (tray, trayed, fed, place, picked, pcnt, column) O S (made, all, wn, wb) P R) H ∧ va_D (fun q => E.2.2.1 ≤ q) (xw E ad (tray, trayed, fed, place, picked, pcnt, column) O S (made, all, wn, wb) P R) ∧ xTabs E ad made all wn wb ts H)) (ctQ (fun v H => v = some (.int (namedS ts t tx)) ∧ va_P E.1 ct_cl (xw E ad (tray, 0, fed, place, picked, pcnt, column) O S (made, all, wn, wb) P R) H) (va_A (xw E ad (tray, trayed, fed, place, picked, pcnt, column) O S (made, all, wn, wb) P R) sz)) 0 0 (va_A (xw E ad (tray, trayed, fed, place, picked, pcnt, column) O S (made, all, wn, wb) P R) sz) := by
  refine ct_start (by decide) (Nat.le_of_ble_eq_true rfl) ?_
  intro p e s m below meth c ls B hsz hH hl
  obtain ⟨hP, hD, hTB⟩ := hH
  obtain ⟨A, hAe, h, hA, hAn⟩ := ct_enter B.2.2.2.2.2.2.2.2 hsz hP hD
  rw [hAe]
  refine ct_gen h (fun H locs h => ?_)
  have hx := B.1
  have hb := B.2.1
  have hl : lv_has ls 5 [(0, .ref (ad 0)), (1, .int t)] := hl
  refine lv_aload_n hx hb dX0_named_0 rfl (lv_at hl 0 rfl) ?_
  refine ct_callQ (ct_runV (As := []) (rest := []) B (met_X0_used l E ad tray trayed fed place picked pcnt column O S (made, all, wn, wb) P R  H.size) (lw_V q329 q331 qs2 q44 q332) (n := 0) ⟨by decide, by decide, by decide +kernel⟩ rfl ⟨rfl, rfl, (Nat.le_of_ble_eq_true rfl), (Nat.le_of_ble_eq_true rfl), (Nat.le_of_ble_eq_true rfl), (Nat.le_of_ble_eq_true rfl)⟩ h.2.2 hA (ct_recv B h.1 kX0 0 rfl) ⟨h.1, (ct_D0 h hA)⟩ hl.1 (Nat.le_of_ble_eq_true rfl) dX0_named_1) h.2.2 (ct_sub h hAn) (ct_sub h hAn) (fun v H locs hv hz hk hS => ?_)
  obtain ⟨rfl, hP1⟩ := hv
  have h : Hs E A s.heap (xw E ad (tray, 0, fed, place, picked, pcnt, column) O S (made, all, wn, wb) P R) H locs := ct_again h hP1 rfl hS
  clear hP1 hS hz hk
  refine W.eq (g2 := F0 m 4 ls [.int (nI trayed)]) rfl ?_
  refine lv_istore_n (lv' := [(2, .int (nI trayed)), (0, .ref (ad 0)), (1, .int t)]) hx hb dX0_named_4 rfl hl (by decide) rfl (fun ls hl => ?_)
  refine lv_aload_n hx hb dX0_named_5 rfl (lv_at hl 1 rfl) ?_
  refine ct_get (v := .ref (ad 3)) B h.1 kX0 0 rfl 4 (Nat.le_of_ble_eq_true rfl) q281 rfl dX0_named_6 ?_
  refine lv_iload_n hx hb dX0_named_9 rfl (lv_at hl 2 rfl) ?_
  refine ct_callR (ct_runV (As := [.int t]) (rest := []) B (met_X2_find l E ad (tray, 0, fed, place, picked, pcnt, column) O S made all wn wb P R t H.size (by have := hTB.2.1; omega)) (lw_V q534 q535 q536 q50 q537) (n := 1) ⟨by decide, by decide, by decide +kernel⟩ rfl ⟨rfl, rfl, (Nat.le_of_ble_eq_true rfl), (Nat.le_of_ble_eq_true rfl), (Nat.le_of_ble_eq_true rfl), (Nat.le_of_ble_eq_true rfl)⟩ h.2.2 hA (ct_recv B h.1 kX2 3 rfl) h.1 hl.1 (Nat.le_of_ble_eq_true rfl) dX0_named_10) (fun v hv => ?_)
  subst hv
  refine W.eq (g2 := F0 m 13 ls [va_rf (fndV made all t)]) rfl ?_
  refine q_astore_n (lv' := [(3, va_rf (fndV made all t)), (2, .int (nI trayed)), (0, .ref (ad 0)), (1, .int t)]) hx hb dX0_named_13 rfl hl (by decide) rfl (fun ls hl => ?_)
  rcases hq : fndV made all t with _ | x9
  · rw [hq] at hl
    have htb := xTabs_none hTB hq
    refine lv_aload_nN hx hb dX0_named_14 rfl (lv_at hl 0 rfl) ?_
    refine lv_ifnonnullN hx hb dX0_named_15 ?_
    refine lv_bipush (v := (-14)) hx hb dX0_named_18 (by decide) ?_
    exact ct_iret (ty := .int) (v := (-14)) B rfl rfl h.2.2 ⟨by rw [namedS, htb], h.1⟩ dX0_named_20
  · rw [hq] at hl
    obtain ⟨tb, q, f, rfl, htb, hap, hTq, hnum, htok⟩ := xTabs_get hTB hq
    obtain ⟨hcs, hrs, htl2, hnm0, hcl0⟩ := htok
    have hmul := mul_cs hcs.2 hrs
    have hNq := apT_N hTq hsz hap (hAe := hAe)
    refine lv_aload_n hx hb dX0_named_14 rfl (lv_at hl 0 rfl) ?_
    refine lv_ifnonnull (tgt := 21) hx hb dX0_named_15 (by decide) ?_
    refine lv_aload_n hx hb dX0_named_21 rfl (lv_at hl 2 rfl) ?_
    refine ct_get (v := .ref (ad 3)) B h.1 kX0 0 rfl 4 (Nat.le_of_ble_eq_true rfl) q281 rfl dX0_named_22 ?_
    refine lv_aload_n hx hb dX0_named_25 rfl (lv_at hl 0 rfl) ?_
    refine lv_aload_n hx hb dX0_named_26 rfl (lv_at hl 2 rfl) ?_
    refine ct_get (v := .ref (ad 1)) B h.1 kX0 0 rfl 0 (Nat.le_of_ble_eq_true rfl) q277 rfl dX0_named_27 ?_
    refine lv_iload_n hx hb dX0_named_30 rfl (lv_at hl 1 rfl) ?_
    refine ct_callR (ct_runV (As := [.ref (q 0), .ref (ad 1), .int (nI trayed)]) (rest := []) B (met_X2_named l E ad tray 0 fed place picked pcnt column O S made all wn wb P R q (tCols tb) (tRows tb) trayed f (nameW tb) tx H.size hcs.2 hty htx (nameW_nm hnm0) hnum.1) (lw_V q546 q547 q548 q50 q549) (n := 3) ⟨by decide, by decide, by decide +kernel⟩ rfl ⟨rfl, rfl, (Nat.le_of_ble_eq_true rfl), (Nat.le_of_ble_eq_true rfl), (Nat.le_of_ble_eq_true rfl), (Nat.le_of_ble_eq_true rfl)⟩ h.2.2 hA (ct_recv B h.1 kX2 3 rfl) ⟨h.1, (ct_keep hTq hNq h.2.2)⟩ hl.1 (Nat.le_of_ble_eq_true rfl) dX0_named_31) (fun v hv => ?_)
    subst hv
    refine W.eq (g2 := F0 m 34 ls [.int (nmF (nameW tb) tx (tCols tb) 0)]) rfl ?_
    refine lv_istore (lv' := [(4, .int (nmF (nameW tb) tx (tCols tb) 0)), (3, .ref (q 0)), (2, .int (nI trayed)), (0, .ref (ad 0)), (1, .int t)]) hx hb dX0_named_34 hl (by decide) rfl (fun ls hl => ?_)
    refine lv_iload hx hb dX0_named_36 (lv_at hl 0 rfl) ?_
    refine lv_if_ge (tgt := 46) hx hb dX0_named_38 (by decide) (fun cn => ?_) (fun cn => ?_)
    · refine lv_iload hx hb dX0_named_46 (lv_at hl 0 rfl) ?_
      exact ct_iret (ty := .int) (v := (nmF (nameW tb) tx (tCols tb) 0)) B rfl rfl h.2.2 ⟨by rw [namedS, htb]; dsimp only; rw [if_neg (Int32.not_lt.mpr cn)] <;> rfl, h.1⟩ dX0_named_48
    · refine lv_bipush (v := (-2)) hx hb dX0_named_41 (by decide) ?_
      refine lv_goto (tgt := 48) hx hb dX0_named_43 (by decide) ?_
      exact ct_iret (ty := .int) (v := (-2)) B rfl rfl h.2.2 ⟨by rw [namedS, htb]; dsimp only; rw [if_pos (Int32.not_le.mp cn)] <;> rfl, h.1⟩ dX0_named_48
set_option maxHeartbeats 4000000 in
set_option maxRecDepth 100000 in
theorem met_X0_value (l : Launch) (E : CE) (ad : Nat → Nat) (tray : Nat → Int32) (trayed : Nat) (fed : Nat) (place : Int32) (picked : Nat → Int64) (pcnt : Nat) (column : Nat → Int64) (O : XO) (S : XS) (made : Nat) (all : Nat → Option Nat) (wn : Nat) (wb : Nat → Int32) (P : XP) (places : Nat → Int32) (other : Nat → Int32) (row : Option Nat) (lane : Int32) (fall : Int32) (ranks : Nat → Int64) (t co rw_ : Int32) (ts : List Tab) (sz : Nat) (hvo : ∀ tb, tabOf ts t = some tb → ∀ j, j < tCols tb → (laneT (tCols tb) (tRows tb) (cellW tb) j) ≠ 8 → ∀ r, r < tRows tb → valOK (laneT (tCols tb) (tRows tb) (cellW tb) j) (cellW tb (tCols tb * r + j))) : Met l yX0_value (ws_ yX0_value cX0_value 5 (some .long)) { frames := 7, cells := 0, slots := 0, locals := 179 } (ctP E [.ref (ad 0), .int t, .int co, .int rw_] sz (fun H => va_P E.1 ct_cl (xw E ad (tray, trayed, fed, place, picked, pcnt, column) O S (made, all, wn, wb) P (places, other, row, lane, fall, ranks)) H ∧ va_D (fun q => E.2.2.1 ≤ q) (xw E ad (tray, trayed, fed, place, picked, pcnt, column) O S (made, all, wn, wb) P (places, other, row, lane, fall, ranks)) ∧ xTabs E ad made all wn wb ts H)) (ctQ (fun v H => ∃ col2 : Nat → Int64, ∃ R2 : XR, v = some (.long (valueS ts t co rw_)) ∧ va_P E.1 ct_cl (xw E ad (tray, trayed, fed, place, picked, pcnt, col2) O S (made, all, wn, wb) P (R2.1, R2.2.1, R2.2.2.1, R2.2.2.2.1, R2.2.2.2.2.1, R2.2.2.2.2.2)) H) (va_A (xw E ad (tray, trayed, fed, place, picked, pcnt, column) O S (made, all, wn, wb) P (places, other, row, lane, fall, ranks)) sz)) 0 0 (va_A (xw E ad (tray, trayed, fed, place, picked, pcnt, column) O S (made, all, wn, wb) P (places, other, row, lane, fall, ranks)) sz) := by
  refine ct_start (by decide) (Nat.le_of_ble_eq_true rfl) ?_
  intro p e s m below meth c ls B hsz hH hl
  obtain ⟨hP, hD, hTB⟩ := hH
  obtain ⟨A, hAe, h, hA, hAn⟩ := ct_enter B.2.2.2.2.2.2.2.2 hsz hP hD
  rw [hAe]
  refine ct_gen h (fun H locs h => ?_)
  have hx := B.1
  have hb := B.2.1
  have hl : lv_has ls 5 [(0, .ref (ad 0)), (1, .int t), (2, .int co), (3, .int rw_)] := hl
  refine lv_aload_n hx hb dX0_value_0 rfl (lv_at hl 0 rfl) ?_
  refine ct_get (v := .ref (ad 3)) B h.1 kX0 0 rfl 4 (Nat.le_of_ble_eq_true rfl) q281 rfl dX0_value_1 ?_
  refine lv_iload_n hx hb dX0_value_4 rfl (lv_at hl 1 rfl) ?_
  refine ct_callR (ct_runV (As := [.int t]) (rest := []) B (met_X2_find l E ad (tray, trayed, fed, place, picked, pcnt, column) O S made all wn wb P (places, other, row, lane, fall, ranks) t H.size (by have := hTB.2.1; omega)) (lw_V q534 q535 q536 q50 q537) (n := 1) ⟨by decide, by decide, by decide +kernel⟩ rfl ⟨rfl, rfl, (Nat.le_of_ble_eq_true rfl), (Nat.le_of_ble_eq_true rfl), (Nat.le_of_ble_eq_true rfl), (Nat.le_of_ble_eq_true rfl)⟩ h.2.2 hA (ct_recv B h.1 kX2 3 rfl) h.1 hl.1 (Nat.le_of_ble_eq_true rfl) dX0_value_5) (fun v hv => ?_)
  subst hv
  refine W.eq (g2 := F0 m 8 ls [va_rf (fndV made all t)]) rfl ?_
  refine q_astore (lv' := [(4, va_rf (fndV made all t)), (0, .ref (ad 0)), (1, .int t), (2, .int co), (3, .int rw_)]) hx hb dX0_value_8 hl (by decide) rfl (fun ls hl => ?_)
  rcases hq : fndV made all t with _ | x9
  · rw [hq] at hl
    have htb := xTabs_none hTB hq
    refine lv_aloadN hx hb dX0_value_10 (lv_at hl 0 rfl) ?_
    refine lv_iload_n hx hb dX0_value_12 rfl (lv_at hl 3 rfl) ?_
    refine lv_iload_n hx hb dX0_value_13 rfl (lv_at hl 4 rfl) ?_
    refine ct_callR (ct_runS (As := [.null, .int co, .int rw_]) (rest := []) B (met_X0_cell_n l E  co rw_ H.size) (lw_S q558 q559 q44 q560) (n := 3) ⟨by decide, by decide, by decide +kernel⟩ rfl ⟨rfl, rfl, (Nat.le_of_ble_eq_true rfl), (Nat.le_of_ble_eq_true rfl), (Nat.le_of_ble_eq_true rfl), (Nat.le_of_ble_eq_true rfl)⟩ h.2.2 hA trivial hl.1 (Nat.le_of_ble_eq_true rfl) dX0_value_14) (fun v hv => ?_)
    subst hv
    refine W.eq (g2 := F0 m 17 ls [.int (-1)]) rfl ?_
    refine lv_if_ge (tgt := 22) hx hb dX0_value_17 (by decide) (fun c_1 => absurd c_1 (by decide)) (fun c_1 => ?_)
    refine lv_lconst (v := 0) hx hb dX0_value_20 (by decide) ?_
    exact ct_lret (v := 0) B h.2.2 ⟨column, (places, other, row, lane, fall, ranks), by rw [valueS, cellS_no htb], h.1⟩ dX0_value_21
  · rw [hq] at hl
    obtain ⟨tb, q, f, rfl, htb, hap, hTq, hnum, htok⟩ := xTabs_get hTB hq
    obtain ⟨hcs, hrs, htl2, hnm0, hcl0⟩ := htok
    have hmul := mul_cs hcs.2 hrs
    have hNq := apT_N hTq hsz hap (hAe := hAe)
    refine lv_aload hx hb dX0_value_10 (lv_at hl 0 rfl) ?_
    refine lv_iload_n hx hb dX0_value_12 rfl (lv_at hl 3 rfl) ?_
    refine lv_iload_n hx hb dX0_value_13 rfl (lv_at hl 4 rfl) ?_
    refine ct_callR (ct_runS (As := [.ref (q 0), .int co, .int rw_]) (rest := []) B (met_X0_cell_t l E  q (tCols tb) (tRows tb) f co rw_ H.size hcs.2 hrs) (lw_S q558 q559 q44 q560) (n := 3) ⟨by decide, by decide, by decide +kernel⟩ rfl ⟨rfl, rfl, (Nat.le_of_ble_eq_true rfl), (Nat.le_of_ble_eq_true rfl), (Nat.le_of_ble_eq_true rfl), (Nat.le_of_ble_eq_true rfl)⟩ h.2.2 hA (ct_keep hTq hNq h.2.2) hl.1 (Nat.le_of_ble_eq_true rfl) dX0_value_14) (fun v hv => ?_)
    subst hv
    refine W.eq (g2 := F0 m 17 ls [.int (ixI (ixO (tCols tb) (tRows tb) co rw_))]) rfl ?_
    rcases hc : ixO (tCols tb) (tRows tb) co rw_ with _ | k9
    · have hcs0 := ixO_none (ts := ts) htb hc
      refine W.eq (g2 := F0 m 17 ls [.int (-1)]) rfl ?_
      refine lv_if_ge (tgt := 22) hx hb dX0_value_17 (by decide) (fun c_2 => absurd c_2 (by decide)) (fun c_2 => ?_)
      refine lv_lconst (v := 0) hx hb dX0_value_20 (by decide) ?_
      exact ct_lret (v := 0) B h.2.2 ⟨column, (places, other, row, lane, fall, ranks), by rw [valueS, hcs0], h.1⟩ dX0_value_21
    · have hid := idx_co (co := co) (rw_ := rw_) (by omega) (by omega) hc
      obtain ⟨j, k, rfl, hj, hk, hcs0⟩ := ixO_some (ts := ts) htb (by omega) (by omega) hc
      obtain ⟨rfl, rfl⟩ := hid j k hj hk rfl
      have hix := ix_lt hj hk
      refine W.eq (g2 := F0 m 17 ls [.int (nI (tCols tb * k + j))]) rfl ?_
      refine n_if_ge (tgt := 22) hx hb dX0_value_17 (by decide) (by omega) ?_
      refine lv_aload_n hx hb dX0_value_22 rfl (lv_at hl 1 rfl) ?_
      refine ct_get (v := .ref (ad 3)) B h.1 kX0 0 rfl 4 (Nat.le_of_ble_eq_true rfl) q281 rfl dX0_value_23 ?_
      refine lv_aload hx hb dX0_value_26 (lv_at hl 0 rfl) ?_
      refine lv_iload_n hx hb dX0_value_28 rfl (lv_at hl 3 rfl) ?_
      refine lv_aload_n hx hb dX0_value_29 rfl (lv_at hl 1 rfl) ?_
      refine ct_get (v := .ref (ad 15)) B h.1 kX0 0 rfl 8 (Nat.le_of_ble_eq_true rfl) q285 rfl dX0_value_30 ?_
      refine ct_callQ (ct_runV (As := [.ref (q 0), .int (nI j), .ref (ad 15)]) (rest := []) B (met_X2_column l E ad tray trayed fed place picked pcnt column O S made all wn wb P places other row lane fall ranks q (tCols tb) (tRows tb) j (laneT (tCols tb) (tRows tb) (cellW tb) j) f (cellW tb) H.size hcs.2 hrs hj (hnum.2.2 j hj) (laneT_le _ _ _ _) hnum.2.1 (fun h9 r h8 => hvo tb htb j hj h9 r h8)) (lw_V q561 q562 q563 q50 q564) (n := 3) ⟨by decide, by decide, by decide +kernel⟩ rfl ⟨rfl, rfl, (Nat.le_of_ble_eq_true rfl), (Nat.le_of_ble_eq_true rfl), (Nat.le_of_ble_eq_true rfl), (Nat.le_of_ble_eq_true rfl)⟩ h.2.2 hA (ct_recv B h.1 kX2 3 rfl) ⟨h.1, (ct_D0 h hA), (ct_keep hTq hNq h.2.2), hap⟩ hl.1 (Nat.le_of_ble_eq_true rfl) dX0_value_33) h.2.2 (ct_sub h hAn) (ct_sub h hAn) (fun v H locs hv hz hk hS => ?_)
      obtain ⟨col_c, R_c, rfl, hP1, hcv⟩ := hv
      have h : Hs E A s.heap (xw E ad (tray, trayed, fed, place, picked, pcnt, col_c) O S (made, all, wn, wb) P (R_c.1, R_c.2.1, R_c.2.2.1, R_c.2.2.2.1, R_c.2.2.2.2.1, R_c.2.2.2.2.2)) H locs := ct_again h hP1 rfl hS
      clear hP1 hS hz hk
      refine W.eq (g2 := F0 m 36 ls []) rfl ?_
      refine lv_aload_n hx hb dX0_value_36 rfl (lv_at hl 1 rfl) ?_
      refine ct_get (v := .ref (ad 15)) B h.1 kX0 0 rfl 8 (Nat.le_of_ble_eq_true rfl) q285 rfl dX0_value_37 ?_
      refine lv_iload_n hx hb dX0_value_40 rfl (lv_at hl 4 rfl) ?_
      refine ct_lald (f := col_c) B h.1 15 rfl (by omega) (by omega) dX0_value_41 ?_
      refine W.eq (g2 := F0 m 42 ls [.long (colV (laneT (tCols tb) (tRows tb) (cellW tb) j) (tCols tb) (tRows tb) (cellW tb) j k)]) (by rw [hcv k hk]) ?_
      exact ct_lret (v := colV (laneT (tCols tb) (tRows tb) (cellW tb) j) (tCols tb) (tRows tb) (cellW tb) j k) B h.2.2 ⟨col_c, R_c, by rw [valueS, hcs0], h.1⟩ dX0_value_42
