theorem missW_of {w : Wd} (h : (if w.2 = true then 1 else 0) = 0 ∧ w.1.length = 0) : missW w := by
  obtain ⟨h1, h2⟩ := h
  refine ⟨List.length_eq_zero_iff.mp h2, ?_⟩
  cases e : w.2 with
  | false => rfl
  | true => rw [e] at h1; cases h1
theorem missW_to {w : Wd} (h : missW w) : (if w.2 = true then 1 else 0) = 0 ∧ w.1.length = 0 := by
  obtain ⟨h1, h2⟩ := h
  rw [h2]
  exact ⟨rfl, by rw [h1]; rfl⟩
set_option maxHeartbeats 4000000 in
set_option maxRecDepth 100000 in
theorem met_X6_place (l : Launch) (E : CE) (b0 b1 b2 b3 b4 b5 b7 trayed fed : Nat) (place : Int32) (tcn wby pcn : Nat) (sz : Nat)  : Met l yX6_place (ws_ yX6_place cX6_place 1 (some .int)) { frames := 0, cells := 0, slots := 0, locals := 0 } (ctP E [.ref b0] sz (fun H => va_P E.1 ct_cl [(b0, .inr (6, [.ref b1, .int (nI trayed), .int (nI fed), .int place, .ref b2, .ref b3, .int (nI tcn), .int (nI wby), .ref b4, .int (nI pcn), .ref b5, .ref b7]))] H)) (ctR (fun v => v = some (.int place))) 0 0 (fun _ => False) := by
  refine ct_start (by decide) (Nat.le_of_ble_eq_true rfl) ?_
  intro p e s m below meth c ls B hsz hH hl
  have hC := hH
  have hx := B.1
  have hb := B.2.1
  have hl : lv_has ls 1 [(0, .ref b0)] := hl
  refine lv_aload_n hx hb dX6_place_0 rfl (lv_at hl 0 rfl) ?_
  refine ct_get (v := .int place) B hC kX6 0 rfl 3 (Nat.le_of_ble_eq_true rfl) q730 rfl dX6_place_1 ?_
  exact ct_iretR (ty := .int) (v := place) B rfl rfl (rfl) dX6_place_4
set_option maxHeartbeats 4000000 in
set_option maxRecDepth 100000 in
theorem met_X6_used (l : Launch) (E : CE) (b0 b1 b2 b3 b4 b5 b7 trayed fed : Nat) (place : Int32) (tcn wby pcn : Nat) (sz : Nat)  : Met l yX6_used (ws_ yX6_used cX6_used 2 (some .int)) { frames := 0, cells := 0, slots := 0, locals := 0 } (ctP E [.ref b0] sz (fun H => va_P E.1 ct_cl ([(b0, .inr (6, [.ref b1, .int (nI trayed), .int (nI fed), .int place, .ref b2, .ref b3, .int (nI tcn), .int (nI wby), .ref b4, .int (nI pcn), .ref b5, .ref b7]))]) H ∧ va_D (fun q => E.2.2.1 ≤ q) ([(b0, .inr (6, [.ref b1, .int (nI trayed), .int (nI fed), .int place, .ref b2, .ref b3, .int (nI tcn), .int (nI wby), .ref b4, .int (nI pcn), .ref b5, .ref b7]))]))) (ctQ (fun v H => v = some (.int (nI trayed)) ∧ va_P E.1 ct_cl ([(b0, .inr (6, [.ref b1, .int (nI 0), .int (nI fed), .int place, .ref b2, .ref b3, .int (nI tcn), .int (nI wby), .ref b4, .int (nI pcn), .ref b5, .ref b7]))]) H ∧ va_D (va_A ([(b0, .inr (6, [.ref b1, .int (nI trayed), .int (nI fed), .int place, .ref b2, .ref b3, .int (nI tcn), .int (nI wby), .ref b4, .int (nI pcn), .ref b5, .ref b7]))]) sz) ([(b0, .inr (6, [.ref b1, .int (nI 0), .int (nI fed), .int place, .ref b2, .ref b3, .int (nI tcn), .int (nI wby), .ref b4, .int (nI pcn), .ref b5, .ref b7]))])) (va_A ([(b0, .inr (6, [.ref b1, .int (nI trayed), .int (nI fed), .int place, .ref b2, .ref b3, .int (nI tcn), .int (nI wby), .ref b4, .int (nI pcn), .ref b5, .ref b7]))]) sz)) 0 0 (va_A ([(b0, .inr (6, [.ref b1, .int (nI trayed), .int (nI fed), .int place, .ref b2, .ref b3, .int (nI tcn), .int (nI wby), .ref b4, .int (nI pcn), .ref b5, .ref b7]))]) sz) := by
  refine ct_start (by decide) (Nat.le_of_ble_eq_true rfl) ?_
  intro p e s m below meth c ls B hsz hH hl
  obtain ⟨hP, hD⟩ := hH
  obtain ⟨A, hAe, h, hA, hAn⟩ := ct_enter B.2.2.2.2.2.2.2.2 hsz hP hD
  rw [hAe]
  refine ct_gen h (fun H locs h => ?_)
  have hx := B.1
  have hb := B.2.1
  have hl : lv_has ls 2 [(0, .ref b0)] := hl
  refine lv_aload_n hx hb dX6_used_0 rfl (lv_at hl 0 rfl) ?_
  refine ct_get (v := .int (nI trayed)) B h.1 kX6 0 rfl 1 (Nat.le_of_ble_eq_true rfl) q728 rfl dX6_used_1 ?_
  refine lv_istore_n (lv' := [(1, .int (nI trayed)), (0, .ref b0)]) hx hb dX6_used_4 rfl hl (by decide) rfl (fun ls hl => ?_)
  refine lv_aload_n hx hb dX6_used_5 rfl (lv_at hl 1 rfl) ?_
  refine lv_iconst (v := nI 0) hx hb dX6_used_6 (by decide) ?_
  refine ct_put (ws' := [(b0, .inr (6, [.ref b1, .int (nI 0), .int (nI fed), .int place, .ref b2, .ref b3, .int (nI tcn), .int (nI wby), .ref b4, .int (nI pcn), .ref b5, .ref b7]))]) B h kX6 0 rfl 1 (Nat.le_of_ble_eq_true rfl) q728 rfl rfl rfl (Nat.le_of_ble_eq_true rfl) rfl dX6_used_7 (fun H locs h => ?_)
  refine lv_iload_n hx hb dX6_used_10 rfl (lv_at hl 0 rfl) ?_
  have h : Hs E A s.heap ([(b0, .inr (6, [.ref b1, .int (nI 0), .int (nI fed), .int place, .ref b2, .ref b3, .int (nI tcn), .int (nI wby), .ref b4, .int (nI pcn), .ref b5, .ref b7]))]) H locs := h
  exact ct_iret (ty := .int) (v := (nI trayed)) B rfl rfl h.2.2 ⟨rfl, h.1, h.2.1⟩ dX6_used_11
set_option maxHeartbeats 4000000 in
set_option maxRecDepth 100000 in
theorem met_X6_isTable (l : Launch) (E : CE) (im : va_W) (b0 b1 b2 b3 b4 b5 b7 trayed fed : Nat) (place : Int32) (tcn wby pcn : Nat) (tabs : Nat → Option Nat) (ts : List Tab) (t : Int32) (sz : Nat) (hmt : mTabs E im tcn tabs wby ts) : Met l yX6_isTable (ws_ yX6_isTable cX6_isTable 2 (some .boolean)) { frames := 0, cells := 0, slots := 0, locals := 0 } (ctP E [.ref b0, .int t] sz (fun H => va_P E.1 ct_cl [(b0, .inr (6, [.ref b1, .int (nI trayed), .int (nI fed), .int place, .ref b2, .ref b3, .int (nI tcn), .int (nI wby), .ref b4, .int (nI pcn), .ref b5, .ref b7])), (b3, .inl (E.2.1 4, 41, .inr (.inr (.inr (.inr tabs)))))] H ∧ va_P E.1 ct_cl im H)) (ctR (fun v => v = some (.int (if (tabOf ts t).isSome = true then 1 else 0)))) 0 0 (fun _ => False) := by
  refine ct_start (by decide) (Nat.le_of_ble_eq_true rfl) ?_
  intro p e s m below meth c ls B hsz hH hl
  obtain ⟨hC, hI⟩ := hH
  have hx := B.1
  have hb := B.2.1
  have hl : lv_has ls 2 [(0, .ref b0), (1, .int t)] := hl
  refine lv_iload_n hx hb dX6_isTable_0 rfl (lv_at hl 1 rfl) ?_
  refine lv_iconst (v := nI 1) hx hb dX6_isTable_1 (by decide) ?_
  refine lv_icmp_lt (tgt := 26) hx hb dX6_isTable_2 (by decide) (fun c1 => ?_) (fun c1 => ?_)
  · refine lv_iconst (v := nI 0) hx hb dX6_isTable_26 (by decide) ?_
    exact ct_iretR (ty := .boolean) (v := (nI 0)) B rfl rfl (by rw [if_neg (by rw [tabOf_lo c1]; decide)] <;> rfl) dX6_isTable_27
  · refine lv_iload_n hx hb dX6_isTable_5 rfl (lv_at hl 1 rfl) ?_
    refine lv_aload_n hx hb dX6_isTable_6 rfl (lv_at hl 0 rfl) ?_
    refine ct_get (v := .int (nI tcn)) B hC kX6 0 rfl 6 (Nat.le_of_ble_eq_true rfl) q733 rfl dX6_isTable_7 ?_
    refine lv_icmp_gt (tgt := 26) hx hb dX6_isTable_10 (by decide) (fun c2 => ?_) (fun c2 => ?_)
    · refine lv_iconst (v := nI 0) hx hb dX6_isTable_26 (by decide) ?_
      exact ct_iretR (ty := .boolean) (v := (nI 0)) B rfl rfl (by rw [if_neg (by rw [tabOf_hi hmt.1 hmt.2.1 c2]; decide)] <;> rfl) dX6_isTable_27
    · obtain ⟨j, hj1, hj2, rfl⟩ := tix (by have := hmt.2.1; omega) c1 c2
      obtain ⟨a9, hta, hjs⟩ := mT_no hmt hj1 hj2
      have h40 := hmt.2.1
      refine lv_aload_n hx hb dX6_isTable_13 rfl (lv_at hl 0 rfl) ?_
      refine ct_get (v := .ref b3) B hC kX6 0 rfl 5 (Nat.le_of_ble_eq_true rfl) q732 rfl dX6_isTable_14 ?_
      refine lv_iload_n hx hb dX6_isTable_17 rfl (lv_at hl 1 rfl) ?_
      refine ct_aald B hC 1 4 rfl rfl (by omega) (by omega) dX6_isTable_18 ?_
      refine W.eq (g2 := F0 m 19 ls [.ref a9]) (by rw [hta] <;> rfl) ?_
      refine lv_ifnull hx hb dX6_isTable_19 ?_
      refine lv_iconst (v := nI 1) hx hb dX6_isTable_22 (by decide) ?_
      refine lv_goto (tgt := 27) hx hb dX6_isTable_23 (by decide) ?_
      exact ct_iretR (ty := .boolean) (v := (nI 1)) B rfl rfl (by rw [if_pos hjs] <;> rfl) dX6_isTable_27
set_option maxHeartbeats 4000000 in
set_option maxRecDepth 100000 in
theorem met_X6_rows (l : Launch) (E : CE) (im : va_W) (b0 b1 b2 b3 b4 b5 b7 trayed fed : Nat) (place : Int32) (tcn wby pcn : Nat) (tabs : Nat → Option Nat) (ts : List Tab) (t : Int32) (sz : Nat) (hmt : mTabs E im tcn tabs wby ts) : Met l yX6_rows (ws_ yX6_rows cX6_rows 2 (some .int)) { frames := 2, cells := 0, slots := 0, locals := 40 } (ctP E [.ref b0, .int t] sz (fun H => va_P E.1 ct_cl [(b0, .inr (6, [.ref b1, .int (nI trayed), .int (nI fed), .int place, .ref b2, .ref b3, .int (nI tcn), .int (nI wby), .ref b4, .int (nI pcn), .ref b5, .ref b7])), (b3, .inl (E.2.1 4, 41, .inr (.inr (.inr (.inr tabs)))))] H ∧ va_P E.1 ct_cl im H)) (ctR (fun v => v = some (.int (rowsS ts t)))) 0 0 (fun _ => False) := by
  refine ct_start (by decide) (Nat.le_of_ble_eq_true rfl) ?_
  intro p e s m below meth c ls B hsz hH hl
  obtain ⟨hC, hI⟩ := hH
  have hx := B.1
  have hb := B.2.1
  have hl : lv_has ls 2 [(0, .ref b0), (1, .int t)] := hl
  refine lv_aload_n hx hb dX6_rows_0 rfl (lv_at hl 0 rfl) ?_
  refine lv_iload_n hx hb dX6_rows_1 rfl (lv_at hl 1 rfl) ?_
  refine ct_callR (ct_runV (As := [.int t]) (rest := []) B (met_X6_isTable l E im b0 b1 b2 b3 b4 b5 b7 trayed fed place tcn wby pcn tabs ts t s.heap.size hmt) (lw_V q1203 q1205 qs38 q54 q1206) (n := 1) ⟨by decide, by decide, by decide +kernel⟩ rfl ⟨rfl, rfl, (Nat.le_of_ble_eq_true rfl), (Nat.le_of_ble_eq_true rfl), (Nat.le_of_ble_eq_true rfl), (Nat.le_of_ble_eq_true rfl)⟩ (va_S.rf (A := fun _ => False)) (fun _ h => h.elim) (ct_recv B hC kX6 0 rfl) ⟨(hC.sub [0, 1] rfl), hI⟩ hl.1 (Nat.le_of_ble_eq_true rfl) dX6_rows_2) (fun v hv => ?_)
  subst hv
  refine W.eq (g2 := F0 m 5 ls [.int (if (tabOf ts t).isSome = true then 1 else 0)]) rfl ?_
  refine b_if_eq (tgt := 20) hx hb dX6_rows_5 (by decide) (fun ct => ?_) (fun ct => ?_)
  · refine lv_bipush (v := (-14)) hx hb dX6_rows_20 (by decide) ?_
    exact ct_iretR (ty := .int) (v := (-14)) B rfl rfl (by rw [rowsS, isSome_none ct]) dX6_rows_22
  · obtain ⟨tb, j, a9, n9, c9, l9, fl, htb, rfl, hj, hta, hma, htl, hml, hfl, hok⟩ := mT_get hmt ct
    obtain ⟨hcs, hrs, htl2, hn20, hc40⟩ := id hok
    refine lv_aload_n hx hb dX6_rows_8 rfl (lv_at hl 0 rfl) ?_
    refine ct_get (v := .ref b3) B hC kX6 0 rfl 5 (Nat.le_of_ble_eq_true rfl) q732 rfl dX6_rows_9 ?_
    refine lv_iload_n hx hb dX6_rows_12 rfl (lv_at hl 1 rfl) ?_
    refine ct_aald B hC 1 4 rfl rfl (by omega) (by omega) dX6_rows_13 ?_
    refine W.eq (g2 := F0 m 14 ls [.ref a9]) (by rw [hta] <;> rfl) ?_
    refine ct_callR (ct_runV (As := []) (rest := []) B (met_X11_rows l E im a9 n9 c9 (some l9) tb s.heap.size htl hok) (lw_V q1158 q1159 q1160 q63 q1161) (n := 0) ⟨by decide, by decide, by decide +kernel⟩ rfl ⟨rfl, rfl, (Nat.le_of_ble_eq_true rfl), (Nat.le_of_ble_eq_true rfl), (Nat.le_of_ble_eq_true rfl), (Nat.le_of_ble_eq_true rfl)⟩ (va_S.rf (A := fun _ => False)) (fun _ h => h.elim) (ct_recv B (ct_sel hI hma) kX11 0 rfl) ⟨((ct_sel hI hma).sub [0] rfl), hI⟩ hl.1 (Nat.le_of_ble_eq_true rfl) dX6_rows_14) (fun v hv => ?_)
    subst hv
    refine W.eq (g2 := F0 m 17 ls [.int (nI (tRows tb))]) rfl ?_
    refine lv_goto (tgt := 22) hx hb dX6_rows_17 (by decide) ?_
    exact ct_iretR (ty := .int) (v := (nI (tRows tb))) B rfl rfl (by rw [rowsS, htb]) dX6_rows_22
set_option maxHeartbeats 4000000 in
set_option maxRecDepth 100000 in
theorem met_X6_columns (l : Launch) (E : CE) (im : va_W) (b0 b1 b2 b3 b4 b5 b7 trayed fed : Nat) (place : Int32) (tcn wby pcn : Nat) (tabs : Nat → Option Nat) (ts : List Tab) (t : Int32) (sz : Nat) (hmt : mTabs E im tcn tabs wby ts) : Met l yX6_columns (ws_ yX6_columns cX6_columns 2 (some .int)) { frames := 1, cells := 0, slots := 0, locals := 21 } (ctP E [.ref b0, .int t] sz (fun H => va_P E.1 ct_cl [(b0, .inr (6, [.ref b1, .int (nI trayed), .int (nI fed), .int place, .ref b2, .ref b3, .int (nI tcn), .int (nI wby), .ref b4, .int (nI pcn), .ref b5, .ref b7])), (b3, .inl (E.2.1 4, 41, .inr (.inr (.inr (.inr tabs)))))] H ∧ va_P E.1 ct_cl im H)) (ctR (fun v => v = some (.int (colsS ts t)))) 0 0 (fun _ => False) := by
  refine ct_start (by decide) (Nat.le_of_ble_eq_true rfl) ?_
  intro p e s m below meth c ls B hsz hH hl
  obtain ⟨hC, hI⟩ := hH
  have hx := B.1
  have hb := B.2.1
  have hl : lv_has ls 2 [(0, .ref b0), (1, .int t)] := hl
  refine lv_aload_n hx hb dX6_columns_0 rfl (lv_at hl 0 rfl) ?_
  refine lv_iload_n hx hb dX6_columns_1 rfl (lv_at hl 1 rfl) ?_
  refine ct_callR (ct_runV (As := [.int t]) (rest := []) B (met_X6_isTable l E im b0 b1 b2 b3 b4 b5 b7 trayed fed place tcn wby pcn tabs ts t s.heap.size hmt) (lw_V q1203 q1205 qs38 q54 q1206) (n := 1) ⟨by decide, by decide, by decide +kernel⟩ rfl ⟨rfl, rfl, (Nat.le_of_ble_eq_true rfl), (Nat.le_of_ble_eq_true rfl), (Nat.le_of_ble_eq_true rfl), (Nat.le_of_ble_eq_true rfl)⟩ (va_S.rf (A := fun _ => False)) (fun _ h => h.elim) (ct_recv B hC kX6 0 rfl) ⟨(hC.sub [0, 1] rfl), hI⟩ hl.1 (Nat.le_of_ble_eq_true rfl) dX6_columns_2) (fun v hv => ?_)
  subst hv
  refine W.eq (g2 := F0 m 5 ls [.int (if (tabOf ts t).isSome = true then 1 else 0)]) rfl ?_
  refine b_if_eq (tgt := 23) hx hb dX6_columns_5 (by decide) (fun ct => ?_) (fun ct => ?_)
  · refine lv_bipush (v := (-14)) hx hb dX6_columns_23 (by decide) ?_
    exact ct_iretR (ty := .int) (v := (-14)) B rfl rfl (by rw [colsS, isSome_none ct]) dX6_columns_25
  · obtain ⟨tb, j, a9, n9, c9, l9, fl, htb, rfl, hj, hta, hma, htl, hml, hfl, hok⟩ := mT_get hmt ct
    obtain ⟨hcs, hrs, htl2, hn20, hc40⟩ := id hok
    refine lv_aload_n hx hb dX6_columns_8 rfl (lv_at hl 0 rfl) ?_
    refine ct_get (v := .ref b3) B hC kX6 0 rfl 5 (Nat.le_of_ble_eq_true rfl) q732 rfl dX6_columns_9 ?_
    refine lv_iload_n hx hb dX6_columns_12 rfl (lv_at hl 1 rfl) ?_
    refine ct_aald B hC 1 4 rfl rfl (by omega) (by omega) dX6_columns_13 ?_
    refine W.eq (g2 := F0 m 14 ls [.ref a9]) (by rw [hta] <;> rfl) ?_
    obtain ⟨fn, fc, hln, hlc, hnm, hce⟩ := id htl
    obtain ⟨mdn, en, hmn⟩ := hln.obj
    refine ct_get (v := .ref n9) B (ct_sel hI hma) kX11 0 rfl 0 (Nat.le_of_ble_eq_true rfl) q830 rfl dX6_columns_14 ?_
    refine ct_callR (ct_runV (As := []) (rest := []) B (met_J10_size l E n9 en tb.1.length mdn s.heap.size) (lw_V q1154 q847 q848 q66 q849) (n := 0) ⟨by decide, by decide, by decide +kernel⟩ rfl ⟨rfl, rfl, (Nat.le_of_ble_eq_true rfl), (Nat.le_of_ble_eq_true rfl), (Nat.le_of_ble_eq_true rfl), (Nat.le_of_ble_eq_true rfl)⟩ (va_S.rf (A := fun _ => False)) (fun _ h => h.elim) (ct_recv B (ct_sel hI hmn) kJ10 0 rfl) ((ct_sel hI hmn).sub [0] rfl) hl.1 (Nat.le_of_ble_eq_true rfl) dX6_columns_17) (fun v hv => ?_)
    subst hv
    refine W.eq (g2 := F0 m 20 ls [.int (nI tb.1.length)]) rfl ?_
    refine lv_goto (tgt := 25) hx hb dX6_columns_20 (by decide) ?_
    exact ct_iretR (ty := .int) (v := (nI tb.1.length)) B rfl rfl (by rw [colsS, htb]; rfl) dX6_columns_25
set_option maxHeartbeats 4000000 in
set_option maxRecDepth 100000 in
theorem met_X6_isColumn (l : Launch) (E : CE) (im : va_W) (b0 b1 b2 b3 b4 b5 b7 trayed fed : Nat) (place : Int32) (tcn wby pcn : Nat) (tabs : Nat → Option Nat) (ts : List Tab) (t co : Int32) (sz : Nat) (hmt : mTabs E im tcn tabs wby ts) : Met l yX6_isColumn (ws_ yX6_isColumn cX6_isColumn 3 (some .boolean)) { frames := 1, cells := 0, slots := 0, locals := 21 } (ctP E [.ref b0, .int t, .int co] sz (fun H => va_P E.1 ct_cl [(b0, .inr (6, [.ref b1, .int (nI trayed), .int (nI fed), .int place, .ref b2, .ref b3, .int (nI tcn), .int (nI wby), .ref b4, .int (nI pcn), .ref b5, .ref b7])), (b3, .inl (E.2.1 4, 41, .inr (.inr (.inr (.inr tabs)))))] H ∧ va_P E.1 ct_cl im H)) (ctR (fun v => v = some (.int (if (colO ts t co).isSome = true then 1 else 0)))) 0 0 (fun _ => False) := by
  refine ct_start (by decide) (Nat.le_of_ble_eq_true rfl) ?_
  intro p e s m below meth c ls B hsz hH hl
  obtain ⟨hC, hI⟩ := hH
  have hx := B.1
  have hb := B.2.1
  have hl : lv_has ls 3 [(0, .ref b0), (1, .int t), (2, .int co)] := hl
  refine lv_aload_n hx hb dX6_isColumn_0 rfl (lv_at hl 0 rfl) ?_
  refine lv_iload_n hx hb dX6_isColumn_1 rfl (lv_at hl 1 rfl) ?_
  refine ct_callR (ct_runV (As := [.int t]) (rest := []) B (met_X6_isTable l E im b0 b1 b2 b3 b4 b5 b7 trayed fed place tcn wby pcn tabs ts t s.heap.size hmt) (lw_V q1203 q1205 qs38 q54 q1206) (n := 1) ⟨by decide, by decide, by decide +kernel⟩ rfl ⟨rfl, rfl, (Nat.le_of_ble_eq_true rfl), (Nat.le_of_ble_eq_true rfl), (Nat.le_of_ble_eq_true rfl), (Nat.le_of_ble_eq_true rfl)⟩ (va_S.rf (A := fun _ => False)) (fun _ h => h.elim) (ct_recv B hC kX6 0 rfl) ⟨(hC.sub [0, 1] rfl), hI⟩ hl.1 (Nat.le_of_ble_eq_true rfl) dX6_isColumn_2) (fun v hv => ?_)
  subst hv
  refine W.eq (g2 := F0 m 5 ls [.int (if (tabOf ts t).isSome = true then 1 else 0)]) rfl ?_
  refine b_if_eq (tgt := 32) hx hb dX6_isColumn_5 (by decide) (fun ct => ?_) (fun ct => ?_)
  · refine lv_iconst (v := nI 0) hx hb dX6_isColumn_32 (by decide) ?_
    exact ct_iretR (ty := .boolean) (v := (nI 0)) B rfl rfl (by rw [if_neg (by rw [colO_n (isSome_none ct)]; decide)] <;> rfl) dX6_isColumn_33
  · obtain ⟨tb, j, a9, n9, c9, l9, fl, htb, rfl, hj, hta, hma, htl, hml, hfl, hok⟩ := mT_get hmt ct
    obtain ⟨hcs, hrs, htl2, hn20, hc40⟩ := id hok
    refine lv_iload_n hx hb dX6_isColumn_8 rfl (lv_at hl 2 rfl) ?_
    refine lv_if_lt (tgt := 32) hx hb dX6_isColumn_9 (by decide) (fun c1 => ?_) (fun c1 => ?_)
    · refine lv_iconst (v := nI 0) hx hb dX6_isColumn_32 (by decide) ?_
      exact ct_iretR (ty := .boolean) (v := (nI 0)) B rfl rfl (by rw [if_neg (by rw [colO_i htb (idx_neg c1)]; decide)] <;> rfl) dX6_isColumn_33
    · refine lv_iload_n hx hb dX6_isColumn_12 rfl (lv_at hl 2 rfl) ?_
      refine lv_aload_n hx hb dX6_isColumn_13 rfl (lv_at hl 0 rfl) ?_
      refine ct_get (v := .ref b3) B hC kX6 0 rfl 5 (Nat.le_of_ble_eq_true rfl) q732 rfl dX6_isColumn_14 ?_
      refine lv_iload_n hx hb dX6_isColumn_17 rfl (lv_at hl 1 rfl) ?_
      refine ct_aald B hC 1 4 rfl rfl (by omega) (by omega) dX6_isColumn_18 ?_
      refine W.eq (g2 := F0 m 19 ls [.ref a9, .int co]) (by rw [hta] <;> rfl) ?_
      obtain ⟨fn, fc, hln, hlc, hnm, hce⟩ := id htl
      obtain ⟨mdn, en, hmn⟩ := hln.obj
      refine ct_get (v := .ref n9) B (ct_sel hI hma) kX11 0 rfl 0 (Nat.le_of_ble_eq_true rfl) q830 rfl dX6_isColumn_19 ?_
      refine ct_callR (ct_runV (As := []) (rest := [.int co]) B (met_J10_size l E n9 en tb.1.length mdn s.heap.size) (lw_V q1154 q847 q848 q66 q849) (n := 0) ⟨by decide, by decide, by decide +kernel⟩ rfl ⟨rfl, rfl, (Nat.le_of_ble_eq_true rfl), (Nat.le_of_ble_eq_true rfl), (Nat.le_of_ble_eq_true rfl), (Nat.le_of_ble_eq_true rfl)⟩ (va_S.rf (A := fun _ => False)) (fun _ h => h.elim) (ct_recv B (ct_sel hI hmn) kJ10 0 rfl) ((ct_sel hI hmn).sub [0] rfl) hl.1 (Nat.le_of_ble_eq_true rfl) dX6_isColumn_22) (fun v hv => ?_)
      subst hv
      refine W.eq (g2 := F0 m 25 ls [.int (nI tb.1.length), .int co]) rfl ?_
      refine lv_icmp_ge (tgt := 32) hx hb dX6_isColumn_25 (by decide) (fun c2 => ?_) (fun c2 => ?_)
      · refine lv_iconst (v := nI 0) hx hb dX6_isColumn_32 (by decide) ?_
        exact ct_iretR (ty := .boolean) (v := (nI 0)) B rfl rfl (by rw [if_neg (by rw [colO_i htb (idx_big (by omega) c2)]; decide)] <;> rfl) dX6_isColumn_33
      · obtain ⟨jj, hjj, rfl⟩ := idx_of (n := tCols tb) (by omega) c1 c2
        refine lv_iconst (v := nI 1) hx hb dX6_isColumn_28 (by decide) ?_
        refine lv_goto (tgt := 33) hx hb dX6_isColumn_29 (by decide) ?_
        exact ct_iretR (ty := .boolean) (v := (nI 1)) B rfl rfl (by rw [if_pos (by rw [colO_s htb (idx_in (by omega) hjj)]; rfl)] <;> rfl) dX6_isColumn_33
set_option maxHeartbeats 4000000 in
set_option maxRecDepth 100000 in
theorem met_X6_isCell (l : Launch) (E : CE) (im : va_W) (b0 b1 b2 b3 b4 b5 b7 trayed fed : Nat) (place : Int32) (tcn wby pcn : Nat) (tabs : Nat → Option Nat) (ts : List Tab) (t co ro : Int32) (sz : Nat) (hmt : mTabs E im tcn tabs wby ts) : Met l yX6_isCell (ws_ yX6_isCell cX6_isCell 4 (some .boolean)) { frames := 2, cells := 0, slots := 0, locals := 43 } (ctP E [.ref b0, .int t, .int co, .int ro] sz (fun H => va_P E.1 ct_cl [(b0, .inr (6, [.ref b1, .int (nI trayed), .int (nI fed), .int place, .ref b2, .ref b3, .int (nI tcn), .int (nI wby), .ref b4, .int (nI pcn), .ref b5, .ref b7])), (b3, .inl (E.2.1 4, 41, .inr (.inr (.inr (.inr tabs)))))] H ∧ va_P E.1 ct_cl im H)) (ctR (fun v => v = some (.int (if (cellS ts t co ro).isSome = true then 1 else 0)))) 0 0 (fun _ => False) := by
  refine ct_start (by decide) (Nat.le_of_ble_eq_true rfl) ?_
  intro p e s m below meth c ls B hsz hH hl
  obtain ⟨hC, hI⟩ := hH
  have hx := B.1
  have hb := B.2.1
  have hl : lv_has ls 4 [(0, .ref b0), (1, .int t), (2, .int co), (3, .int ro)] := hl
  refine lv_aload_n hx hb dX6_isCell_0 rfl (lv_at hl 0 rfl) ?_
  refine lv_iload_n hx hb dX6_isCell_1 rfl (lv_at hl 1 rfl) ?_
  refine lv_iload_n hx hb dX6_isCell_2 rfl (lv_at hl 2 rfl) ?_
  refine ct_callR (ct_runV (As := [.int t, .int co]) (rest := []) B (met_X6_isColumn l E im b0 b1 b2 b3 b4 b5 b7 trayed fed place tcn wby pcn tabs ts t co s.heap.size hmt) (lw_V q1221 q1223 qs39 q54 q1224) (n := 2) ⟨by decide, by decide, by decide +kernel⟩ rfl ⟨rfl, rfl, (Nat.le_of_ble_eq_true rfl), (Nat.le_of_ble_eq_true rfl), (Nat.le_of_ble_eq_true rfl), (Nat.le_of_ble_eq_true rfl)⟩ (va_S.rf (A := fun _ => False)) (fun _ h => h.elim) (ct_recv B hC kX6 0 rfl) ⟨(hC.sub [0, 1] rfl), hI⟩ hl.1 (Nat.le_of_ble_eq_true rfl) dX6_isCell_3) (fun v hv => ?_)
  subst hv
  refine W.eq (g2 := F0 m 6 ls [.int (if (colO ts t co).isSome = true then 1 else 0)]) rfl ?_
  refine b_if_eq (tgt := 30) hx hb dX6_isCell_6 (by decide) (fun cc => ?_) (fun cc => ?_)
  · refine lv_iconst (v := nI 0) hx hb dX6_isCell_30 (by decide) ?_
    exact ct_iretR (ty := .boolean) (v := (nI 0)) B rfl rfl (by rw [if_neg (fun z9 => cc (cellS_is z9).1)] <;> rfl) dX6_isCell_31
  · obtain ⟨hct, hcj⟩ := colO_is cc
    obtain ⟨tb, j, a9, n9, c9, l9, fl, htb, rfl, hj, hta, hma, htl, hml, hfl, hok⟩ := mT_get hmt hct
    obtain ⟨hcs, hrs, htl2, hn20, hc40⟩ := id hok
    obtain ⟨jj, rfl, hjj⟩ := hcj tb htb hcs.2
    refine lv_iload_n hx hb dX6_isCell_9 rfl (lv_at hl 3 rfl) ?_
    refine lv_if_lt (tgt := 30) hx hb dX6_isCell_10 (by decide) (fun c1 => ?_) (fun c1 => ?_)
    · refine lv_iconst (v := nI 0) hx hb dX6_isCell_30 (by decide) ?_
      exact ct_iretR (ty := .boolean) (v := (nI 0)) B rfl rfl (by rw [if_neg (by unfold cellS; rw [htb]; dsimp only; rw [idx_in (by omega) hjj]; dsimp only; rw [idx_neg c1]; exact (fun z9 => by cases z9))] <;> rfl) dX6_isCell_31
    · refine lv_iload_n hx hb dX6_isCell_13 rfl (lv_at hl 3 rfl) ?_
      refine lv_aload_n hx hb dX6_isCell_14 rfl (lv_at hl 0 rfl) ?_
      refine ct_get (v := .ref b3) B hC kX6 0 rfl 5 (Nat.le_of_ble_eq_true rfl) q732 rfl dX6_isCell_15 ?_
      refine lv_iload_n hx hb dX6_isCell_18 rfl (lv_at hl 1 rfl) ?_
      refine ct_aald B hC 1 4 rfl rfl (by omega) (by omega) dX6_isCell_19 ?_
      refine W.eq (g2 := F0 m 20 ls [.ref a9, .int ro]) (by rw [hta] <;> rfl) ?_
      refine ct_callR (ct_runV (As := []) (rest := [.int ro]) B (met_X11_rows l E im a9 n9 c9 (some l9) tb s.heap.size htl hok) (lw_V q1158 q1159 q1160 q63 q1161) (n := 0) ⟨by decide, by decide, by decide +kernel⟩ rfl ⟨rfl, rfl, (Nat.le_of_ble_eq_true rfl), (Nat.le_of_ble_eq_true rfl), (Nat.le_of_ble_eq_true rfl), (Nat.le_of_ble_eq_true rfl)⟩ (va_S.rf (A := fun _ => False)) (fun _ h => h.elim) (ct_recv B (ct_sel hI hma) kX11 0 rfl) ⟨((ct_sel hI hma).sub [0] rfl), hI⟩ hl.1 (Nat.le_of_ble_eq_true rfl) dX6_isCell_20) (fun v hv => ?_)
      subst hv
      refine W.eq (g2 := F0 m 23 ls [.int (nI (tRows tb)), .int ro]) rfl ?_
      refine lv_icmp_ge (tgt := 30) hx hb dX6_isCell_23 (by decide) (fun c2 => ?_) (fun c2 => ?_)
      · refine lv_iconst (v := nI 0) hx hb dX6_isCell_30 (by decide) ?_
        exact ct_iretR (ty := .boolean) (v := (nI 0)) B rfl rfl (by rw [if_neg (by unfold cellS; rw [htb]; dsimp only; rw [idx_in (by omega) hjj]; dsimp only; rw [idx_big (by omega) c2]; exact (fun z9 => by cases z9))] <;> rfl) dX6_isCell_31
      · obtain ⟨kk, hkk, rfl⟩ := idx_of (n := tRows tb) (by omega) c1 c2
        refine lv_iconst (v := nI 1) hx hb dX6_isCell_26 (by decide) ?_
        refine lv_goto (tgt := 31) hx hb dX6_isCell_27 (by decide) ?_
        exact ct_iretR (ty := .boolean) (v := (nI 1)) B rfl rfl (by rw [if_pos (by rw [cellS_s htb hok hjj hkk]; rfl)] <;> rfl) dX6_isCell_31
set_option maxHeartbeats 4000000 in
set_option maxRecDepth 100000 in
theorem met_X6_lane (l : Launch) (E : CE) (im : va_W) (b0 b1 b2 b3 b4 b5 b7 trayed fed : Nat) (place : Int32) (tcn wby pcn : Nat) (tabs : Nat → Option Nat) (ts : List Tab) (t co : Int32) (sz : Nat) (hmt : mTabs E im tcn tabs wby ts) : Met l yX6_lane (ws_ yX6_lane cX6_lane 3 (some .int)) { frames := 2, cells := 0, slots := 0, locals := 43 } (ctP E [.ref b0, .int t, .int co] sz (fun H => va_P E.1 ct_cl [(b0, .inr (6, [.ref b1, .int (nI trayed), .int (nI fed), .int place, .ref b2, .ref b3, .int (nI tcn), .int (nI wby), .ref b4, .int (nI pcn), .ref b5, .ref b7])), (b3, .inl (E.2.1 4, 41, .inr (.inr (.inr (.inr tabs)))))] H ∧ va_P E.1 ct_cl im H)) (ctR (fun v => v = some (.int (laneS ts t co)))) 0 0 (fun _ => False) := by
  refine ct_start (by decide) (Nat.le_of_ble_eq_true rfl) ?_
  intro p e s m below meth c ls B hsz hH hl
  obtain ⟨hC, hI⟩ := hH
  have hx := B.1
  have hb := B.2.1
  have hl : lv_has ls 3 [(0, .ref b0), (1, .int t), (2, .int co)] := hl
  refine lv_aload_n hx hb dX6_lane_0 rfl (lv_at hl 0 rfl) ?_
  refine lv_iload_n hx hb dX6_lane_1 rfl (lv_at hl 1 rfl) ?_
  refine ct_callR (ct_runV (As := [.int t]) (rest := []) B (met_X6_isTable l E im b0 b1 b2 b3 b4 b5 b7 trayed fed place tcn wby pcn tabs ts t s.heap.size hmt) (lw_V q1203 q1205 qs38 q54 q1206) (n := 1) ⟨by decide, by decide, by decide +kernel⟩ rfl ⟨rfl, rfl, (Nat.le_of_ble_eq_true rfl), (Nat.le_of_ble_eq_true rfl), (Nat.le_of_ble_eq_true rfl), (Nat.le_of_ble_eq_true rfl)⟩ (va_S.rf (A := fun _ => False)) (fun _ h => h.elim) (ct_recv B hC kX6 0 rfl) ⟨(hC.sub [0, 1] rfl), hI⟩ hl.1 (Nat.le_of_ble_eq_true rfl) dX6_lane_2) (fun v hv => ?_)
  subst hv
  refine W.eq (g2 := F0 m 5 ls [.int (if (tabOf ts t).isSome = true then 1 else 0)]) rfl ?_
  refine b_if_ne (tgt := 13) hx hb dX6_lane_5 (by decide) (fun ct => ?_) (fun ct => ?_)
  · refine lv_aload_n hx hb dX6_lane_13 rfl (lv_at hl 0 rfl) ?_
    refine lv_iload_n hx hb dX6_lane_14 rfl (lv_at hl 1 rfl) ?_
    refine lv_iload_n hx hb dX6_lane_15 rfl (lv_at hl 2 rfl) ?_
    refine ct_callR (ct_runV (As := [.int t, .int co]) (rest := []) B (met_X6_isColumn l E im b0 b1 b2 b3 b4 b5 b7 trayed fed place tcn wby pcn tabs ts t co s.heap.size hmt) (lw_V q1221 q1223 qs39 q54 q1224) (n := 2) ⟨by decide, by decide, by decide +kernel⟩ rfl ⟨rfl, rfl, (Nat.le_of_ble_eq_true rfl), (Nat.le_of_ble_eq_true rfl), (Nat.le_of_ble_eq_true rfl), (Nat.le_of_ble_eq_true rfl)⟩ (va_S.rf (A := fun _ => False)) (fun _ h => h.elim) (ct_recv B hC kX6 0 rfl) ⟨(hC.sub [0, 1] rfl), hI⟩ hl.1 (Nat.le_of_ble_eq_true rfl) dX6_lane_16) (fun v hv => ?_)
    subst hv
    refine W.eq (g2 := F0 m 19 ls [.int (if (colO ts t co).isSome = true then 1 else 0)]) rfl ?_
    refine b_if_ne (tgt := 27) hx hb dX6_lane_19 (by decide) (fun cc => ?_) (fun cc => ?_)
    · obtain ⟨hct, hcj⟩ := colO_is cc
      obtain ⟨tb, j, a9, n9, c9, l9, fl, htb, rfl, hj, hta, hma, htl, hml, hfl, hok⟩ := mT_get hmt hct
      obtain ⟨hcs, hrs, htl2, hn20, hc40⟩ := id hok
      obtain ⟨jj, rfl, hjj⟩ := hcj tb htb hcs.2
      refine lv_aload_n hx hb dX6_lane_27 rfl (lv_at hl 0 rfl) ?_
      refine ct_get (v := .ref b3) B hC kX6 0 rfl 5 (Nat.le_of_ble_eq_true rfl) q732 rfl dX6_lane_28 ?_
      refine lv_iload_n hx hb dX6_lane_31 rfl (lv_at hl 1 rfl) ?_
      refine ct_aald B hC 1 4 rfl rfl (by omega) (by omega) dX6_lane_32 ?_
      refine W.eq (g2 := F0 m 33 ls [.ref a9]) (by rw [hta] <;> rfl) ?_
      refine ct_get (v := .ref l9) B (ct_sel hI hma) kX11 0 rfl 2 (Nat.le_of_ble_eq_true rfl) q834 rfl dX6_lane_33 ?_
      refine lv_iload_n hx hb dX6_lane_36 rfl (lv_at hl 2 rfl) ?_
      refine ct_iald (f := fl) B (ct_sel hI hml) 0 rfl (by omega) (by omega) dX6_lane_37 ?_
      refine W.eq (g2 := F0 m 38 ls [.int (nI (laneT (tCols tb) (tRows tb) (cellW tb) jj))]) (by rw [(hfl jj hjj)]) ?_
      exact ct_iretR (ty := .int) (v := (nI (laneT (tCols tb) (tRows tb) (cellW tb) jj))) B rfl rfl (by rw [laneS, htb]; dsimp only; rw [idx_in (by omega) hjj]) dX6_lane_38
    · refine lv_bipush (v := (-2)) hx hb dX6_lane_22 (by decide) ?_
      refine lv_goto (tgt := 38) hx hb dX6_lane_24 (by decide) ?_
      exact ct_iretR (ty := .int) (v := (-2)) B rfl rfl (by rw [laneS]; cases e9 : tabOf ts t with | none => rw [e9] at ct; cases ct | some tb9 => dsimp only; cases e8 : idx co (tCols tb9) with | none => rfl | some j9 => exact absurd (by rw [colO_s e9 e8]; rfl) cc) dX6_lane_38
  · refine lv_bipush (v := (-14)) hx hb dX6_lane_8 (by decide) ?_
    refine lv_goto (tgt := 38) hx hb dX6_lane_10 (by decide) ?_
    exact ct_iretR (ty := .int) (v := (-14)) B rfl rfl (by rw [laneS, isSome_none ct]) dX6_lane_38
set_option maxHeartbeats 4000000 in
set_option maxRecDepth 100000 in
theorem met_X6_missing (l : Launch) (E : CE) (im : va_W) (b0 b1 b2 b3 b4 b5 b7 trayed fed : Nat) (place : Int32) (tcn wby pcn : Nat) (tabs : Nat → Option Nat) (ts : List Tab) (t co ro : Int32) (sz : Nat) (hmt : mTabs E im tcn tabs wby ts) : Met l yX6_missing (ws_ yX6_missing cX6_missing 4 (some .boolean)) { frames := 4, cells := 0, slots := 0, locals := 86 } (ctP E [.ref b0, .int t, .int co, .int ro] sz (fun H => va_P E.1 ct_cl [(b0, .inr (6, [.ref b1, .int (nI trayed), .int (nI fed), .int place, .ref b2, .ref b3, .int (nI tcn), .int (nI wby), .ref b4, .int (nI pcn), .ref b5, .ref b7])), (b3, .inl (E.2.1 4, 41, .inr (.inr (.inr (.inr tabs)))))] H ∧ va_P E.1 ct_cl im H)) (ctR (fun v => v = some (.int (missS ts t co ro)))) 0 0 (fun _ => False) := by
  refine ct_start (by decide) (Nat.le_of_ble_eq_true rfl) ?_
  intro p e s m below meth c ls B hsz hH hl
  obtain ⟨hC, hI⟩ := hH
  have hx := B.1
  have hb := B.2.1
  have hl : lv_has ls 4 [(0, .ref b0), (1, .int t), (2, .int co), (3, .int ro)] := hl
  refine lv_aload_n hx hb dX6_missing_0 rfl (lv_at hl 0 rfl) ?_
  refine lv_iload_n hx hb dX6_missing_1 rfl (lv_at hl 1 rfl) ?_
  refine lv_iload_n hx hb dX6_missing_2 rfl (lv_at hl 2 rfl) ?_
  refine lv_iload_n hx hb dX6_missing_3 rfl (lv_at hl 3 rfl) ?_
  refine ct_callR (ct_runV (As := [.int t, .int co, .int ro]) (rest := []) B (met_X6_isCell l E im b0 b1 b2 b3 b4 b5 b7 trayed fed place tcn wby pcn tabs ts t co ro s.heap.size hmt) (lw_V q1229 q1231 qs40 q54 q1232) (n := 3) ⟨by decide, by decide, by decide +kernel⟩ rfl ⟨rfl, rfl, (Nat.le_of_ble_eq_true rfl), (Nat.le_of_ble_eq_true rfl), (Nat.le_of_ble_eq_true rfl), (Nat.le_of_ble_eq_true rfl)⟩ (va_S.rf (A := fun _ => False)) (fun _ h => h.elim) (ct_recv B hC kX6 0 rfl) ⟨(hC.sub [0, 1] rfl), hI⟩ hl.1 (Nat.le_of_ble_eq_true rfl) dX6_missing_4) (fun v hv => ?_)
  subst hv
  refine W.eq (g2 := F0 m 7 ls [.int (if (cellS ts t co ro).isSome = true then 1 else 0)]) rfl ?_
  refine b_if_eq (tgt := 31) hx hb dX6_missing_7 (by decide) (fun ce => ?_) (fun ce => ?_)
  · refine lv_iconst (v := nI 0) hx hb dX6_missing_31 (by decide) ?_
    exact ct_iretR (ty := .boolean) (v := (nI 0)) B rfl rfl (by rw [missS, cellS_n ce] <;> rfl) dX6_missing_32
  · obtain ⟨hcc, hck⟩ := cellS_is ce
    obtain ⟨hct, hcj⟩ := colO_is hcc
    obtain ⟨tb, j, a9, n9, c9, l9, fl, htb, rfl, hj, hta, hma, htl, hml, hfl, hok⟩ := mT_get hmt hct
    obtain ⟨hcs, hrs, htl2, hn20, hc40⟩ := id hok
    obtain ⟨jj, rfl, hjj⟩ := hcj tb htb hcs.2
    obtain ⟨kk, rfl, hkk⟩ := hck tb htb hrs
    have hcS := cellS_s htb hok hjj hkk
    refine lv_aload_n hx hb dX6_missing_10 rfl (lv_at hl 0 rfl) ?_
    refine ct_get (v := .ref b3) B hC kX6 0 rfl 5 (Nat.le_of_ble_eq_true rfl) q732 rfl dX6_missing_11 ?_
    refine lv_iload_n hx hb dX6_missing_14 rfl (lv_at hl 1 rfl) ?_
    refine ct_aald B hC 1 4 rfl rfl (by omega) (by omega) dX6_missing_15 ?_
    refine W.eq (g2 := F0 m 16 ls [.ref a9]) (by rw [hta] <;> rfl) ?_
    refine lv_iload_n hx hb dX6_missing_16 rfl (lv_at hl 3 rfl) ?_
    refine lv_iload_n hx hb dX6_missing_17 rfl (lv_at hl 2 rfl) ?_
    refine ct_callR (ct_runV (As := [.int (nI kk), .int (nI jj)]) (rest := []) B (met_X11_at l E im a9 n9 c9 (some l9) tb kk jj s.heap.size htl hok (by omega) (by omega)) (lw_V q1163 q1164 q1165 q63 q1166) (n := 2) ⟨by decide, by decide, by decide +kernel⟩ rfl ⟨rfl, rfl, (Nat.le_of_ble_eq_true rfl), (Nat.le_of_ble_eq_true rfl), (Nat.le_of_ble_eq_true rfl), (Nat.le_of_ble_eq_true rfl)⟩ (va_S.rf (A := fun _ => False)) (fun _ h => h.elim) (ct_recv B (ct_sel hI hma) kX11 0 rfl) ⟨((ct_sel hI hma).sub [0] rfl), hI⟩ hl.1 (Nat.le_of_ble_eq_true rfl) dX6_missing_18) (fun v hv => ?_)
    obtain ⟨x9, rfl, s9, hx9, hs9⟩ := hv
    refine W.eq (g2 := F0 m 21 ls [.ref x9]) rfl ?_
    refine ct_callR (ct_runV (As := []) (rest := []) B (met_X12_isMissing l E _ x9 s9 (if (cellW tb (tCols tb * kk + jj)).2 = true then 1 else 0) ((cellW tb (tCols tb * kk + jj)).1) s.heap.size (by split <;> omega)) (lw_V q1169 q1170 q1171 q74 q1172) (n := 0) ⟨by decide, by decide, by decide +kernel⟩ rfl ⟨rfl, rfl, (Nat.le_of_ble_eq_true rfl), (Nat.le_of_ble_eq_true rfl), (Nat.le_of_ble_eq_true rfl), (Nat.le_of_ble_eq_true rfl)⟩ (va_S.rf (A := fun _ => False)) (fun _ h => h.elim) (ct_recv B (ct_sel hI (by intro z9 h9; rw [List.mem_singleton.mp h9]; exact hx9)) kX12 0 rfl) ⟨((ct_sel hI (by intro z9 h9; rw [List.mem_singleton.mp h9]; exact hx9)).sub [0] rfl), (hs9.S hI)⟩ hl.1 (Nat.le_of_ble_eq_true rfl) dX6_missing_21) (fun v hv => ?_)
    subst hv
    refine W.eq (g2 := F0 m 24 ls [.int (if (if (cellW tb (tCols tb * kk + jj)).2 = true then 1 else 0) = 0 ∧ ((cellW tb (tCols tb * kk + jj)).1).length = 0 then 1 else 0)]) rfl ?_
    refine b_if_eq (tgt := 31) hx hb dX6_missing_24 (by decide) (fun cm => ?_) (fun cm => ?_)
    · refine lv_iconst (v := nI 0) hx hb dX6_missing_31 (by decide) ?_
      exact ct_iretR (ty := .boolean) (v := (nI 0)) B rfl rfl (by rw [missS, hcS]; show _ = some (Value.int (if missW (cellW tb (tCols tb * kk + jj)) then 1 else 0)); rw [if_neg (fun z9 => cm (missW_to z9))] <;> rfl) dX6_missing_32
    · refine lv_iconst (v := nI 1) hx hb dX6_missing_27 (by decide) ?_
      refine lv_goto (tgt := 32) hx hb dX6_missing_28 (by decide) ?_
      exact ct_iretR (ty := .boolean) (v := (nI 1)) B rfl rfl (by rw [missS, hcS]; show _ = some (Value.int (if missW (cellW tb (tCols tb * kk + jj)) then 1 else 0)); rw [if_pos (missW_of cm)] <;> rfl) dX6_missing_32
set_option maxHeartbeats 4000000 in
set_option maxRecDepth 100000 in
theorem met_X6_length (l : Launch) (E : CE) (im : va_W) (b0 b1 b2 b3 b4 b5 b7 trayed fed : Nat) (place : Int32) (tcn wby pcn : Nat) (tabs : Nat → Option Nat) (ts : List Tab) (t co ro : Int32) (sz : Nat) (hmt : mTabs E im tcn tabs wby ts) : Met l yX6_length (ws_ yX6_length cX6_length 4 (some .int)) { frames := 4, cells := 0, slots := 0, locals := 86 } (ctP E [.ref b0, .int t, .int co, .int ro] sz (fun H => va_P E.1 ct_cl [(b0, .inr (6, [.ref b1, .int (nI trayed), .int (nI fed), .int place, .ref b2, .ref b3, .int (nI tcn), .int (nI wby), .ref b4, .int (nI pcn), .ref b5, .ref b7])), (b3, .inl (E.2.1 4, 41, .inr (.inr (.inr (.inr tabs)))))] H ∧ va_P E.1 ct_cl im H)) (ctR (fun v => v = some (.int (lengthS ts t co ro)))) 0 0 (fun _ => False) := by
  refine ct_start (by decide) (Nat.le_of_ble_eq_true rfl) ?_
  intro p e s m below meth c ls B hsz hH hl
  obtain ⟨hC, hI⟩ := hH
  have hx := B.1
  have hb := B.2.1
  have hl : lv_has ls 4 [(0, .ref b0), (1, .int t), (2, .int co), (3, .int ro)] := hl
  refine lv_aload_n hx hb dX6_length_0 rfl (lv_at hl 0 rfl) ?_
  refine lv_iload_n hx hb dX6_length_1 rfl (lv_at hl 1 rfl) ?_
  refine ct_callR (ct_runV (As := [.int t]) (rest := []) B (met_X6_isTable l E im b0 b1 b2 b3 b4 b5 b7 trayed fed place tcn wby pcn tabs ts t s.heap.size hmt) (lw_V q1203 q1205 qs38 q54 q1206) (n := 1) ⟨by decide, by decide, by decide +kernel⟩ rfl ⟨rfl, rfl, (Nat.le_of_ble_eq_true rfl), (Nat.le_of_ble_eq_true rfl), (Nat.le_of_ble_eq_true rfl), (Nat.le_of_ble_eq_true rfl)⟩ (va_S.rf (A := fun _ => False)) (fun _ h => h.elim) (ct_recv B hC kX6 0 rfl) ⟨(hC.sub [0, 1] rfl), hI⟩ hl.1 (Nat.le_of_ble_eq_true rfl) dX6_length_2) (fun v hv => ?_)
  subst hv
  refine W.eq (g2 := F0 m 5 ls [.int (if (tabOf ts t).isSome = true then 1 else 0)]) rfl ?_
  refine b_if_ne (tgt := 13) hx hb dX6_length_5 (by decide) (fun ct => ?_) (fun ct => ?_)
  · refine lv_aload_n hx hb dX6_length_13 rfl (lv_at hl 0 rfl) ?_
    refine lv_iload_n hx hb dX6_length_14 rfl (lv_at hl 1 rfl) ?_
    refine lv_iload_n hx hb dX6_length_15 rfl (lv_at hl 2 rfl) ?_
    refine lv_iload_n hx hb dX6_length_16 rfl (lv_at hl 3 rfl) ?_
    refine ct_callR (ct_runV (As := [.int t, .int co, .int ro]) (rest := []) B (met_X6_isCell l E im b0 b1 b2 b3 b4 b5 b7 trayed fed place tcn wby pcn tabs ts t co ro s.heap.size hmt) (lw_V q1229 q1231 qs40 q54 q1232) (n := 3) ⟨by decide, by decide, by decide +kernel⟩ rfl ⟨rfl, rfl, (Nat.le_of_ble_eq_true rfl), (Nat.le_of_ble_eq_true rfl), (Nat.le_of_ble_eq_true rfl), (Nat.le_of_ble_eq_true rfl)⟩ (va_S.rf (A := fun _ => False)) (fun _ h => h.elim) (ct_recv B hC kX6 0 rfl) ⟨(hC.sub [0, 1] rfl), hI⟩ hl.1 (Nat.le_of_ble_eq_true rfl) dX6_length_17) (fun v hv => ?_)
    subst hv
    refine W.eq (g2 := F0 m 20 ls [.int (if (cellS ts t co ro).isSome = true then 1 else 0)]) rfl ?_
    refine b_if_ne (tgt := 28) hx hb dX6_length_20 (by decide) (fun ce => ?_) (fun ce => ?_)
    · obtain ⟨hcc, hck⟩ := cellS_is ce
      obtain ⟨hct, hcj⟩ := colO_is hcc
      obtain ⟨tb, j, a9, n9, c9, l9, fl, htb, rfl, hj, hta, hma, htl, hml, hfl, hok⟩ := mT_get hmt hct
      obtain ⟨hcs, hrs, htl2, hn20, hc40⟩ := id hok
      obtain ⟨jj, rfl, hjj⟩ := hcj tb htb hcs.2
      obtain ⟨kk, rfl, hkk⟩ := hck tb htb hrs
      have hcS := cellS_s htb hok hjj hkk
      refine lv_aload_n hx hb dX6_length_28 rfl (lv_at hl 0 rfl) ?_
      refine ct_get (v := .ref b3) B hC kX6 0 rfl 5 (Nat.le_of_ble_eq_true rfl) q732 rfl dX6_length_29 ?_
      refine lv_iload_n hx hb dX6_length_32 rfl (lv_at hl 1 rfl) ?_
      refine ct_aald B hC 1 4 rfl rfl (by omega) (by omega) dX6_length_33 ?_
      refine W.eq (g2 := F0 m 34 ls [.ref a9]) (by rw [hta] <;> rfl) ?_
      refine lv_iload_n hx hb dX6_length_34 rfl (lv_at hl 3 rfl) ?_
      refine lv_iload_n hx hb dX6_length_35 rfl (lv_at hl 2 rfl) ?_
      refine ct_callR (ct_runV (As := [.int (nI kk), .int (nI jj)]) (rest := []) B (met_X11_at l E im a9 n9 c9 (some l9) tb kk jj s.heap.size htl hok (by omega) (by omega)) (lw_V q1163 q1164 q1165 q63 q1166) (n := 2) ⟨by decide, by decide, by decide +kernel⟩ rfl ⟨rfl, rfl, (Nat.le_of_ble_eq_true rfl), (Nat.le_of_ble_eq_true rfl), (Nat.le_of_ble_eq_true rfl), (Nat.le_of_ble_eq_true rfl)⟩ (va_S.rf (A := fun _ => False)) (fun _ h => h.elim) (ct_recv B (ct_sel hI hma) kX11 0 rfl) ⟨((ct_sel hI hma).sub [0] rfl), hI⟩ hl.1 (Nat.le_of_ble_eq_true rfl) dX6_length_36) (fun v hv => ?_)
      obtain ⟨x9, rfl, s9, hx9, hs9⟩ := hv
      refine W.eq (g2 := F0 m 39 ls [.ref x9]) rfl ?_
      refine ct_get (v := .ref s9) B (ct_sel hI (by intro z9 h9; rw [List.mem_singleton.mp h9]; exact hx9)) kX12 0 rfl 0 (Nat.le_of_ble_eq_true rfl) q1118 rfl dX6_length_39 ?_
      refine ct_callR (ct_runV (As := []) (rest := []) B (met_J4_length l E  _ s9 ((cellW tb (tCols tb * kk + jj)).1) s.heap.size) (lw_V q1189 q466 q467 q58 q468) (n := 0) ⟨by decide, by decide, by decide +kernel⟩ rfl ⟨rfl, rfl, (Nat.le_of_ble_eq_true rfl), (Nat.le_of_ble_eq_true rfl), (Nat.le_of_ble_eq_true rfl), (Nat.le_of_ble_eq_true rfl)⟩ (va_S.rf (A := fun _ => False)) (fun _ h => h.elim) (ct_Srecv B (hs9.S hI)) (hs9.S hI) hl.1 (Nat.le_of_ble_eq_true rfl) dX6_length_42) (fun v hv => ?_)
      subst hv
      refine W.eq (g2 := F0 m 45 ls [.int (nI (((cellW tb (tCols tb * kk + jj)).1).length))]) rfl ?_
      exact ct_iretR (ty := .int) (v := (nI (((cellW tb (tCols tb * kk + jj)).1).length))) B rfl rfl (by rw [lengthS, htb]; dsimp only; rw [hcS]; rfl) dX6_length_45
    · refine lv_bipush (v := (-2)) hx hb dX6_length_23 (by decide) ?_
      refine lv_goto (tgt := 45) hx hb dX6_length_25 (by decide) ?_
      exact ct_iretR (ty := .int) (v := (-2)) B rfl rfl (by rw [lengthS]; cases e9 : tabOf ts t with | none => rw [e9] at ct; cases ct | some tb9 => dsimp only; rw [cellS_n ce]) dX6_length_45
  · refine lv_bipush (v := (-14)) hx hb dX6_length_8 (by decide) ?_
    refine lv_goto (tgt := 45) hx hb dX6_length_10 (by decide) ?_
    exact ct_iretR (ty := .int) (v := (-14)) B rfl rfl (by rw [lengthS, isSome_none ct]) dX6_length_45
set_option maxHeartbeats 4000000 in
set_option maxRecDepth 100000 in
theorem met_X6_at (l : Launch) (E : CE) (im : va_W) (b0 b1 b2 b3 b4 b5 b7 trayed fed : Nat) (place : Int32) (tcn wby pcn : Nat) (tabs : Nat → Option Nat) (ts : List Tab) (t co ro ii : Int32) (sz : Nat) (hmt : mTabs E im tcn tabs wby ts) : Met l yX6_at (ws_ yX6_at cX6_at 6 (some .int)) { frames := 4, cells := 0, slots := 0, locals := 86 } (ctP E [.ref b0, .int t, .int co, .int ro, .int ii] sz (fun H => va_P E.1 ct_cl [(b0, .inr (6, [.ref b1, .int (nI trayed), .int (nI fed), .int place, .ref b2, .ref b3, .int (nI tcn), .int (nI wby), .ref b4, .int (nI pcn), .ref b5, .ref b7])), (b3, .inl (E.2.1 4, 41, .inr (.inr (.inr (.inr tabs)))))] H ∧ va_P E.1 ct_cl im H)) (ctR (fun v => v = some (.int (atS ts t co ro ii)))) 0 0 (fun _ => False) := by
  refine ct_start (by decide) (Nat.le_of_ble_eq_true rfl) ?_
  intro p e s m below meth c ls B hsz hH hl
  obtain ⟨hC, hI⟩ := hH
  have hx := B.1
  have hb := B.2.1
  have hl : lv_has ls 6 [(0, .ref b0), (1, .int t), (2, .int co), (3, .int ro), (4, .int ii)] := hl
  refine lv_aload_n hx hb dX6_at_0 rfl (lv_at hl 0 rfl) ?_
  refine lv_iload_n hx hb dX6_at_1 rfl (lv_at hl 1 rfl) ?_
  refine lv_iload_n hx hb dX6_at_2 rfl (lv_at hl 2 rfl) ?_
  refine lv_iload_n hx hb dX6_at_3 rfl (lv_at hl 3 rfl) ?_
  refine ct_callR (ct_runV (As := [.int t, .int co, .int ro]) (rest := []) B (met_X6_isCell l E im b0 b1 b2 b3 b4 b5 b7 trayed fed place tcn wby pcn tabs ts t co ro s.heap.size hmt) (lw_V q1229 q1231 qs40 q54 q1232) (n := 3) ⟨by decide, by decide, by decide +kernel⟩ rfl ⟨rfl, rfl, (Nat.le_of_ble_eq_true rfl), (Nat.le_of_ble_eq_true rfl), (Nat.le_of_ble_eq_true rfl), (Nat.le_of_ble_eq_true rfl)⟩ (va_S.rf (A := fun _ => False)) (fun _ h => h.elim) (ct_recv B hC kX6 0 rfl) ⟨(hC.sub [0, 1] rfl), hI⟩ hl.1 (Nat.le_of_ble_eq_true rfl) dX6_at_4) (fun v hv => ?_)
  subst hv
  refine W.eq (g2 := F0 m 7 ls [.int (if (cellS ts t co ro).isSome = true then 1 else 0)]) rfl ?_
  refine b_if_ne (tgt := 12) hx hb dX6_at_7 (by decide) (fun ce => ?_) (fun ce => ?_)
  · obtain ⟨hcc, hck⟩ := cellS_is ce
    obtain ⟨hct, hcj⟩ := colO_is hcc
    obtain ⟨tb, j, a9, n9, c9, l9, fl, htb, rfl, hj, hta, hma, htl, hml, hfl, hok⟩ := mT_get hmt hct
    obtain ⟨hcs, hrs, htl2, hn20, hc40⟩ := id hok
    obtain ⟨jj, rfl, hjj⟩ := hcj tb htb hcs.2
    obtain ⟨kk, rfl, hkk⟩ := hck tb htb hrs
    have hcS := cellS_s htb hok hjj hkk
    refine lv_aload_n hx hb dX6_at_12 rfl (lv_at hl 0 rfl) ?_
    refine ct_get (v := .ref b3) B hC kX6 0 rfl 5 (Nat.le_of_ble_eq_true rfl) q732 rfl dX6_at_13 ?_
    refine lv_iload_n hx hb dX6_at_16 rfl (lv_at hl 1 rfl) ?_
    refine ct_aald B hC 1 4 rfl rfl (by omega) (by omega) dX6_at_17 ?_
    refine W.eq (g2 := F0 m 18 ls [.ref a9]) (by rw [hta] <;> rfl) ?_
    refine lv_iload_n hx hb dX6_at_18 rfl (lv_at hl 3 rfl) ?_
    refine lv_iload_n hx hb dX6_at_19 rfl (lv_at hl 2 rfl) ?_
    refine ct_callR (ct_runV (As := [.int (nI kk), .int (nI jj)]) (rest := []) B (met_X11_at l E im a9 n9 c9 (some l9) tb kk jj s.heap.size htl hok (by omega) (by omega)) (lw_V q1163 q1164 q1165 q63 q1166) (n := 2) ⟨by decide, by decide, by decide +kernel⟩ rfl ⟨rfl, rfl, (Nat.le_of_ble_eq_true rfl), (Nat.le_of_ble_eq_true rfl), (Nat.le_of_ble_eq_true rfl), (Nat.le_of_ble_eq_true rfl)⟩ (va_S.rf (A := fun _ => False)) (fun _ h => h.elim) (ct_recv B (ct_sel hI hma) kX11 0 rfl) ⟨((ct_sel hI hma).sub [0] rfl), hI⟩ hl.1 (Nat.le_of_ble_eq_true rfl) dX6_at_20) (fun v hv => ?_)
    obtain ⟨x9, rfl, s9, hx9, hs9⟩ := hv
    refine W.eq (g2 := F0 m 23 ls [.ref x9]) rfl ?_
    refine ct_get (v := .ref s9) B (ct_sel hI (by intro z9 h9; rw [List.mem_singleton.mp h9]; exact hx9)) kX12 0 rfl 0 (Nat.le_of_ble_eq_true rfl) q1118 rfl dX6_at_23 ?_
    refine lv_astore (lv' := [(5, .ref s9), (0, .ref b0), (1, .int (nI j)), (2, .int (nI jj)), (3, .int (nI kk)), (4, .int ii)]) hx hb dX6_at_26 hl (by decide) rfl (fun ls hl => ?_)
    refine lv_iload hx hb dX6_at_28 (lv_at hl 5 rfl) ?_
    refine lv_if_lt (tgt := 53) hx hb dX6_at_30 (by decide) (fun c1 => ?_) (fun c1 => ?_)
    · refine lv_iconst (v := (-1)) hx hb dX6_at_53 (by decide) ?_
      exact ct_iretR (ty := .int) (v := (-1)) B rfl rfl (by rw [atS, hcS]; dsimp only; rw [idx_neg c1]) dX6_at_54
    · refine lv_iload hx hb dX6_at_33 (lv_at hl 5 rfl) ?_
      refine lv_aload hx hb dX6_at_35 (lv_at hl 0 rfl) ?_
      refine ct_callR (ct_runV (As := []) (rest := [.int ii]) B (met_J4_length l E  _ s9 ((cellW tb (tCols tb * kk + jj)).1) s.heap.size) (lw_V q1189 q466 q467 q58 q468) (n := 0) ⟨by decide, by decide, by decide +kernel⟩ rfl ⟨rfl, rfl, (Nat.le_of_ble_eq_true rfl), (Nat.le_of_ble_eq_true rfl), (Nat.le_of_ble_eq_true rfl), (Nat.le_of_ble_eq_true rfl)⟩ (va_S.rf (A := fun _ => False)) (fun _ h => h.elim) (ct_Srecv B (hs9.S hI)) (hs9.S hI) hl.1 (Nat.le_of_ble_eq_true rfl) dX6_at_37) (fun v hv => ?_)
      subst hv
      refine W.eq (g2 := F0 m 40 ls [.int (nI (((cellW tb (tCols tb * kk + jj)).1).length)), .int ii]) rfl ?_
      refine lv_icmp_ge (tgt := 53) hx hb dX6_at_40 (by decide) (fun c2 => ?_) (fun c2 => ?_)
      · refine lv_iconst (v := (-1)) hx hb dX6_at_53 (by decide) ?_
        exact ct_iretR (ty := .int) (v := (-1)) B rfl rfl (by rw [atS, hcS]; dsimp only; rw [show idx ii (wordS (tb, jj, kk)).1.length = none from idx_big (by have := (hs9.S hI).small.1; show (cellW tb (tCols tb * kk + jj)).1.length < _; omega) c2]) dX6_at_54
      · have hsm := (hs9.S hI).small
        obtain ⟨i9, hi9, rfl⟩ := idx_of (n := (cellW tb (tCols tb * kk + jj)).1.length) (by omega) c1 c2
        refine lv_aload hx hb dX6_at_43 (lv_at hl 0 rfl) ?_
        refine lv_iload hx hb dX6_at_45 (lv_at hl 5 rfl) ?_
        refine ct_callR (ct_runV (As := [.int (nI i9)]) (rest := []) B (met_J4_charAt l E  _ s9 i9 ((cellW tb (tCols tb * kk + jj)).1) s.heap.size hi9) (lw_V q1190 q476 q477 q58 q478) (n := 1) ⟨by decide, by decide, by decide +kernel⟩ rfl ⟨rfl, rfl, (Nat.le_of_ble_eq_true rfl), (Nat.le_of_ble_eq_true rfl), (Nat.le_of_ble_eq_true rfl), (Nat.le_of_ble_eq_true rfl)⟩ (va_S.rf (A := fun _ => False)) (fun _ h => h.elim) (ct_Srecv B (hs9.S hI)) (hs9.S hI) hl.1 (Nat.le_of_ble_eq_true rfl) dX6_at_47) (fun v hv => ?_)
        subst hv
        refine W.eq (g2 := F0 m 50 ls [.int (nI (((cellW tb (tCols tb * kk + jj)).1).getD i9 0))]) rfl ?_
        refine lv_goto (tgt := 54) hx hb dX6_at_50 (by decide) ?_
        exact ct_iretR (ty := .int) (v := (nI (((cellW tb (tCols tb * kk + jj)).1).getD i9 0))) B rfl rfl (by rw [atS, hcS]; dsimp only; rw [show idx (nI i9) (wordS (tb, jj, kk)).1.length = some i9 from idx_in (by have := (hs9.S hI).small.1; show (cellW tb (tCols tb * kk + jj)).1.length < _; omega) hi9]; rfl) dX6_at_54
  · refine lv_iconst (v := (-1)) hx hb dX6_at_10 (by decide) ?_
    exact ct_iretR (ty := .int) (v := (-1)) B rfl rfl (by rw [atS, cellS_n ce]) dX6_at_11
