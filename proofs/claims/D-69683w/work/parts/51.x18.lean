set_option maxHeartbeats 4000000 in
set_option maxRecDepth 100000 in
theorem met_X0_rows (l : Launch) (E : CE) (ad : Nat → Nat) (F : XF) (O : XO) (S : XS) (made : Nat) (all : Nat → Option Nat) (wn : Nat) (wb : Nat → Int32) (P : XP) (R : XR) (t : Int32) (ts : List Tab) (sz : Nat)  : Met l yX0_rows (ws_ yX0_rows cX0_rows 3 (some .int)) { frames := 1, cells := 0, slots := 0, locals := 21 } (ctP E [.ref (ad 0), .int t] sz (fun H => va_P E.1 ct_cl (xw E ad F O S (made, all, wn, wb) P R) H ∧ xTabs E ad made all wn wb ts H)) (ctR (fun v => v = some (.int (rowsS ts t)))) 0 0 (fun _ => False) := by
  refine ct_start (by decide) (Nat.le_of_ble_eq_true rfl) ?_
  intro p e s m below meth c ls B hsz hH hl
  obtain ⟨hP, hTB⟩ := hH
  have hx := B.1
  have hb := B.2.1
  have hl : lv_has ls 3 [(0, .ref (ad 0)), (1, .int t)] := hl
  refine lv_aload_n hx hb dX0_rows_0 rfl (lv_at hl 0 rfl) ?_
  refine ct_get (v := .ref (ad 3)) B hP kX0 0 rfl 4 (Nat.le_of_ble_eq_true rfl) q281 rfl dX0_rows_1 ?_
  refine lv_iload_n hx hb dX0_rows_4 rfl (lv_at hl 1 rfl) ?_
  refine ct_callR (ct_runV (As := [.int t]) (rest := []) B (met_X2_find l E ad F O S made all wn wb P R t s.heap.size (by have := hTB.2.1; omega)) (lw_V q534 q535 q536 q50 q537) (n := 1) ⟨by decide, by decide, by decide +kernel⟩ rfl ⟨rfl, rfl, (Nat.le_of_ble_eq_true rfl), (Nat.le_of_ble_eq_true rfl), (Nat.le_of_ble_eq_true rfl), (Nat.le_of_ble_eq_true rfl)⟩ (va_S.rf (A := fun _ => False)) (fun _ h => h.elim) (ct_recv B hP kX2 3 rfl) hP hl.1 (Nat.le_of_ble_eq_true rfl) dX0_rows_5) (fun v hv => ?_)
  subst hv
  refine W.eq (g2 := F0 m 8 ls [va_rf (fndV made all t)]) rfl ?_
  refine q_astore_n (lv' := [(2, va_rf (fndV made all t)), (0, .ref (ad 0)), (1, .int t)]) hx hb dX0_rows_8 rfl hl (by decide) rfl (fun ls hl => ?_)
  rcases hq : fndV made all t with _ | x9
  · rw [hq] at hl
    have htb := xTabs_none hTB hq
    refine lv_aload_nN hx hb dX0_rows_9 rfl (lv_at hl 0 rfl) ?_
    refine lv_ifnonnullN hx hb dX0_rows_10 ?_
    refine lv_bipush (v := (-14)) hx hb dX0_rows_13 (by decide) ?_
    refine lv_goto (tgt := 22) hx hb dX0_rows_15 (by decide) ?_
    exact ct_iretR (ty := .int) (v := (-14)) B rfl rfl (by rw [rowsS, htb]) dX0_rows_22
  · rw [hq] at hl
    obtain ⟨tb, q, f, rfl, htb, hap, hTq, hnum, htok⟩ := xTabs_get hTB hq
    obtain ⟨hcs, hrs, htl2, hnm0, hcl0⟩ := htok
    have hmul := mul_cs hcs.2 hrs
    refine lv_aload_n hx hb dX0_rows_9 rfl (lv_at hl 0 rfl) ?_
    refine lv_ifnonnull (tgt := 18) hx hb dX0_rows_10 (by decide) ?_
    refine lv_aload_n hx hb dX0_rows_18 rfl (lv_at hl 0 rfl) ?_
    refine ct_get (v := .int (nI (tRows tb))) B hTq kX9 0 rfl 1 (Nat.le_of_ble_eq_true rfl) q395 rfl dX0_rows_19 ?_
    exact ct_iretR (ty := .int) (v := (nI (tRows tb))) B rfl rfl (by rw [rowsS, htb]) dX0_rows_22
set_option maxHeartbeats 4000000 in
set_option maxRecDepth 100000 in
theorem met_X0_columns (l : Launch) (E : CE) (ad : Nat → Nat) (F : XF) (O : XO) (S : XS) (made : Nat) (all : Nat → Option Nat) (wn : Nat) (wb : Nat → Int32) (P : XP) (R : XR) (t : Int32) (ts : List Tab) (sz : Nat)  : Met l yX0_columns (ws_ yX0_columns cX0_columns 3 (some .int)) { frames := 1, cells := 0, slots := 0, locals := 21 } (ctP E [.ref (ad 0), .int t] sz (fun H => va_P E.1 ct_cl (xw E ad F O S (made, all, wn, wb) P R) H ∧ xTabs E ad made all wn wb ts H)) (ctR (fun v => v = some (.int (colsS ts t)))) 0 0 (fun _ => False) := by
  refine ct_start (by decide) (Nat.le_of_ble_eq_true rfl) ?_
  intro p e s m below meth c ls B hsz hH hl
  obtain ⟨hP, hTB⟩ := hH
  have hx := B.1
  have hb := B.2.1
  have hl : lv_has ls 3 [(0, .ref (ad 0)), (1, .int t)] := hl
  refine lv_aload_n hx hb dX0_columns_0 rfl (lv_at hl 0 rfl) ?_
  refine ct_get (v := .ref (ad 3)) B hP kX0 0 rfl 4 (Nat.le_of_ble_eq_true rfl) q281 rfl dX0_columns_1 ?_
  refine lv_iload_n hx hb dX0_columns_4 rfl (lv_at hl 1 rfl) ?_
  refine ct_callR (ct_runV (As := [.int t]) (rest := []) B (met_X2_find l E ad F O S made all wn wb P R t s.heap.size (by have := hTB.2.1; omega)) (lw_V q534 q535 q536 q50 q537) (n := 1) ⟨by decide, by decide, by decide +kernel⟩ rfl ⟨rfl, rfl, (Nat.le_of_ble_eq_true rfl), (Nat.le_of_ble_eq_true rfl), (Nat.le_of_ble_eq_true rfl), (Nat.le_of_ble_eq_true rfl)⟩ (va_S.rf (A := fun _ => False)) (fun _ h => h.elim) (ct_recv B hP kX2 3 rfl) hP hl.1 (Nat.le_of_ble_eq_true rfl) dX0_columns_5) (fun v hv => ?_)
  subst hv
  refine W.eq (g2 := F0 m 8 ls [va_rf (fndV made all t)]) rfl ?_
  refine q_astore_n (lv' := [(2, va_rf (fndV made all t)), (0, .ref (ad 0)), (1, .int t)]) hx hb dX0_columns_8 rfl hl (by decide) rfl (fun ls hl => ?_)
  rcases hq : fndV made all t with _ | x9
  · rw [hq] at hl
    have htb := xTabs_none hTB hq
    refine lv_aload_nN hx hb dX0_columns_9 rfl (lv_at hl 0 rfl) ?_
    refine lv_ifnonnullN hx hb dX0_columns_10 ?_
    refine lv_bipush (v := (-14)) hx hb dX0_columns_13 (by decide) ?_
    refine lv_goto (tgt := 22) hx hb dX0_columns_15 (by decide) ?_
    exact ct_iretR (ty := .int) (v := (-14)) B rfl rfl (by rw [colsS, htb]) dX0_columns_22
  · rw [hq] at hl
    obtain ⟨tb, q, f, rfl, htb, hap, hTq, hnum, htok⟩ := xTabs_get hTB hq
    obtain ⟨hcs, hrs, htl2, hnm0, hcl0⟩ := htok
    have hmul := mul_cs hcs.2 hrs
    refine lv_aload_n hx hb dX0_columns_9 rfl (lv_at hl 0 rfl) ?_
    refine lv_ifnonnull (tgt := 18) hx hb dX0_columns_10 (by decide) ?_
    refine lv_aload_n hx hb dX0_columns_18 rfl (lv_at hl 0 rfl) ?_
    refine ct_get (v := .int (nI (tCols tb))) B hTq kX9 0 rfl 0 (Nat.le_of_ble_eq_true rfl) q392 rfl dX0_columns_19 ?_
    exact ct_iretR (ty := .int) (v := (nI (tCols tb))) B rfl rfl (by rw [colsS, htb]) dX0_columns_22
set_option maxHeartbeats 4000000 in
set_option maxRecDepth 100000 in
theorem met_X0_lane (l : Launch) (E : CE) (ad : Nat → Nat) (F : XF) (O : XO) (S : XS) (made : Nat) (all : Nat → Option Nat) (wn : Nat) (wb : Nat → Int32) (P : XP) (R : XR) (t co : Int32) (ts : List Tab) (sz : Nat)  : Met l yX0_lane (ws_ yX0_lane cX0_lane 4 (some .int)) { frames := 1, cells := 0, slots := 0, locals := 21 } (ctP E [.ref (ad 0), .int t, .int co] sz (fun H => va_P E.1 ct_cl (xw E ad F O S (made, all, wn, wb) P R) H ∧ xTabs E ad made all wn wb ts H)) (ctR (fun v => v = some (.int (laneS ts t co)))) 0 0 (fun _ => False) := by
  refine ct_start (by decide) (Nat.le_of_ble_eq_true rfl) ?_
  intro p e s m below meth c ls B hsz hH hl
  obtain ⟨hP, hTB⟩ := hH
  have hx := B.1
  have hb := B.2.1
  have hl : lv_has ls 4 [(0, .ref (ad 0)), (1, .int t), (2, .int co)] := hl
  refine lv_aload_n hx hb dX0_lane_0 rfl (lv_at hl 0 rfl) ?_
  refine ct_get (v := .ref (ad 3)) B hP kX0 0 rfl 4 (Nat.le_of_ble_eq_true rfl) q281 rfl dX0_lane_1 ?_
  refine lv_iload_n hx hb dX0_lane_4 rfl (lv_at hl 1 rfl) ?_
  refine ct_callR (ct_runV (As := [.int t]) (rest := []) B (met_X2_find l E ad F O S made all wn wb P R t s.heap.size (by have := hTB.2.1; omega)) (lw_V q534 q535 q536 q50 q537) (n := 1) ⟨by decide, by decide, by decide +kernel⟩ rfl ⟨rfl, rfl, (Nat.le_of_ble_eq_true rfl), (Nat.le_of_ble_eq_true rfl), (Nat.le_of_ble_eq_true rfl), (Nat.le_of_ble_eq_true rfl)⟩ (va_S.rf (A := fun _ => False)) (fun _ h => h.elim) (ct_recv B hP kX2 3 rfl) hP hl.1 (Nat.le_of_ble_eq_true rfl) dX0_lane_5) (fun v hv => ?_)
  subst hv
  refine W.eq (g2 := F0 m 8 ls [va_rf (fndV made all t)]) rfl ?_
  refine q_astore_n (lv' := [(3, va_rf (fndV made all t)), (0, .ref (ad 0)), (1, .int t), (2, .int co)]) hx hb dX0_lane_8 rfl hl (by decide) rfl (fun ls hl => ?_)
  rcases hq : fndV made all t with _ | x9
  · rw [hq] at hl
    have htb := xTabs_none hTB hq
    refine lv_aload_nN hx hb dX0_lane_9 rfl (lv_at hl 0 rfl) ?_
    refine lv_ifnonnullN hx hb dX0_lane_10 ?_
    refine lv_bipush (v := (-14)) hx hb dX0_lane_13 (by decide) ?_
    exact ct_iretR (ty := .int) (v := (-14)) B rfl rfl (by rw [laneS, htb]) dX0_lane_15
  · rw [hq] at hl
    obtain ⟨tb, q, f, rfl, htb, hap, hTq, hnum, htok⟩ := xTabs_get hTB hq
    obtain ⟨hcs, hrs, htl2, hnm0, hcl0⟩ := htok
    have hmul := mul_cs hcs.2 hrs
    refine lv_aload_n hx hb dX0_lane_9 rfl (lv_at hl 0 rfl) ?_
    refine lv_ifnonnull (tgt := 16) hx hb dX0_lane_10 (by decide) ?_
    refine lv_iload_n hx hb dX0_lane_16 rfl (lv_at hl 3 rfl) ?_
    refine lv_if_lt (tgt := 37) hx hb dX0_lane_17 (by decide) (fun c1 => ?_) (fun c1 => ?_)
    · refine lv_bipush (v := (-2)) hx hb dX0_lane_37 (by decide) ?_
      exact ct_iretR (ty := .int) (v := (-2)) B rfl rfl (by rw [laneS, htb]; dsimp only; rw [idx_neg c1]) dX0_lane_39
    · refine lv_iload_n hx hb dX0_lane_20 rfl (lv_at hl 3 rfl) ?_
      refine lv_aload_n hx hb dX0_lane_21 rfl (lv_at hl 0 rfl) ?_
      refine ct_get (v := .int (nI (tCols tb))) B hTq kX9 0 rfl 0 (Nat.le_of_ble_eq_true rfl) q392 rfl dX0_lane_22 ?_
      refine lv_icmp_ge (tgt := 37) hx hb dX0_lane_25 (by decide) (fun c2 => ?_) (fun c2 => ?_)
      · refine lv_bipush (v := (-2)) hx hb dX0_lane_37 (by decide) ?_
        exact ct_iretR (ty := .int) (v := (-2)) B rfl rfl (by rw [laneS, htb]; dsimp only; rw [idx_big (by omega) c2]) dX0_lane_39
      · obtain ⟨j, hj, rfl⟩ := idx_of (by omega) c1 c2
        refine lv_aload_n hx hb dX0_lane_28 rfl (lv_at hl 0 rfl) ?_
        refine ct_get (v := .ref (q 5)) B hTq kX9 0 rfl 6 (Nat.le_of_ble_eq_true rfl) q407 rfl dX0_lane_29 ?_
        refine lv_iload_n hx hb dX0_lane_32 rfl (lv_at hl 3 rfl) ?_
        refine ct_iald (f := f 4) B hTq 5 rfl (by omega) (by omega) dX0_lane_33 ?_
        refine W.eq (g2 := F0 m 34 ls [.int (nI (laneT (tCols tb) (tRows tb) (cellW tb) j))]) (by rw [(hnum.2.2 j hj)]) ?_
        refine lv_goto (tgt := 39) hx hb dX0_lane_34 (by decide) ?_
        exact ct_iretR (ty := .int) (v := (nI (laneT (tCols tb) (tRows tb) (cellW tb) j))) B rfl rfl (by rw [laneS, htb]; dsimp only; rw [idx_in (by omega) hj]) dX0_lane_39
set_option maxHeartbeats 4000000 in
set_option maxRecDepth 100000 in
theorem met_X0_cell_n (l : Launch) (E : CE)  (co rw_ : Int32) (sz : Nat)  : Met l yX0_cell (ws_ yX0_cell cX0_cell 3 (some .int)) { frames := 0, cells := 0, slots := 0, locals := 0 } (ctP E [.null, .int co, .int rw_] sz (fun H => True)) (ctR (fun v => v = some (.int (-1)))) 0 0 (fun _ => False) := by
  refine ct_start (by decide) (Nat.le_of_ble_eq_true rfl) ?_
  intro p e s m below meth c ls B hsz hH hl
  have hx := B.1
  have hb := B.2.1
  have hl : lv_has ls 3 [(0, .null), (1, .int co), (2, .int rw_)] := hl
  refine lv_aload_nN hx hb dX0_cell_0 rfl (lv_at hl 0 rfl) ?_
  refine lv_ifnullN (tgt := 39) hx hb dX0_cell_1 (by decide) ?_
  refine lv_iconst (v := (-1)) hx hb dX0_cell_39 (by decide) ?_
  exact ct_iretR (ty := .int) (v := (-1)) B rfl rfl (rfl) dX0_cell_40
set_option maxHeartbeats 4000000 in
set_option maxRecDepth 100000 in
theorem met_X0_cell_t (l : Launch) (E : CE)  (q : Nat → Nat) (cols rows : Nat) (f : Nat → Nat → Int32) (co rw_ : Int32) (sz : Nat) (hcs : cols ≤ 16) (hrs : rows ≤ 499) : Met l yX0_cell (ws_ yX0_cell cX0_cell 3 (some .int)) { frames := 0, cells := 0, slots := 0, locals := 0 } (ctP E [.ref (q 0), .int co, .int rw_] sz (fun H => va_P E.1 ct_cl (tw E q cols rows f) H)) (ctR (fun v => v = some (.int (ixI (ixO cols rows co rw_))))) 0 0 (fun _ => False) := by
  refine ct_start (by decide) (Nat.le_of_ble_eq_true rfl) ?_
  intro p e s m below meth c ls B hsz hH hl
  have hT0 := hH
  have hx := B.1
  have hb := B.2.1
  have hl : lv_has ls 3 [(0, .ref (q 0)), (1, .int co), (2, .int rw_)] := hl
  refine lv_aload_n hx hb dX0_cell_0 rfl (lv_at hl 0 rfl) ?_
  refine lv_ifnull hx hb dX0_cell_1 ?_
  refine lv_iload_n hx hb dX0_cell_4 rfl (lv_at hl 1 rfl) ?_
  refine lv_if_lt (tgt := 39) hx hb dX0_cell_5 (by decide) (fun c1 => ?_) (fun c1 => ?_)
  · refine lv_iconst (v := (-1)) hx hb dX0_cell_39 (by decide) ?_
    exact ct_iretR (ty := .int) (v := (-1)) B rfl rfl (by rw [ixO, idx_neg c1]; rfl) dX0_cell_40
  · refine lv_iload_n hx hb dX0_cell_8 rfl (lv_at hl 1 rfl) ?_
    refine lv_aload_n hx hb dX0_cell_9 rfl (lv_at hl 0 rfl) ?_
    refine ct_get (v := .int (nI cols)) B hT0 kX9 0 rfl 0 (Nat.le_of_ble_eq_true rfl) q392 rfl dX0_cell_10 ?_
    refine lv_icmp_ge (tgt := 39) hx hb dX0_cell_13 (by decide) (fun c2 => ?_) (fun c2 => ?_)
    · refine lv_iconst (v := (-1)) hx hb dX0_cell_39 (by decide) ?_
      exact ct_iretR (ty := .int) (v := (-1)) B rfl rfl (by rw [ixO, idx_big (by omega) c2]; rfl) dX0_cell_40
    · refine lv_iload_n hx hb dX0_cell_16 rfl (lv_at hl 2 rfl) ?_
      refine lv_if_lt (tgt := 39) hx hb dX0_cell_17 (by decide) (fun c3 => ?_) (fun c3 => ?_)
      · refine lv_iconst (v := (-1)) hx hb dX0_cell_39 (by decide) ?_
        exact ct_iretR (ty := .int) (v := (-1)) B rfl rfl (by rw [ixO]; cases idx co cols <;> dsimp only <;> first | rfl | (rw [idx_neg c3]; rfl)) dX0_cell_40
      · refine lv_iload_n hx hb dX0_cell_20 rfl (lv_at hl 2 rfl) ?_
        refine lv_aload_n hx hb dX0_cell_21 rfl (lv_at hl 0 rfl) ?_
        refine ct_get (v := .int (nI rows)) B hT0 kX9 0 rfl 1 (Nat.le_of_ble_eq_true rfl) q395 rfl dX0_cell_22 ?_
        refine lv_icmp_ge (tgt := 39) hx hb dX0_cell_25 (by decide) (fun c4 => ?_) (fun c4 => ?_)
        · refine lv_iconst (v := (-1)) hx hb dX0_cell_39 (by decide) ?_
          exact ct_iretR (ty := .int) (v := (-1)) B rfl rfl (by rw [ixO]; cases idx co cols <;> dsimp only <;> first | rfl | (rw [idx_big (by omega) c4]; rfl)) dX0_cell_40
        · obtain ⟨j, hj, rfl⟩ := idx_of (by omega) c1 c2
          obtain ⟨k, hk, rfl⟩ := idx_of (by omega) c3 c4
          refine lv_aload_n hx hb dX0_cell_28 rfl (lv_at hl 0 rfl) ?_
          refine ct_get (v := .int (nI cols)) B hT0 kX9 0 rfl 0 (Nat.le_of_ble_eq_true rfl) q392 rfl dX0_cell_29 ?_
          refine lv_iload_n hx hb dX0_cell_32 rfl (lv_at hl 2 rfl) ?_
          refine n_imul hx hb dX0_cell_33 ?_
          refine lv_iload_n hx hb dX0_cell_34 rfl (lv_at hl 1 rfl) ?_
          refine n_iadd hx hb dX0_cell_35 ?_
          refine lv_goto (tgt := 40) hx hb dX0_cell_36 (by decide) ?_
          exact ct_iretR (ty := .int) (v := (nI (cols * k + j))) B rfl rfl (by rw [ixO, idx_in (by omega) hj]; dsimp only; rw [idx_in (by omega) hk]; rfl) dX0_cell_40
theorem ixO_none {ts : List Tab} {t co rw_ : Int32} {tb : Tab} (htb : tabOf ts t = some tb) (h : ixO (tCols tb) (tRows tb) co rw_ = none) : cellS ts t co rw_ = none := by
  unfold ixO at h
  unfold cellS
  rw [htb]
  dsimp only
  cases h1 : idx co (tCols tb) with
  | none => rfl
  | some j =>
    rw [h1] at h
    dsimp only at h ⊢
    cases h2 : idx rw_ (tRows tb) with
    | none => rfl
    | some k => rw [h2] at h; cases h
theorem idx_some {x : Int32} {n j : Nat} (hn : n < 2 ^ 31) (h : idx x n = some j) : j < n ∧ x = nI j := by
  unfold idx at h
  split at h
  · rename_i hr
    cases h
    refine ⟨by omega, ?_⟩
    apply Int32.toInt_inj.mp
    rw [nI_toInt (by omega)]
    omega
  · cases h
theorem ixO_some {ts : List Tab} {t co rw_ : Int32} {tb : Tab} {k9 : Nat} (htb : tabOf ts t = some tb) (hc : tCols tb < 2 ^ 31) (hr : tRows tb < 2 ^ 31) (h : ixO (tCols tb) (tRows tb) co rw_ = some k9) : ∃ j k, k9 = tCols tb * k + j ∧ j < tCols tb ∧ k < tRows tb ∧ cellS ts t co rw_ = some (tb, j, k) := by
  unfold ixO at h
  unfold cellS
  rw [htb]
  dsimp only
  cases h1 : idx co (tCols tb) with
  | none => rw [h1] at h; cases h
  | some j =>
    rw [h1] at h
    dsimp only at h ⊢
    cases h2 : idx rw_ (tRows tb) with
    | none => rw [h2] at h; cases h
    | some k =>
      rw [h2] at h
      cases h
      exact ⟨j, k, rfl, (idx_some hc h1).1, (idx_some hr h2).1, rfl⟩
theorem cellS_no {ts : List Tab} {t co rw_ : Int32} (htb : tabOf ts t = none) : cellS ts t co rw_ = none := by
  unfold cellS; rw [htb]
set_option maxHeartbeats 4000000 in
set_option maxRecDepth 100000 in
theorem met_X0_missing (l : Launch) (E : CE) (ad : Nat → Nat) (F : XF) (O : XO) (S : XS) (made : Nat) (all : Nat → Option Nat) (wn : Nat) (wb : Nat → Int32) (P : XP) (R : XR) (t co rw_ : Int32) (ts : List Tab) (sz : Nat)  : Met l yX0_missing (ws_ yX0_missing cX0_missing 6 (some .boolean)) { frames := 1, cells := 0, slots := 0, locals := 22 } (ctP E [.ref (ad 0), .int t, .int co, .int rw_] sz (fun H => va_P E.1 ct_cl (xw E ad F O S (made, all, wn, wb) P R) H ∧ xTabs E ad made all wn wb ts H)) (ctR (fun v => v = some (.int (missS ts t co rw_)))) 0 0 (fun _ => False) := by
  refine ct_start (by decide) (Nat.le_of_ble_eq_true rfl) ?_
  intro p e s m below meth c ls B hsz hH hl
  obtain ⟨hP, hTB⟩ := hH
  have hx := B.1
  have hb := B.2.1
  have hl : lv_has ls 6 [(0, .ref (ad 0)), (1, .int t), (2, .int co), (3, .int rw_)] := hl
  refine lv_aload_n hx hb dX0_missing_0 rfl (lv_at hl 0 rfl) ?_
  refine ct_get (v := .ref (ad 3)) B hP kX0 0 rfl 4 (Nat.le_of_ble_eq_true rfl) q281 rfl dX0_missing_1 ?_
  refine lv_iload_n hx hb dX0_missing_4 rfl (lv_at hl 1 rfl) ?_
  refine ct_callR (ct_runV (As := [.int t]) (rest := []) B (met_X2_find l E ad F O S made all wn wb P R t s.heap.size (by have := hTB.2.1; omega)) (lw_V q534 q535 q536 q50 q537) (n := 1) ⟨by decide, by decide, by decide +kernel⟩ rfl ⟨rfl, rfl, (Nat.le_of_ble_eq_true rfl), (Nat.le_of_ble_eq_true rfl), (Nat.le_of_ble_eq_true rfl), (Nat.le_of_ble_eq_true rfl)⟩ (va_S.rf (A := fun _ => False)) (fun _ h => h.elim) (ct_recv B hP kX2 3 rfl) hP hl.1 (Nat.le_of_ble_eq_true rfl) dX0_missing_5) (fun v hv => ?_)
  subst hv
  refine W.eq (g2 := F0 m 8 ls [va_rf (fndV made all t)]) rfl ?_
  refine q_astore (lv' := [(4, va_rf (fndV made all t)), (0, .ref (ad 0)), (1, .int t), (2, .int co), (3, .int rw_)]) hx hb dX0_missing_8 hl (by decide) rfl (fun ls hl => ?_)
  rcases hq : fndV made all t with _ | x9
  · rw [hq] at hl
    have htb := xTabs_none hTB hq
    refine lv_aloadN hx hb dX0_missing_10 (lv_at hl 0 rfl) ?_
    refine lv_iload_n hx hb dX0_missing_12 rfl (lv_at hl 3 rfl) ?_
    refine lv_iload_n hx hb dX0_missing_13 rfl (lv_at hl 4 rfl) ?_
    refine ct_callR (ct_runS (As := [.null, .int co, .int rw_]) (rest := []) B (met_X0_cell_n l E  co rw_ s.heap.size) (lw_S q558 q559 q44 q560) (n := 3) ⟨by decide, by decide, by decide +kernel⟩ rfl ⟨rfl, rfl, (Nat.le_of_ble_eq_true rfl), (Nat.le_of_ble_eq_true rfl), (Nat.le_of_ble_eq_true rfl), (Nat.le_of_ble_eq_true rfl)⟩ (va_S.rf (A := fun _ => False)) (fun _ h => h.elim) trivial hl.1 (Nat.le_of_ble_eq_true rfl) dX0_missing_14) (fun v hv => ?_)
    subst hv
    refine W.eq (g2 := F0 m 17 ls [.int (-1)]) rfl ?_
    refine lv_istore (lv' := [(5, .int (-1)), (4, .null), (0, .ref (ad 0)), (1, .int t), (2, .int co), (3, .int rw_)]) hx hb dX0_missing_17 hl (by decide) rfl (fun ls hl => ?_)
    refine lv_iload hx hb dX0_missing_19 (lv_at hl 0 rfl) ?_
    refine lv_if_lt (tgt := 38) hx hb dX0_missing_21 (by decide) (fun c_1 => ?_) (fun c_1 => absurd c_1 (by decide))
    refine lv_iconst (v := nI 0) hx hb dX0_missing_38 (by decide) ?_
    exact ct_iretR (ty := .boolean) (v := (nI 0)) B rfl rfl (by rw [missS, cellS_no htb]; rfl) dX0_missing_39
  · rw [hq] at hl
    obtain ⟨tb, q, f, rfl, htb, hap, hTq, hnum, htok⟩ := xTabs_get hTB hq
    obtain ⟨hcs, hrs, htl2, hnm0, hcl0⟩ := htok
    have hmul := mul_cs hcs.2 hrs
    refine lv_aload hx hb dX0_missing_10 (lv_at hl 0 rfl) ?_
    refine lv_iload_n hx hb dX0_missing_12 rfl (lv_at hl 3 rfl) ?_
    refine lv_iload_n hx hb dX0_missing_13 rfl (lv_at hl 4 rfl) ?_
    refine ct_callR (ct_runS (As := [.ref (q 0), .int co, .int rw_]) (rest := []) B (met_X0_cell_t l E  q (tCols tb) (tRows tb) f co rw_ s.heap.size hcs.2 hrs) (lw_S q558 q559 q44 q560) (n := 3) ⟨by decide, by decide, by decide +kernel⟩ rfl ⟨rfl, rfl, (Nat.le_of_ble_eq_true rfl), (Nat.le_of_ble_eq_true rfl), (Nat.le_of_ble_eq_true rfl), (Nat.le_of_ble_eq_true rfl)⟩ (va_S.rf (A := fun _ => False)) (fun _ h => h.elim) hTq hl.1 (Nat.le_of_ble_eq_true rfl) dX0_missing_14) (fun v hv => ?_)
    subst hv
    refine W.eq (g2 := F0 m 17 ls [.int (ixI (ixO (tCols tb) (tRows tb) co rw_))]) rfl ?_
    refine lv_istore (lv' := [(5, .int (ixI (ixO (tCols tb) (tRows tb) co rw_))), (4, .ref (q 0)), (0, .ref (ad 0)), (1, .int t), (2, .int co), (3, .int rw_)]) hx hb dX0_missing_17 hl (by decide) rfl (fun ls hl => ?_)
    rcases hc : ixO (tCols tb) (tRows tb) co rw_ with _ | k9
    · rw [hc] at hl
      have hcs0 := ixO_none (ts := ts) htb hc
      have hl : lv_has ls 6 [(5, .int (-1)), (4, .ref (q 0)), (0, .ref (ad 0)), (1, .int t), (2, .int co), (3, .int rw_)] := hl
      refine lv_iload hx hb dX0_missing_19 (lv_at hl 0 rfl) ?_
      refine lv_if_lt (tgt := 38) hx hb dX0_missing_21 (by decide) (fun c_2 => ?_) (fun c_2 => absurd c_2 (by decide))
      refine lv_iconst (v := nI 0) hx hb dX0_missing_38 (by decide) ?_
      exact ct_iretR (ty := .boolean) (v := (nI 0)) B rfl rfl (by rw [missS, hcs0]; rfl) dX0_missing_39
    · rw [hc] at hl
      obtain ⟨j, k, rfl, hj, hk, hcs0⟩ := ixO_some (ts := ts) htb (by omega) (by omega) hc
      have hix := ix_lt hj hk
      have hl : lv_has ls 6 [(5, .int (nI (tCols tb * k + j))), (4, .ref (q 0)), (0, .ref (ad 0)), (1, .int t), (2, .int co), (3, .int rw_)] := hl
      refine lv_iload hx hb dX0_missing_19 (lv_at hl 0 rfl) ?_
      refine n_if_lt hx hb dX0_missing_21 (by omega) ?_
      refine lv_aload hx hb dX0_missing_24 (lv_at hl 1 rfl) ?_
      refine lv_iload hx hb dX0_missing_26 (lv_at hl 0 rfl) ?_
      refine ct_callR (ct_runV (As := [.int (nI (tCols tb * k + j))]) (rest := []) B (met_X9_isMissing l E  q (tCols tb) (tRows tb) (tCols tb * k + j) f (cellW tb (tCols tb * k + j)) s.heap.size hix (by omega) (hnum.2.1 _ hix).1 (hnum.2.1 _ hix).2.1) (lw_V q635 q437 q438 q57 q439) (n := 1) ⟨by decide, by decide, by decide +kernel⟩ rfl ⟨rfl, rfl, (Nat.le_of_ble_eq_true rfl), (Nat.le_of_ble_eq_true rfl), (Nat.le_of_ble_eq_true rfl), (Nat.le_of_ble_eq_true rfl)⟩ (va_S.rf (A := fun _ => False)) (fun _ h => h.elim) (ct_recv B hTq kX9 0 rfl) hTq hl.1 (Nat.le_of_ble_eq_true rfl) dX0_missing_28) (fun v hv => ?_)
      subst hv
      refine W.eq (g2 := F0 m 31 ls [.int (if (cellW tb (tCols tb * k + j)).1 = [] ∧ (cellW tb (tCols tb * k + j)).2 = false then 1 else 0)]) rfl ?_
      refine b_if_eq (tgt := 38) hx hb dX0_missing_31 (by decide) (fun cm => ?_) (fun cm => ?_)
      · refine lv_iconst (v := nI 0) hx hb dX0_missing_38 (by decide) ?_
        exact ct_iretR (ty := .boolean) (v := (nI 0)) B rfl rfl (by rw [missS, hcs0]; dsimp only; rw [if_neg (show ¬ missW (wordS (tb, j, k)) from cm)]; rfl) dX0_missing_39
      · refine lv_iconst (v := nI 1) hx hb dX0_missing_34 (by decide) ?_
        refine lv_goto (tgt := 39) hx hb dX0_missing_35 (by decide) ?_
        exact ct_iretR (ty := .boolean) (v := (nI 1)) B rfl rfl (by rw [missS, hcs0]; dsimp only; rw [if_pos (show missW (wordS (tb, j, k)) from cm)]; rfl) dX0_missing_39
set_option maxHeartbeats 4000000 in
set_option maxRecDepth 100000 in
theorem met_X0_length (l : Launch) (E : CE) (ad : Nat → Nat) (F : XF) (O : XO) (S : XS) (made : Nat) (all : Nat → Option Nat) (wn : Nat) (wb : Nat → Int32) (P : XP) (R : XR) (t co rw_ : Int32) (ts : List Tab) (sz : Nat)  : Met l yX0_length (ws_ yX0_length cX0_length 6 (some .int)) { frames := 1, cells := 0, slots := 0, locals := 22 } (ctP E [.ref (ad 0), .int t, .int co, .int rw_] sz (fun H => va_P E.1 ct_cl (xw E ad F O S (made, all, wn, wb) P R) H ∧ xTabs E ad made all wn wb ts H)) (ctR (fun v => v = some (.int (lengthS ts t co rw_)))) 0 0 (fun _ => False) := by
  refine ct_start (by decide) (Nat.le_of_ble_eq_true rfl) ?_
  intro p e s m below meth c ls B hsz hH hl
  obtain ⟨hP, hTB⟩ := hH
  have hx := B.1
  have hb := B.2.1
  have hl : lv_has ls 6 [(0, .ref (ad 0)), (1, .int t), (2, .int co), (3, .int rw_)] := hl
  refine lv_aload_n hx hb dX0_length_0 rfl (lv_at hl 0 rfl) ?_
  refine ct_get (v := .ref (ad 3)) B hP kX0 0 rfl 4 (Nat.le_of_ble_eq_true rfl) q281 rfl dX0_length_1 ?_
  refine lv_iload_n hx hb dX0_length_4 rfl (lv_at hl 1 rfl) ?_
  refine ct_callR (ct_runV (As := [.int t]) (rest := []) B (met_X2_find l E ad F O S made all wn wb P R t s.heap.size (by have := hTB.2.1; omega)) (lw_V q534 q535 q536 q50 q537) (n := 1) ⟨by decide, by decide, by decide +kernel⟩ rfl ⟨rfl, rfl, (Nat.le_of_ble_eq_true rfl), (Nat.le_of_ble_eq_true rfl), (Nat.le_of_ble_eq_true rfl), (Nat.le_of_ble_eq_true rfl)⟩ (va_S.rf (A := fun _ => False)) (fun _ h => h.elim) (ct_recv B hP kX2 3 rfl) hP hl.1 (Nat.le_of_ble_eq_true rfl) dX0_length_5) (fun v hv => ?_)
  subst hv
  refine W.eq (g2 := F0 m 8 ls [va_rf (fndV made all t)]) rfl ?_
  refine q_astore (lv' := [(4, va_rf (fndV made all t)), (0, .ref (ad 0)), (1, .int t), (2, .int co), (3, .int rw_)]) hx hb dX0_length_8 hl (by decide) rfl (fun ls hl => ?_)
  rcases hq : fndV made all t with _ | x9
  · rw [hq] at hl
    have htb := xTabs_none hTB hq
    refine lv_aloadN hx hb dX0_length_10 (lv_at hl 0 rfl) ?_
    refine lv_ifnonnullN hx hb dX0_length_12 ?_
    refine lv_bipush (v := (-14)) hx hb dX0_length_15 (by decide) ?_
    exact ct_iretR (ty := .int) (v := (-14)) B rfl rfl (by rw [lengthS, htb]) dX0_length_17
  · rw [hq] at hl
    obtain ⟨tb, q, f, rfl, htb, hap, hTq, hnum, htok⟩ := xTabs_get hTB hq
    obtain ⟨hcs, hrs, htl2, hnm0, hcl0⟩ := htok
    have hmul := mul_cs hcs.2 hrs
    refine lv_aload hx hb dX0_length_10 (lv_at hl 0 rfl) ?_
    refine lv_ifnonnull (tgt := 18) hx hb dX0_length_12 (by decide) ?_
    refine lv_aload hx hb dX0_length_18 (lv_at hl 0 rfl) ?_
    refine lv_iload_n hx hb dX0_length_20 rfl (lv_at hl 3 rfl) ?_
    refine lv_iload_n hx hb dX0_length_21 rfl (lv_at hl 4 rfl) ?_
    refine ct_callR (ct_runS (As := [.ref (q 0), .int co, .int rw_]) (rest := []) B (met_X0_cell_t l E  q (tCols tb) (tRows tb) f co rw_ s.heap.size hcs.2 hrs) (lw_S q558 q559 q44 q560) (n := 3) ⟨by decide, by decide, by decide +kernel⟩ rfl ⟨rfl, rfl, (Nat.le_of_ble_eq_true rfl), (Nat.le_of_ble_eq_true rfl), (Nat.le_of_ble_eq_true rfl), (Nat.le_of_ble_eq_true rfl)⟩ (va_S.rf (A := fun _ => False)) (fun _ h => h.elim) hTq hl.1 (Nat.le_of_ble_eq_true rfl) dX0_length_22) (fun v hv => ?_)
    subst hv
    refine W.eq (g2 := F0 m 25 ls [.int (ixI (ixO (tCols tb) (tRows tb) co rw_))]) rfl ?_
    refine lv_istore (lv' := [(5, .int (ixI (ixO (tCols tb) (tRows tb) co rw_))), (4, .ref (q 0)), (0, .ref (ad 0)), (1, .int t), (2, .int co), (3, .int rw_)]) hx hb dX0_length_25 hl (by decide) rfl (fun ls hl => ?_)
    rcases hc : ixO (tCols tb) (tRows tb) co rw_ with _ | k9
    · rw [hc] at hl
      have hcs0 := ixO_none (ts := ts) htb hc
      have hl : lv_has ls 6 [(5, .int (-1)), (4, .ref (q 0)), (0, .ref (ad 0)), (1, .int t), (2, .int co), (3, .int rw_)] := hl
      refine lv_iload hx hb dX0_length_27 (lv_at hl 0 rfl) ?_
      refine lv_if_ge (tgt := 37) hx hb dX0_length_29 (by decide) (fun c_1 => absurd c_1 (by decide)) (fun c_1 => ?_)
      refine lv_bipush (v := (-2)) hx hb dX0_length_32 (by decide) ?_
      refine lv_goto (tgt := 44) hx hb dX0_length_34 (by decide) ?_
      exact ct_iretR (ty := .int) (v := (-2)) B rfl rfl (by rw [lengthS, htb]; dsimp only; rw [hcs0]) dX0_length_44
    · rw [hc] at hl
      obtain ⟨j, k, rfl, hj, hk, hcs0⟩ := ixO_some (ts := ts) htb (by omega) (by omega) hc
      have hix := ix_lt hj hk
      have hl : lv_has ls 6 [(5, .int (nI (tCols tb * k + j))), (4, .ref (q 0)), (0, .ref (ad 0)), (1, .int t), (2, .int co), (3, .int rw_)] := hl
      refine lv_iload hx hb dX0_length_27 (lv_at hl 0 rfl) ?_
      refine n_if_ge (tgt := 37) hx hb dX0_length_29 (by decide) (by omega) ?_
      refine lv_aload hx hb dX0_length_37 (lv_at hl 1 rfl) ?_
      refine lv_iload hx hb dX0_length_39 (lv_at hl 0 rfl) ?_
      refine ct_callR (ct_runV (As := [.int (nI (tCols tb * k + j))]) (rest := []) B (met_X9_length l E  q (tCols tb) (tRows tb) (tCols tb * k + j) f (cellW tb (tCols tb * k + j)) s.heap.size hix (by omega) (hnum.2.1 _ hix).1 (hnum.2.1 _ hix).2.1) (lw_V q640 q453 q454 q57 q455) (n := 1) ⟨by decide, by decide, by decide +kernel⟩ rfl ⟨rfl, rfl, (Nat.le_of_ble_eq_true rfl), (Nat.le_of_ble_eq_true rfl), (Nat.le_of_ble_eq_true rfl), (Nat.le_of_ble_eq_true rfl)⟩ (va_S.rf (A := fun _ => False)) (fun _ h => h.elim) (ct_recv B hTq kX9 0 rfl) hTq hl.1 (Nat.le_of_ble_eq_true rfl) dX0_length_41) (fun v hv => ?_)
      subst hv
      refine W.eq (g2 := F0 m 44 ls [.int (nI ((cellW tb (tCols tb * k + j)).1.length))]) rfl ?_
      exact ct_iretR (ty := .int) (v := (nI ((cellW tb (tCols tb * k + j)).1.length))) B rfl rfl (by rw [lengthS, htb]; dsimp only; rw [hcs0]; rfl) dX0_length_44
set_option maxHeartbeats 4000000 in
set_option maxRecDepth 100000 in
theorem met_X3_row (l : Launch) (E : CE) (ad : Nat → Nat) (F : XF) (O : XO) (S : XS) (made : Nat) (all : Nat → Option Nat) (wn : Nat) (wb : Nat → Int32) (P : XP) (R : XR)  (sz : Nat)  : Met l yX3_row (ws_ yX3_row cX3_row 1 (some (.array .byte))) { frames := 0, cells := 0, slots := 0, locals := 0 } (ctP E [.ref (ad 4)] sz (fun H => va_P E.1 ct_cl (xw E ad F O S (made, all, wn, wb) P R) H)) (ctR (fun v => v = some (.ref (ad 5)))) 0 0 (fun _ => False) := by
  refine ct_start (by decide) (Nat.le_of_ble_eq_true rfl) ?_
  intro p e s m below meth c ls B hsz hH hl
  have hP := hH
  have hx := B.1
  have hb := B.2.1
  have hl : lv_has ls 1 [(0, .ref (ad 4))] := hl
  refine lv_aload_n hx hb dX3_row_0 rfl (lv_at hl 0 rfl) ?_
  refine ct_get (v := .ref (ad 5)) B hP kX3 4 rfl 0 (Nat.le_of_ble_eq_true rfl) q182 rfl dX3_row_1 ?_
  exact ct_aretR (r := some (ad 5)) B rfl (Or.inr ⟨_, rfl⟩) (rfl) dX3_row_4
set_option maxHeartbeats 4000000 in
set_option maxRecDepth 100000 in
theorem met_X2_bytes (l : Launch) (E : CE) (ad : Nat → Nat) (F : XF) (O : XO) (S : XS) (made : Nat) (all : Nat → Option Nat) (wn : Nat) (wb : Nat → Int32) (P : XP) (R : XR)  (sz : Nat)  : Met l yX2_bytes (ws_ yX2_bytes cX2_bytes 1 (some (.array .byte))) { frames := 1, cells := 0, slots := 0, locals := 20 } (ctP E [.ref (ad 3)] sz (fun H => va_P E.1 ct_cl (xw E ad F O S (made, all, wn, wb) P R) H)) (ctR (fun v => v = some (.ref (ad 5)))) 0 0 (fun _ => False) := by
  refine ct_start (by decide) (Nat.le_of_ble_eq_true rfl) ?_
  intro p e s m below meth c ls B hsz hH hl
  have hP := hH
  have hx := B.1
  have hb := B.2.1
  have hl : lv_has ls 1 [(0, .ref (ad 3))] := hl
  refine lv_aload_n hx hb dX2_bytes_0 rfl (lv_at hl 0 rfl) ?_
  refine ct_get (v := .ref (ad 4)) B hP kX2 3 rfl 1 (Nat.le_of_ble_eq_true rfl) q216 rfl dX2_bytes_1 ?_
  refine ct_callR (ct_runV (As := []) (rest := []) B (met_X3_row l E ad F O S made all wn wb P R  s.heap.size) (lw_V q649 q650 q651 q51 q652) (n := 0) ⟨by decide, by decide, by decide +kernel⟩ rfl ⟨rfl, rfl, (Nat.le_of_ble_eq_true rfl), (Nat.le_of_ble_eq_true rfl), (Nat.le_of_ble_eq_true rfl), (Nat.le_of_ble_eq_true rfl)⟩ (va_S.rf (A := fun _ => False)) (fun _ h => h.elim) (ct_recv B hP kX3 4 rfl) hP hl.1 (Nat.le_of_ble_eq_true rfl) dX2_bytes_4) (fun v hv => ?_)
  subst hv
  refine W.eq (g2 := F0 m 7 ls [.ref (ad 5)]) rfl ?_
  exact ct_aretR (r := some (ad 5)) B rfl (Or.inr ⟨_, rfl⟩) (rfl) dX2_bytes_7
set_option maxHeartbeats 4000000 in
set_option maxRecDepth 100000 in
theorem met_X0_at (l : Launch) (E : CE) (ad : Nat → Nat) (F : XF) (O : XO) (S : XS) (made : Nat) (all : Nat → Option Nat) (wn : Nat) (wb : Nat → Int32) (P : XP) (R : XR) (t co rw_ i9 : Int32) (ts : List Tab) (sz : Nat)  : Met l yX0_at (ws_ yX0_at cX0_at 7 (some .int)) { frames := 2, cells := 0, slots := 0, locals := 40 } (ctP E [.ref (ad 0), .int t, .int co, .int rw_, .int i9] sz (fun H => va_P E.1 ct_cl (xw E ad F O S (made, all, wn, wb) P R) H ∧ xTabs E ad made all wn wb ts H)) (ctR (fun v => v = some (.int (atS ts t co rw_ i9)))) 0 0 (fun _ => False) := by
  refine ct_start (by decide) (Nat.le_of_ble_eq_true rfl) ?_
  intro p e s m below meth c ls B hsz hH hl
  obtain ⟨hP, hTB⟩ := hH
  have hx := B.1
  have hb := B.2.1
  have hl : lv_has ls 7 [(0, .ref (ad 0)), (1, .int t), (2, .int co), (3, .int rw_), (4, .int i9)] := hl
  refine lv_aload_n hx hb dX0_at_0 rfl (lv_at hl 0 rfl) ?_
  refine ct_get (v := .ref (ad 3)) B hP kX0 0 rfl 4 (Nat.le_of_ble_eq_true rfl) q281 rfl dX0_at_1 ?_
  refine lv_iload_n hx hb dX0_at_4 rfl (lv_at hl 1 rfl) ?_
  refine ct_callR (ct_runV (As := [.int t]) (rest := []) B (met_X2_find l E ad F O S made all wn wb P R t s.heap.size (by have := hTB.2.1; omega)) (lw_V q534 q535 q536 q50 q537) (n := 1) ⟨by decide, by decide, by decide +kernel⟩ rfl ⟨rfl, rfl, (Nat.le_of_ble_eq_true rfl), (Nat.le_of_ble_eq_true rfl), (Nat.le_of_ble_eq_true rfl), (Nat.le_of_ble_eq_true rfl)⟩ (va_S.rf (A := fun _ => False)) (fun _ h => h.elim) (ct_recv B hP kX2 3 rfl) hP hl.1 (Nat.le_of_ble_eq_true rfl) dX0_at_5) (fun v hv => ?_)
  subst hv
  refine W.eq (g2 := F0 m 8 ls [va_rf (fndV made all t)]) rfl ?_
  refine q_astore (lv' := [(5, va_rf (fndV made all t)), (0, .ref (ad 0)), (1, .int t), (2, .int co), (3, .int rw_), (4, .int i9)]) hx hb dX0_at_8 hl (by decide) rfl (fun ls hl => ?_)
  rcases hq : fndV made all t with _ | x9
  · rw [hq] at hl
    have htb := xTabs_none hTB hq
    refine lv_aloadN hx hb dX0_at_10 (lv_at hl 0 rfl) ?_
    refine lv_iload_n hx hb dX0_at_12 rfl (lv_at hl 3 rfl) ?_
    refine lv_iload_n hx hb dX0_at_13 rfl (lv_at hl 4 rfl) ?_
    refine ct_callR (ct_runS (As := [.null, .int co, .int rw_]) (rest := []) B (met_X0_cell_n l E  co rw_ s.heap.size) (lw_S q558 q559 q44 q560) (n := 3) ⟨by decide, by decide, by decide +kernel⟩ rfl ⟨rfl, rfl, (Nat.le_of_ble_eq_true rfl), (Nat.le_of_ble_eq_true rfl), (Nat.le_of_ble_eq_true rfl), (Nat.le_of_ble_eq_true rfl)⟩ (va_S.rf (A := fun _ => False)) (fun _ h => h.elim) trivial hl.1 (Nat.le_of_ble_eq_true rfl) dX0_at_14) (fun v hv => ?_)
    subst hv
    refine W.eq (g2 := F0 m 17 ls [.int (-1)]) rfl ?_
    refine lv_istore (lv' := [(6, .int (-1)), (5, .null), (0, .ref (ad 0)), (1, .int t), (2, .int co), (3, .int rw_), (4, .int i9)]) hx hb dX0_at_17 hl (by decide) rfl (fun ls hl => ?_)
    refine lv_iload hx hb dX0_at_19 (lv_at hl 0 rfl) ?_
    refine lv_if_lt (tgt := 63) hx hb dX0_at_21 (by decide) (fun c_1 => ?_) (fun c_1 => absurd c_1 (by decide))
    refine lv_iconst (v := (-1)) hx hb dX0_at_63 (by decide) ?_
    exact ct_iretR (ty := .int) (v := (-1)) B rfl rfl (by rw [atS, cellS_no htb]) dX0_at_64
  · rw [hq] at hl
    obtain ⟨tb, q, f, rfl, htb, hap, hTq, hnum, htok⟩ := xTabs_get hTB hq
    obtain ⟨hcs, hrs, htl2, hnm0, hcl0⟩ := htok
    have hmul := mul_cs hcs.2 hrs
    refine lv_aload hx hb dX0_at_10 (lv_at hl 0 rfl) ?_
    refine lv_iload_n hx hb dX0_at_12 rfl (lv_at hl 3 rfl) ?_
    refine lv_iload_n hx hb dX0_at_13 rfl (lv_at hl 4 rfl) ?_
    refine ct_callR (ct_runS (As := [.ref (q 0), .int co, .int rw_]) (rest := []) B (met_X0_cell_t l E  q (tCols tb) (tRows tb) f co rw_ s.heap.size hcs.2 hrs) (lw_S q558 q559 q44 q560) (n := 3) ⟨by decide, by decide, by decide +kernel⟩ rfl ⟨rfl, rfl, (Nat.le_of_ble_eq_true rfl), (Nat.le_of_ble_eq_true rfl), (Nat.le_of_ble_eq_true rfl), (Nat.le_of_ble_eq_true rfl)⟩ (va_S.rf (A := fun _ => False)) (fun _ h => h.elim) hTq hl.1 (Nat.le_of_ble_eq_true rfl) dX0_at_14) (fun v hv => ?_)
    subst hv
    refine W.eq (g2 := F0 m 17 ls [.int (ixI (ixO (tCols tb) (tRows tb) co rw_))]) rfl ?_
    refine lv_istore (lv' := [(6, .int (ixI (ixO (tCols tb) (tRows tb) co rw_))), (5, .ref (q 0)), (0, .ref (ad 0)), (1, .int t), (2, .int co), (3, .int rw_), (4, .int i9)]) hx hb dX0_at_17 hl (by decide) rfl (fun ls hl => ?_)
    rcases hc : ixO (tCols tb) (tRows tb) co rw_ with _ | k9
    · rw [hc] at hl
      have hcs0 := ixO_none (ts := ts) htb hc
      have hl : lv_has ls 7 [(6, .int (-1)), (5, .ref (q 0)), (0, .ref (ad 0)), (1, .int t), (2, .int co), (3, .int rw_), (4, .int i9)] := hl
      refine lv_iload hx hb dX0_at_19 (lv_at hl 0 rfl) ?_
      refine lv_if_lt (tgt := 63) hx hb dX0_at_21 (by decide) (fun c_2 => ?_) (fun c_2 => absurd c_2 (by decide))
      refine lv_iconst (v := (-1)) hx hb dX0_at_63 (by decide) ?_
      exact ct_iretR (ty := .int) (v := (-1)) B rfl rfl (by rw [atS, hcs0]) dX0_at_64
    · rw [hc] at hl
      obtain ⟨j, k, rfl, hj, hk, hcs0⟩ := ixO_some (ts := ts) htb (by omega) (by omega) hc
      have hix := ix_lt hj hk
      have hl : lv_has ls 7 [(6, .int (nI (tCols tb * k + j))), (5, .ref (q 0)), (0, .ref (ad 0)), (1, .int t), (2, .int co), (3, .int rw_), (4, .int i9)] := hl
      refine lv_iload hx hb dX0_at_19 (lv_at hl 0 rfl) ?_
      refine n_if_lt hx hb dX0_at_21 (by omega) ?_
      refine lv_iload hx hb dX0_at_24 (lv_at hl 6 rfl) ?_
      refine lv_if_lt (tgt := 63) hx hb dX0_at_26 (by decide) (fun c1 => ?_) (fun c1 => ?_)
      · refine lv_iconst (v := (-1)) hx hb dX0_at_63 (by decide) ?_
        exact ct_iretR (ty := .int) (v := (-1)) B rfl rfl (by rw [atS, hcs0]; dsimp only; rw [show wordS (tb, j, k) = cellW tb (tCols tb * k + j) from rfl, idx_neg c1]) dX0_at_64
      · refine lv_iload hx hb dX0_at_29 (lv_at hl 6 rfl) ?_
        refine lv_aload hx hb dX0_at_31 (lv_at hl 1 rfl) ?_
        refine lv_iload hx hb dX0_at_33 (lv_at hl 0 rfl) ?_
        refine ct_callR (ct_runV (As := [.int (nI (tCols tb * k + j))]) (rest := [.int i9]) B (met_X9_length l E  q (tCols tb) (tRows tb) (tCols tb * k + j) f (cellW tb (tCols tb * k + j)) s.heap.size hix (by omega) (hnum.2.1 _ hix).1 (hnum.2.1 _ hix).2.1) (lw_V q640 q453 q454 q57 q455) (n := 1) ⟨by decide, by decide, by decide +kernel⟩ rfl ⟨rfl, rfl, (Nat.le_of_ble_eq_true rfl), (Nat.le_of_ble_eq_true rfl), (Nat.le_of_ble_eq_true rfl), (Nat.le_of_ble_eq_true rfl)⟩ (va_S.rf (A := fun _ => False)) (fun _ h => h.elim) (ct_recv B hTq kX9 0 rfl) hTq hl.1 (Nat.le_of_ble_eq_true rfl) dX0_at_35) (fun v hv => ?_)
        subst hv
        refine W.eq (g2 := F0 m 38 ls [.int (nI ((cellW tb (tCols tb * k + j)).1.length)), .int i9]) rfl ?_
        refine lv_icmp_ge (tgt := 63) hx hb dX0_at_38 (by decide) (fun c2 => ?_) (fun c2 => ?_)
        · refine lv_iconst (v := (-1)) hx hb dX0_at_63 (by decide) ?_
          exact ct_iretR (ty := .int) (v := (-1)) B rfl rfl (by rw [atS, hcs0]; dsimp only; rw [show wordS (tb, j, k) = cellW tb (tCols tb * k + j) from rfl, idx_big (by have := (hnum.2.1 _ hix).2.1; omega) c2]) dX0_at_64
        · have hw40 := (hnum.2.1 _ hix).2.1
          obtain ⟨n, hn, rfl⟩ := idx_of (by omega) c1 c2
          obtain ⟨_, _, a_s, ha_s, hta, hal⟩ := hnum.2.1 _ hix
          have hta3 := hta.2.2
          refine lv_aload_n hx hb dX0_at_41 rfl (lv_at hl 2 rfl) ?_
          refine ct_get (v := .ref (ad 3)) B hP kX0 0 rfl 4 (Nat.le_of_ble_eq_true rfl) q281 rfl dX0_at_42 ?_
          refine ct_callR (ct_runV (As := []) (rest := []) B (met_X2_bytes l E ad F O S made all wn wb P R  s.heap.size) (lw_V q645 q646 q647 q50 q648) (n := 0) ⟨by decide, by decide, by decide +kernel⟩ rfl ⟨rfl, rfl, (Nat.le_of_ble_eq_true rfl), (Nat.le_of_ble_eq_true rfl), (Nat.le_of_ble_eq_true rfl), (Nat.le_of_ble_eq_true rfl)⟩ (va_S.rf (A := fun _ => False)) (fun _ h => h.elim) (ct_recv B hP kX2 3 rfl) hP hl.1 (Nat.le_of_ble_eq_true rfl) dX0_at_45) (fun v hv => ?_)
          subst hv
          refine W.eq (g2 := F0 m 48 ls [.ref (ad 5)]) rfl ?_
          refine lv_aload hx hb dX0_at_48 (lv_at hl 1 rfl) ?_
          refine ct_get (v := .ref (q 3)) B hTq kX9 0 rfl 4 (Nat.le_of_ble_eq_true rfl) q403 rfl dX0_at_50 ?_
          refine lv_iload hx hb dX0_at_53 (lv_at hl 0 rfl) ?_
          refine ct_iald (f := f 2) B hTq 3 rfl hix (by omega) dX0_at_55 ?_
          refine W.eq (g2 := F0 m 56 ls [.int (nI a_s), .ref (ad 5)]) (by rw [ha_s]) ?_
          refine lv_iload hx hb dX0_at_56 (lv_at hl 6 rfl) ?_
          refine n_iadd hx hb dX0_at_58 ?_
          refine ct_bald (f := wb) B hP 5 rfl (by omega) (by omega) dX0_at_59 ?_
          refine W.eq (g2 := F0 m 60 ls [.int (nI ((cellW tb (tCols tb * k + j)).1.getD n 0))]) (by rw [hta.1 n hn]) ?_
          refine lv_goto (tgt := 64) hx hb dX0_at_60 (by decide) ?_
          exact ct_iretR (ty := .int) (v := (nI ((cellW tb (tCols tb * k + j)).1.getD n 0))) B rfl rfl (by rw [atS, hcs0]; dsimp only; rw [show wordS (tb, j, k) = cellW tb (tCols tb * k + j) from rfl, idx_in (by omega) hn]) dX0_at_64
