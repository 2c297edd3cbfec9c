theorem tot_le {l : List Wd} {B : Nat} (h : ∀ w ∈ l, w.1.length ≤ B) : tot l ≤ B * l.length := by
  induction l with
  | nil => exact Nat.zero_le _
  | cons w l ih =>
    have h1 := h w List.mem_cons_self
    have h2 := ih (fun x hx => h x (List.mem_cons_of_mem _ hx))
    show w.1.length + tot l ≤ B * (l.length + 1)
    rw [Nat.mul_succ]
    omega
theorem tab_tot {tb : Tab} (h : tabOK tb) : tot tb.1 + tot tb.2 ≤ 1000000 := by
  obtain ⟨h1, h2, h3, h4, h5⟩ := h
  have a1 := tot_le (B := 20) (fun w hw => (h4 w hw).2)
  have a2 := tot_le (B := 40) (fun w hw => (h5 w hw).1)
  have a3 := mul_cs h1.2 h2
  have a4 : tb.1.length = tCols tb := rfl
  omega
set_option maxHeartbeats 4000000 in
set_option maxRecDepth 100000 in
theorem met_X6_read (l : Launch) (E : CE) (b0 b1 b2 b3 b4 b5 b7 trayed fed : Nat) (place : Int32) (tcn wby pcn : Nat) (tabs : Nat → Option Nat) (ts : List Tab) (tray : Nat → Int32) (tp : Int32) (tx : List Nat) (im : va_W) (sz : Nat) (htr : l.stackTraces = false) (hmt : mTabs E im tcn tabs wby ts) (hty : trayed ≤ 16000) (htx : txR tray trayed tx) : Met l yX6_read (wsW_ yX6_read cX6_read 4 (some .int) [(10, 27, 30, 173)]) { frames := 11, cells := 10 + 14 * (tx.length + 1), slots := 60 + 150 * (tx.length + 1) + gs 16 + gs (tx.length + 16), locals := 243 } (ctP E [.ref b0] sz (fun H => va_P E.1 ct_cl ([(b0, .inr (6, [.ref b1, .int (nI trayed), .int (nI fed), .int place, .ref b2, .ref b3, .int (nI tcn), .int (nI wby), .ref b4, .int (nI pcn), .ref b5, .ref b7])), (b1, .inl (E.2.1 0, 16000, .inl tray)), (b2, .inr (7, [.int tp])), (b3, .inl (E.2.1 4, 41, .inr (.inr (.inr (.inr tabs)))))] ++ im) H ∧ va_D (fun q => E.2.2.1 ≤ q) ([(b0, .inr (6, [.ref b1, .int (nI trayed), .int (nI fed), .int place, .ref b2, .ref b3, .int (nI tcn), .int (nI wby), .ref b4, .int (nI pcn), .ref b5, .ref b7])), (b1, .inl (E.2.1 0, 16000, .inl tray)), (b2, .inr (7, [.int tp])), (b3, .inl (E.2.1 4, 41, .inr (.inr (.inr (.inr tabs)))))] ++ im))) (ctQ (fun v H => ∃ r2 : Int32, ∃ pl2 : Int32, ∃ tp2 : Int32, ∃ tc2 : Nat, ∃ wb2 : Nat, ∃ tabs2 : Nat → Option Nat, ∃ ts2 : List Tab, ∃ im2 : va_W, v = some (.int r2) ∧ va_P E.1 ct_cl ([(b0, .inr (6, [.ref b1, .int (nI 0), .int (nI fed), .int pl2, .ref b2, .ref b3, .int (nI tc2), .int (nI wb2), .ref b4, .int (nI pcn), .ref b5, .ref b7])), (b1, .inl (E.2.1 0, 16000, .inl tray)), (b2, .inr (7, [.int tp2])), (b3, .inl (E.2.1 4, 41, .inr (.inr (.inr (.inr tabs2)))))] ++ im2) H ∧ va_D (va_A ([(b0, .inr (6, [.ref b1, .int (nI trayed), .int (nI fed), .int place, .ref b2, .ref b3, .int (nI tcn), .int (nI wby), .ref b4, .int (nI pcn), .ref b5, .ref b7])), (b1, .inl (E.2.1 0, 16000, .inl tray)), (b2, .inr (7, [.int tp])), (b3, .inl (E.2.1 4, 41, .inr (.inr (.inr (.inr tabs)))))] ++ im) sz) ([(b0, .inr (6, [.ref b1, .int (nI 0), .int (nI fed), .int pl2, .ref b2, .ref b3, .int (nI tc2), .int (nI wb2), .ref b4, .int (nI pcn), .ref b5, .ref b7])), (b1, .inl (E.2.1 0, 16000, .inl tray)), (b2, .inr (7, [.int tp2])), (b3, .inl (E.2.1 4, 41, .inr (.inr (.inr (.inr tabs2)))))] ++ im2) ∧ ((r2, pl2, ts2) = readS ts tx) ∧ (mTabs E im2 tc2 tabs2 wb2 ts2) ∧ (∀ y ∈ im, y ∈ im2)) (va_A ([(b0, .inr (6, [.ref b1, .int (nI trayed), .int (nI fed), .int place, .ref b2, .ref b3, .int (nI tcn), .int (nI wby), .ref b4, .int (nI pcn), .ref b5, .ref b7])), (b1, .inl (E.2.1 0, 16000, .inl tray)), (b2, .inr (7, [.int tp])), (b3, .inl (E.2.1 4, 41, .inr (.inr (.inr (.inr tabs)))))] ++ im) sz)) (10 + 14 * (tx.length + 1)) (60 + 150 * (tx.length + 1) + gs 16 + gs (tx.length + 16)) (va_A ([(b0, .inr (6, [.ref b1, .int (nI trayed), .int (nI fed), .int place, .ref b2, .ref b3, .int (nI tcn), .int (nI wby), .ref b4, .int (nI pcn), .ref b5, .ref b7])), (b1, .inl (E.2.1 0, 16000, .inl tray)), (b2, .inr (7, [.int tp])), (b3, .inl (E.2.1 4, 41, .inr (.inr (.inr (.inr tabs)))))] ++ im) sz) := by
  refine ct_startW (by decide) (Nat.le_of_ble_eq_true rfl) ?_
  intro p e s m below meth c ls B htab hsz hH hl
  obtain ⟨hP, hD⟩ := hH
  obtain ⟨A, hAe, h, hA, hAn⟩ := ct_enter B.2.2.2.2.2.2.2.2 hsz hP hD
  rw [hAe]
  refine ct_gen h (fun H locs h => ?_)
  have hx := B.1
  have hb := B.2.1
  have hl : lv_has ls 4 [(0, .ref b0)] := hl
  have htxl := htx.1
  refine lv_aload_n hx hb dX6_read_0 rfl (lv_at hl 0 rfl) ?_
  refine lv_iconst (v := (-1)) hx hb dX6_read_1 (by decide) ?_
  refine ct_put (ws' := [(b0, .inr (6, [.ref b1, .int (nI trayed), .int (nI fed), .int (-1), .ref b2, .ref b3, .int (nI tcn), .int (nI wby), .ref b4, .int (nI pcn), .ref b5, .ref b7])), (b1, .inl (E.2.1 0, 16000, .inl tray)), (b2, .inr (7, [.int tp])), (b3, .inl (E.2.1 4, 41, .inr (.inr (.inr (.inr tabs)))))] ++ im) B h kX6 0 rfl 3 (Nat.le_of_ble_eq_true rfl) q730 rfl rfl rfl (Nat.le_of_ble_eq_true rfl) rfl dX6_read_2 (fun H locs h => ?_)
  refine lv_aload_n hx hb dX6_read_5 rfl (lv_at hl 0 rfl) ?_
  have h : Hs E A s.heap ([(b0, .inr (6, [.ref b1, .int (nI trayed), .int (nI fed), .int (-1), .ref b2, .ref b3, .int (nI tcn), .int (nI wby), .ref b4, .int (nI pcn), .ref b5, .ref b7]))] ++ ([(b1, .inl (E.2.1 0, 16000, .inl tray)), (b2, .inr (7, [.int tp])), (b3, .inl (E.2.1 4, 41, .inr (.inr (.inr (.inr tabs)))))] ++ im)) H locs := h
  refine ct_callQ (ct_runV (As := []) (rest := []) B (met_X6_used l E b0 b1 b2 b3 b4 b5 b7 trayed fed (-1) tcn wby pcn H.size) (lw_V q786 q788 qs27 q54 q789) (n := 0) ⟨by decide, by decide, by decide +kernel⟩ rfl ⟨rfl, rfl, (Nat.le_of_ble_eq_true rfl), (Nat.le_of_ble_eq_true rfl), (by first | omega | (dsimp only; omega)), (by first | omega | (dsimp only; omega))⟩ h.2.2 hA (ct_recv B h.1 kX6 0 rfl) ⟨(ct_Pl h.1), (ct_Dl (ct_D0 h hA))⟩ hl.1 (Nat.le_of_ble_eq_true rfl) dX6_read_6) h.2.2 (ct_subL h hAn) (ct_subL h hAn) (fun v H locs hv hz hk hS => ?_)
  obtain ⟨rfl, hP1, hD1⟩ := hv
  have h : Hs E A s.heap ([(b0, .inr (6, [.ref b1, .int (nI 0), .int (nI fed), .int (-1), .ref b2, .ref b3, .int (nI tcn), .int (nI wby), .ref b4, .int (nI pcn), .ref b5, .ref b7]))] ++ ([(b1, .inl (E.2.1 0, 16000, .inl tray)), (b2, .inr (7, [.int tp])), (b3, .inl (E.2.1 4, 41, .inr (.inr (.inr (.inr tabs)))))] ++ im)) H locs := ct_frL h hP1 hD1 hk hS hAn
  have h : Hs E A s.heap ([(b0, .inr (6, [.ref b1, .int (nI 0), .int (nI fed), .int (-1), .ref b2, .ref b3, .int (nI tcn), .int (nI wby), .ref b4, .int (nI pcn), .ref b5, .ref b7])), (b1, .inl (E.2.1 0, 16000, .inl tray)), (b2, .inr (7, [.int tp])), (b3, .inl (E.2.1 4, 41, .inr (.inr (.inr (.inr tabs)))))] ++ im) H locs := h
  clear hP1 hD1 hS hz hk
  refine W.eq (g2 := F0 m 9 ls [.int (nI trayed)]) rfl ?_
  refine lv_istore_n (lv' := [(1, .int (nI trayed)), (0, .ref b0)]) hx hb dX6_read_9 rfl hl (by decide) rfl (fun ls hl => ?_)
  refine ct_new (fs := [.null, .null, .int 0, .int 0, .int 0, .null, .int 0]) B h hAn kX10 q790 q791 q62 (by intro j9 hj9; rcases j9 with _ | _ | _ | _ | _ | _ | _ | j9 <;> first | rfl | omega) (by first | omega | (dsimp only; omega)) (by first | omega | (dsimp only; omega)) dX6_read_10 (fun r_1 H h hr_1 => ?_)
  have h : Hs E A s.heap ([(r_1, .inr (10, [.null, .null, .int 0, .int 0, .int 0, .null, .int 0]))] ++ ([(b0, .inr (6, [.ref b1, .int (nI 0), .int (nI fed), .int (-1), .ref b2, .ref b3, .int (nI tcn), .int (nI wby), .ref b4, .int (nI pcn), .ref b5, .ref b7])), (b1, .inl (E.2.1 0, 16000, .inl tray)), (b2, .inr (7, [.int tp])), (b3, .inl (E.2.1 4, 41, .inr (.inr (.inr (.inr tabs)))))] ++ im)) H locs := ct_Hc h
  have h : Hs E A s.heap ([(r_1, .inr (10, [.null, .null, .int 0, .int 0, .int 0, .null, .int 0])), (b0, .inr (6, [.ref b1, .int (nI 0), .int (nI fed), .int (-1), .ref b2, .ref b3, .int (nI tcn), .int (nI wby), .ref b4, .int (nI pcn), .ref b5, .ref b7])), (b1, .inl (E.2.1 0, 16000, .inl tray)), (b2, .inr (7, [.int tp])), (b3, .inl (E.2.1 4, 41, .inr (.inr (.inr (.inr tabs)))))] ++ im) H locs := h
  refine lv_dup hx hb dX6_read_13 rfl ?_
  refine lv_aload_n hx hb dX6_read_14 rfl (lv_at hl 1 rfl) ?_
  refine ct_get (v := .ref b2) B h.1 kX6 1 rfl 4 (Nat.le_of_ble_eq_true rfl) q731 rfl dX6_read_15 ?_
  refine lv_aload_n hx hb dX6_read_18 rfl (lv_at hl 1 rfl) ?_
  refine ct_get (v := .ref b1) B h.1 kX6 1 rfl 0 (Nat.le_of_ble_eq_true rfl) q727 rfl dX6_read_19 ?_
  refine lv_iload_n hx hb dX6_read_22 rfl (lv_at hl 0 rfl) ?_
  have h : Hs E A s.heap ([(r_1, .inr (10, [.null, .null, .int 0, .int 0, .int 0, .null, .int 0])), (b1, .inl (E.2.1 0, 16000, .inl tray)), (b2, .inr (7, [.int tp])), (b0, .inr (6, [.ref b1, .int (nI 0), .int (nI fed), .int (-1), .ref b2, .ref b3, .int (nI tcn), .int (nI wby), .ref b4, .int (nI pcn), .ref b5, .ref b7])), (b3, .inl (E.2.1 4, 41, .inr (.inr (.inr (.inr tabs)))))] ++ im) H locs := ct_part h [0, 2, 3, 1, 4] rfl rfl
  have h : Hs E A s.heap ([(r_1, .inr (10, [.null, .null, .int 0, .int 0, .int 0, .null, .int 0])), (b1, .inl (E.2.1 0, 16000, .inl tray)), (b2, .inr (7, [.int tp]))] ++ ([(b0, .inr (6, [.ref b1, .int (nI 0), .int (nI fed), .int (-1), .ref b2, .ref b3, .int (nI tcn), .int (nI wby), .ref b4, .int (nI pcn), .ref b5, .ref b7])), (b3, .inl (E.2.1 4, 41, .inr (.inr (.inr (.inr tabs)))))] ++ im)) H locs := h
  refine ct_callC B htab ⟨by decide, by decide⟩ (by decide) q785 (ct_runXI (b := r_1) (As := [.ref b2, .ref b1, .int (nI trayed)]) (rest := [.ref r_1]) B (met_X10_init l E r_1 b2 b1 tray trayed tx tp H.size htr htx (by omega)) q794 q62 q792 q793 rfl (n := 3) ⟨by decide, by decide, by decide +kernel⟩ rfl ⟨rfl, rfl, (Nat.le_of_ble_eq_true rfl), (Nat.le_of_ble_eq_true rfl), (by first | omega | (dsimp only; omega)), (by first | omega | (dsimp only; omega))⟩ h.2.2 hA ⟨(ct_Pl h.1), (ct_Dl (ct_D0 h hA))⟩ hl.1 (Nat.le_of_ble_eq_true rfl) dX6_read_23) h.2.2 (ct_subL h hAn) (ct_subL h hAn) (fun x H locs hv hz hk hS => ?_) (fun v H locs hv hz hk hS => ?_)
  · obtain ⟨pl_1, hex_, hP1, hth⟩ := hv
    refine ⟨hex_, ?_⟩
    have h : Hs E A s.heap ([(b1, .inl (E.2.1 0, 16000, .inl tray)), (b2, .inr (7, [.int (nI pl_1)]))] ++ ([(b0, .inr (6, [.ref b1, .int (nI 0), .int (nI fed), .int (-1), .ref b2, .ref b3, .int (nI tcn), .int (nI wby), .ref b4, .int (nI pcn), .ref b5, .ref b7])), (b3, .inl (E.2.1 4, 41, .inr (.inr (.inr (.inr tabs)))))] ++ im)) H locs := ct_frL h hP1 (ct_Daddr (ws := [(b1, .inl (E.2.1 0, 16000, .inl tray)), (b2, .inr (7, [.int tp]))]) rfl ((ct_Dl h.2.1).self.sub [1, 2] rfl rfl)) hk hS hAn
    have h : Hs E A s.heap ([(b1, .inl (E.2.1 0, 16000, .inl tray)), (b2, .inr (7, [.int (nI pl_1)])), (b0, .inr (6, [.ref b1, .int (nI 0), .int (nI fed), .int (-1), .ref b2, .ref b3, .int (nI tcn), .int (nI wby), .ref b4, .int (nI pcn), .ref b5, .ref b7])), (b3, .inl (E.2.1 4, 41, .inr (.inr (.inr (.inr tabs)))))] ++ im) H locs := h
    clear hP1 hS hz hk
    refine W.eq (g2 := F0 m 30 ls [.ref x]) rfl ?_
    refine lv_astore_n (lv' := [(3, .ref x), (1, .int (nI trayed)), (0, .ref b0)]) hx hb dX6_read_30 rfl hl (by decide) rfl (fun ls hl => ?_)
    refine lv_aload_n hx hb dX6_read_31 rfl (lv_at hl 2 rfl) ?_
    refine lv_aload_n hx hb dX6_read_32 rfl (lv_at hl 2 rfl) ?_
    refine ct_get (v := .ref b2) B h.1 kX6 2 rfl 4 (Nat.le_of_ble_eq_true rfl) q731 rfl dX6_read_33 ?_
    refine ct_get (v := .int (nI pl_1)) B h.1 kX7 1 rfl 0 (Nat.le_of_ble_eq_true rfl) q706 rfl dX6_read_36 ?_
    refine ct_put (ws' := [(b1, .inl (E.2.1 0, 16000, .inl tray)), (b2, .inr (7, [.int (nI pl_1)])), (b0, .inr (6, [.ref b1, .int (nI 0), .int (nI fed), .int (nI pl_1), .ref b2, .ref b3, .int (nI tcn), .int (nI wby), .ref b4, .int (nI pcn), .ref b5, .ref b7])), (b3, .inl (E.2.1 4, 41, .inr (.inr (.inr (.inr tabs)))))] ++ im) B h kX6 2 rfl 3 (Nat.le_of_ble_eq_true rfl) q730 rfl rfl rfl (Nat.le_of_ble_eq_true rfl) rfl dX6_read_39 (fun H locs h => ?_)
    refine lv_bipush (v := (-20)) hx hb dX6_read_42 (by decide) ?_
    have h : Hs E A s.heap ([(b0, .inr (6, [.ref b1, .int (nI 0), .int (nI fed), .int (nI pl_1), .ref b2, .ref b3, .int (nI tcn), .int (nI wby), .ref b4, .int (nI pcn), .ref b5, .ref b7])), (b1, .inl (E.2.1 0, 16000, .inl tray)), (b2, .inr (7, [.int (nI pl_1)])), (b3, .inl (E.2.1 4, 41, .inr (.inr (.inr (.inr tabs)))))] ++ im) H locs := ct_part h [2, 0, 1, 3] rfl rfl
    refine W.widen (k := 10 + 14 * (tx.length + 1)) (n := 60 + 150 * (tx.length + 1) + gs 16 + gs (tx.length + 16)) (by first | omega | (dsimp only; omega)) (by first | omega | (dsimp only; omega)) ?_
    exact ct_iret (ty := .int) (v := (-20)) B rfl rfl h.2.2 ⟨(-20), (nI pl_1), (nI pl_1), tcn, wby, tabs, ts, im, rfl, h.1, h.2.1, by rw [readS, hth], hmt, fun y hy => hy⟩ dX6_read_44
  obtain ⟨t_r, n_r, c_r, j_r, q_r, tb_r, im_r, rfl, hP1, hD1, hps_r, htl_r⟩ := hv
  have h : Hs E A s.heap (([(r_1, .inr (10, [.ref b2, .ref b1, .int (nI trayed), .int (nI j_r), .int (nI q_r), .ref t_r, .int (nI (tot tb_r.1 + tot tb_r.2))])), (b1, .inl (E.2.1 0, 16000, .inl tray)), (b2, .inr (7, [.int tp])), (t_r, .inr (11, [.ref n_r, .ref c_r, .null]))] ++ im_r) ++ ([(b0, .inr (6, [.ref b1, .int (nI 0), .int (nI fed), .int (-1), .ref b2, .ref b3, .int (nI tcn), .int (nI wby), .ref b4, .int (nI pcn), .ref b5, .ref b7])), (b3, .inl (E.2.1 4, 41, .inr (.inr (.inr (.inr tabs)))))] ++ im)) H locs := ct_frL h hP1 hD1 hk hS hAn
  have h : Hs E A s.heap (([(r_1, .inr (10, [.ref b2, .ref b1, .int (nI trayed), .int (nI j_r), .int (nI q_r), .ref t_r, .int (nI (tot tb_r.1 + tot tb_r.2))])), (b1, .inl (E.2.1 0, 16000, .inl tray)), (b2, .inr (7, [.int tp])), (t_r, .inr (11, [.ref n_r, .ref c_r, .null]))] ++ [(b0, .inr (6, [.ref b1, .int (nI 0), .int (nI fed), .int (-1), .ref b2, .ref b3, .int (nI tcn), .int (nI wby), .ref b4, .int (nI pcn), .ref b5, .ref b7])), (b3, .inl (E.2.1 4, 41, .inr (.inr (.inr (.inr tabs)))))]) ++ (im_r ++ im)) H locs := ct_grow h
  have h : Hs E A s.heap ([(r_1, .inr (10, [.ref b2, .ref b1, .int (nI trayed), .int (nI j_r), .int (nI q_r), .ref t_r, .int (nI (tot tb_r.1 + tot tb_r.2))])), (b1, .inl (E.2.1 0, 16000, .inl tray)), (b2, .inr (7, [.int tp])), (t_r, .inr (11, [.ref n_r, .ref c_r, .null])), (b0, .inr (6, [.ref b1, .int (nI 0), .int (nI fed), .int (-1), .ref b2, .ref b3, .int (nI tcn), .int (nI wby), .ref b4, .int (nI pcn), .ref b5, .ref b7])), (b3, .inl (E.2.1 4, 41, .inr (.inr (.inr (.inr tabs)))))] ++ (im_r ++ im)) H locs := h
  clear hP1 hD1 hS hz hk
  refine W.eq (g2 := F0 m 26 ls [.ref r_1]) rfl ?_
  have h : Hs E A s.heap ([(r_1, .inr (10, [.ref b2, .ref b1, .int (nI trayed), .int (nI j_r), .int (nI q_r), .ref t_r, .int (nI (tot tb_r.1 + tot tb_r.2))])), (b1, .inl (E.2.1 0, 16000, .inl tray)), (b2, .inr (7, [.int tp])), (t_r, .inr (11, [.ref n_r, .ref c_r, .null])), (b0, .inr (6, [.ref b1, .int (nI 0), .int (nI fed), .int (-1), .ref b2, .ref b3, .int (nI tcn), .int (nI wby), .ref b4, .int (nI pcn), .ref b5, .ref b7])), (b3, .inl (E.2.1 4, 41, .inr (.inr (.inr (.inr tabs)))))] ++ (im_r ++ im)) H locs := h
  obtain ⟨im_p, hh_im_p⟩ : ∃ z9 : va_W, z9 = im_r ++ im := ⟨_, rfl⟩
  rw [← hh_im_p] at h
  have hi_im_p : ∀ y ∈ im, y ∈ im_p := by rw [hh_im_p]; exact fun y hy => List.mem_append_right _ hy
  have hok := parse_ok hps_r
  have htl9 : tL E im_p n_r c_r tb_r := htl_r.mono (by rw [hh_im_p]; exact fun y hy => List.mem_append_left _ hy)
  refine lv_astore_n (lv' := [(2, .ref r_1), (1, .int (nI trayed)), (0, .ref b0)]) hx hb dX6_read_26 rfl hl (by decide) rfl (fun ls hl => ?_)
  refine lv_goto (tgt := 45) hx hb dX6_read_27 (by decide) ?_
  refine lv_aload_n hx hb dX6_read_45 rfl (lv_at hl 2 rfl) ?_
  refine lv_aload_n hx hb dX6_read_46 rfl (lv_at hl 0 rfl) ?_
  refine ct_get (v := .ref t_r) B h.1 kX10 0 rfl 5 (Nat.le_of_ble_eq_true rfl) q1132 rfl dX6_read_47 ?_
  refine lv_aload_n hx hb dX6_read_50 rfl (lv_at hl 0 rfl) ?_
  refine ct_get (v := .int (nI (tot tb_r.1 + tot tb_r.2))) B h.1 kX10 0 rfl 6 (Nat.le_of_ble_eq_true rfl) q1134 rfl dX6_read_51 ?_
  have h : Hs E A s.heap ([(r_1, .inr (10, [.ref b2, .ref b1, .int (nI trayed), .int (nI j_r), .int (nI q_r), .ref t_r, .int (nI (tot tb_r.1 + tot tb_r.2))])), (b1, .inl (E.2.1 0, 16000, .inl tray)), (b2, .inr (7, [.int tp])), (b0, .inr (6, [.ref b1, .int (nI 0), .int (nI fed), .int (-1), .ref b2, .ref b3, .int (nI tcn), .int (nI wby), .ref b4, .int (nI pcn), .ref b5, .ref b7])), (b3, .inl (E.2.1 4, 41, .inr (.inr (.inr (.inr tabs))))), (t_r, .inr (11, [.ref n_r, .ref c_r, .null]))] ++ im_p) H locs := ct_part h [0, 1, 2, 4, 5, 3] rfl rfl
  have h : Hs E A s.heap ([(r_1, .inr (10, [.ref b2, .ref b1, .int (nI trayed), .int (nI j_r), .int (nI q_r), .ref t_r, .int (nI (tot tb_r.1 + tot tb_r.2))])), (b1, .inl (E.2.1 0, 16000, .inl tray)), (b2, .inr (7, [.int tp]))] ++ ([(b0, .inr (6, [.ref b1, .int (nI 0), .int (nI fed), .int (-1), .ref b2, .ref b3, .int (nI tcn), .int (nI wby), .ref b4, .int (nI pcn), .ref b5, .ref b7])), (b3, .inl (E.2.1 4, 41, .inr (.inr (.inr (.inr tabs))))), (t_r, .inr (11, [.ref n_r, .ref c_r, .null]))] ++ im_p)) H locs := h
  refine ct_callQ (ct_runV (As := [.ref t_r, .int (nI (tot tb_r.1 + tot tb_r.2))]) (rest := []) B (met_X6_tabled l E b0 b1 b2 b3 b4 b5 b7 0 fed (-1) tcn wby pcn tabs ts t_r n_r c_r (tot tb_r.1 + tot tb_r.2) tb_r im_p H.size (hmt.mono hi_im_p) htl9 hok rfl (tab_tot hok)) (lw_V q1150 q1152 qs37 q54 q1153) (n := 2) ⟨by decide, by decide, by decide +kernel⟩ rfl ⟨rfl, rfl, (Nat.le_of_ble_eq_true rfl), (Nat.le_of_ble_eq_true rfl), (by first | omega | (dsimp only; omega)), (by first | omega | (dsimp only; omega))⟩ h.2.2 hA (ct_recv B h.1 kX6 3 rfl) ⟨(ct_Pr h.1), (ct_Dr (ct_D0 h hA))⟩ hl.1 (Nat.le_of_ble_eq_true rfl) dX6_read_54) h.2.2 (ct_subR h hAn) (ct_subR h hAn) (fun v H locs hv hz hk hS => ?_)
  obtain ⟨r_2, tc_2, wb_2, tb_2, ts_2, im_2, rfl, hP1, hD1, hfl, hmt2, him⟩ := hv
  have h : Hs E A s.heap ([(r_1, .inr (10, [.ref b2, .ref b1, .int (nI trayed), .int (nI j_r), .int (nI q_r), .ref t_r, .int (nI (tot tb_r.1 + tot tb_r.2))])), (b1, .inl (E.2.1 0, 16000, .inl tray)), (b2, .inr (7, [.int tp]))] ++ ([(b0, .inr (6, [.ref b1, .int (nI 0), .int (nI fed), .int (-1), .ref b2, .ref b3, .int (nI tc_2), .int (nI wb_2), .ref b4, .int (nI pcn), .ref b5, .ref b7])), (b3, .inl (E.2.1 4, 41, .inr (.inr (.inr (.inr tb_2)))))] ++ im_2)) H locs := ct_frR h hP1 hD1 hk hS hAn
  have h : Hs E A s.heap ([(r_1, .inr (10, [.ref b2, .ref b1, .int (nI trayed), .int (nI j_r), .int (nI q_r), .ref t_r, .int (nI (tot tb_r.1 + tot tb_r.2))])), (b1, .inl (E.2.1 0, 16000, .inl tray)), (b2, .inr (7, [.int tp])), (b0, .inr (6, [.ref b1, .int (nI 0), .int (nI fed), .int (-1), .ref b2, .ref b3, .int (nI tc_2), .int (nI wb_2), .ref b4, .int (nI pcn), .ref b5, .ref b7])), (b3, .inl (E.2.1 4, 41, .inr (.inr (.inr (.inr tb_2)))))] ++ im_2) H locs := h
  clear hP1 hD1 hS hz hk
  refine W.eq (g2 := F0 m 57 ls [.int r_2]) rfl ?_
  have h : Hs E A s.heap ([(b0, .inr (6, [.ref b1, .int (nI 0), .int (nI fed), .int (-1), .ref b2, .ref b3, .int (nI tc_2), .int (nI wb_2), .ref b4, .int (nI pcn), .ref b5, .ref b7])), (b1, .inl (E.2.1 0, 16000, .inl tray)), (b2, .inr (7, [.int tp])), (b3, .inl (E.2.1 4, 41, .inr (.inr (.inr (.inr tb_2)))))] ++ im_2) H locs := ct_part h [3, 1, 2, 4] rfl rfl
  refine W.widen (k := 10 + 14 * (tx.length + 1)) (n := 60 + 150 * (tx.length + 1) + gs 16 + gs (tx.length + 16)) (by first | omega | (dsimp only; omega)) (by first | omega | (dsimp only; omega)) ?_
  exact ct_iret (ty := .int) (v := r_2) B rfl rfl h.2.2 ⟨_, (-1), tp, tc_2, wb_2, tb_2, ts_2, im_2, rfl, h.1, h.2.1, by rw [readS, hps_r]; dsimp only; rcases hfl with ⟨z1, z2, z3⟩ | ⟨z1, z2, z3⟩; rw [if_pos (show ts.length = 40 ∨ _ from z1), z2, z3]; rw [if_neg (show ¬ (ts.length = 40 ∨ _) from z1), z2, z3], hmt2, fun y hy => him y (hi_im_p y hy)⟩ dX6_read_57
