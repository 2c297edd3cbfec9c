theorem gD_mem {l : List Nat} {k : Nat} (h : k < l.length) : l.getD k 0 ∈ l := by
  rw [List.getD_eq_getElem?_getD, List.getElem?_eq_getElem h]
  exact List.getElem_mem _
set_option maxHeartbeats 4000000 in
set_option maxRecDepth 100000 in
theorem met_X0_write (l : Launch) (E : CE) (ad : Nat → Nat) (F : XF) (ob : Nat → Int32) (on : Nat) (db : Nat → Int32) (dn : Nat) (S : XS) (made : Nat) (all : Nat → Option Nat) (wn : Nat) (wb : Nat → Int32) (P : XP) (R : XR) (t : Int32) (ts : List Tab) (o : List Nat) (sz : Nat) (ho : outX ob on o) : Met l yX0_write (ws_ yX0_write cX0_write 4 (some .int)) { frames := 3, cells := 0, slots := 0, locals := 73 } (ctP E [.ref (ad 0), .int t] sz (fun H => va_P E.1 ct_cl (xw E ad F (ob, on, db, dn) S (made, all, wn, wb) P R) H ∧ va_D (fun q => E.2.2.1 ≤ q) (xw E ad F (ob, on, db, dn) S (made, all, wn, wb) P R) ∧ xTabs E ad made all wn wb ts H)) (ctQ (fun v H => ∃ (r2 : Int32) (ad2 : Nat → Nat) (O2 : XO) (o2 : List Nat), v = some (.int r2) ∧ va_P E.1 ct_cl (xw E ad2 F O2 S (made, all, wn, wb) P R) H ∧ (ad2 = ad ∨ ad2 = swp ad) ∧ (r2, o2) = writeS ts o t ∧ outX O2.1 O2.2.1 o2) (va_A (xw E ad F (ob, on, db, dn) S (made, all, wn, wb) P R) sz)) 0 0 (va_A (xw E ad F (ob, on, db, dn) S (made, all, wn, wb) P R) sz) := by
  refine ct_start (by decide) (Nat.le_of_ble_eq_true rfl) ?_
  intro p e s m below meth c ls B hsz hH hl
  obtain ⟨hP, hD, hTB⟩ := hH
  obtain ⟨A, hAe, h, hA, hAn⟩ := ct_enter B.2.2.2.2.2.2.2.2 hsz hP hD
  rw [hAe]
  refine ct_gen h (fun H locs h => ?_)
  have hx := B.1
  have hb := B.2.1
  have hl : lv_has ls 4 [(0, .ref (ad 0)), (1, .int t)] := hl
  refine lv_aload_n hx hb dX0_write_0 rfl (lv_at hl 0 rfl) ?_
  refine ct_get (v := .ref (ad 3)) B h.1 kX0 0 rfl 4 (Nat.le_of_ble_eq_true rfl) q281 rfl dX0_write_1 ?_
  refine lv_iload_n hx hb dX0_write_4 rfl (lv_at hl 1 rfl) ?_
  refine ct_callR (ct_runV (As := [.int t]) (rest := []) B (met_X2_find l E ad F (ob, on, db, dn) S made all wn wb P R t H.size (by have := hTB.2.1; omega)) (lw_V q534 q535 q536 q50 q537) (n := 1) ⟨by decide, by decide, by decide +kernel⟩ rfl ⟨rfl, rfl, (Nat.le_of_ble_eq_true rfl), (Nat.le_of_ble_eq_true rfl), (Nat.le_of_ble_eq_true rfl), (Nat.le_of_ble_eq_true rfl)⟩ h.2.2 hA (ct_recv B h.1 kX2 3 rfl) h.1 hl.1 (Nat.le_of_ble_eq_true rfl) dX0_write_5) (fun v hv => ?_)
  subst hv
  refine W.eq (g2 := F0 m 8 ls [va_rf (fndV made all t)]) rfl ?_
  refine q_astore_n (lv' := [(2, va_rf (fndV made all t)), (0, .ref (ad 0)), (1, .int t)]) hx hb dX0_write_8 rfl hl (by decide) rfl (fun ls hl => ?_)
  rcases hq : fndV made all t with _ | x9
  · rw [hq] at hl
    have htb := xTabs_none hTB hq
    refine lv_aload_nN hx hb dX0_write_9 rfl (lv_at hl 0 rfl) ?_
    refine lv_ifnonnullN hx hb dX0_write_10 ?_
    refine lv_bipush (v := (-14)) hx hb dX0_write_13 (by decide) ?_
    exact ct_iret (ty := .int) (v := (-14)) B rfl rfl h.2.2 ⟨(-14), ad, (ob, on, db, dn), o, rfl, h.1, Or.inl rfl, by rw [writeS, htb], ho⟩ dX0_write_15
  · rw [hq] at hl
    obtain ⟨tb, q, f, rfl, htb, hap, hTq, hnum, htok⟩ := xTabs_get hTB hq
    obtain ⟨hcs, hrs, htl2, hnm0, hcl0⟩ := htok
    have hmul := mul_cs hcs.2 hrs
    have hNq := apT_N hTq hsz hap (hAe := hAe)
    refine lv_aload_n hx hb dX0_write_9 rfl (lv_at hl 0 rfl) ?_
    refine lv_ifnonnull (tgt := 16) hx hb dX0_write_10 (by decide) ?_
    refine lv_aload_n hx hb dX0_write_16 rfl (lv_at hl 1 rfl) ?_
    refine ct_get (v := .ref (ad 18)) B h.1 kX0 0 rfl 10 (Nat.le_of_ble_eq_true rfl) q287 rfl dX0_write_17 ?_
    refine lv_iconst (v := nI 0) hx hb dX0_write_20 (by decide) ?_
    refine ct_put (ws' := xw E ad F (ob, on, db, 0) S (made, all, wn, wb) P R) B h kX5 18 rfl 1 (Nat.le_of_ble_eq_true rfl) q271 rfl rfl rfl (Nat.le_of_ble_eq_true rfl) rfl dX0_write_21 (fun H locs h => ?_)
    refine lv_aload_n hx hb dX0_write_24 rfl (lv_at hl 1 rfl) ?_
    refine ct_get (v := .ref (ad 3)) B h.1 kX0 0 rfl 4 (Nat.le_of_ble_eq_true rfl) q281 rfl dX0_write_25 ?_
    refine lv_aload_n hx hb dX0_write_28 rfl (lv_at hl 0 rfl) ?_
    refine lv_aload_n hx hb dX0_write_29 rfl (lv_at hl 1 rfl) ?_
    refine ct_get (v := .ref (ad 18)) B h.1 kX0 0 rfl 10 (Nat.le_of_ble_eq_true rfl) q287 rfl dX0_write_30 ?_
    refine ct_callQ (ct_runV (As := [.ref (q 0), .ref (ad 18)]) (rest := []) B (met_X2_write l E ad F ob on db 0 S made all wn wb P R q (tCols tb) (tRows tb) f (nameW tb) (cellW tb) (laneT (tCols tb) (tRows tb) (cellW tb)) H.size hcs hrs (nameW_nm hnm0) hnum.1 hnum.2.1 (fun c9 h9 => ⟨hnum.2.2 c9 h9, laneT_le _ _ _ _⟩) ⟨rfl, fun j hj => absurd hj (Nat.not_lt_zero j)⟩) (lw_V q669 q670 q671 q50 q672) (n := 2) ⟨by decide, by decide, by decide +kernel⟩ rfl ⟨rfl, rfl, (Nat.le_of_ble_eq_true rfl), (Nat.le_of_ble_eq_true rfl), (Nat.le_of_ble_eq_true rfl), (Nat.le_of_ble_eq_true rfl)⟩ h.2.2 hA (ct_recv B h.1 kX2 3 rfl) ⟨h.1, (ct_D0 h hA), (ct_keep hTq hNq h.2.2), hap⟩ hl.1 (Nat.le_of_ble_eq_true rfl) dX0_write_33) h.2.2 (ct_sub h hAn) (ct_sub h hAn) (fun v H locs hv hz hk hS => ?_)
    obtain ⟨db_w, dn_w, rfl, hP1, ho2⟩ := hv
    have h : Hs E A s.heap (xw E ad F (ob, on, db_w, dn_w) S (made, all, wn, wb) P R) H locs := ct_again h hP1 rfl hS
    clear hP1 hS hz hk
    refine W.eq (g2 := F0 m 36 ls [.int (if (wrO (tCols tb) (tRows tb) (nameW tb) (cellW tb) (laneT (tCols tb) (tRows tb) (cellW tb))).length ≤ 30000 then 1 else 0)]) rfl ?_
    refine b_if_ne (tgt := 42) hx hb dX0_write_36 (by decide) (fun cwr => ?_) (fun cwr => ?_)
    · refine lv_aload_n hx hb dX0_write_42 rfl (lv_at hl 1 rfl) ?_
      refine ct_get (v := .ref (ad 16)) B h.1 kX0 0 rfl 9 (Nat.le_of_ble_eq_true rfl) q286 rfl dX0_write_43 ?_
      refine lv_astore_n (lv' := [(3, .ref (ad 16)), (2, .ref (q 0)), (0, .ref (ad 0)), (1, .int t)]) hx hb dX0_write_46 rfl hl (by decide) rfl (fun ls hl => ?_)
      have h : Hs E A s.heap ([(ad 0, .inr (0, [.ref (ad 1), .int (nI F.2.1), .int (nI F.2.2.1), .ref (ad 2), .ref (ad 3), .int F.2.2.2.1, .ref (ad 14), .int (nI F.2.2.2.2.2.1), .ref (ad 15), .ref (ad 16), .ref (ad 18)])), (ad 1, .inl (E.2.1 0, 16000, .inl F.1)), (ad 2, .inr (1, [.ref (ad 20), .int S.1, .int S.2])), (ad 3, .inr (2, [.ref (ad 2), .ref (ad 4), .ref (ad 6), .int (nI made), va_rf P.1, .int (nI P.2.1), .int (nI P.2.2.1), .ref (ad 7), .int (nI P.2.2.2.2.1), .ref (ad 8), .ref (ad 9), .int (nI P.2.2.2.2.2.2.2.1), .int (nI P.2.2.2.2.2.2.2.2), .ref (ad 10), .ref (ad 13)])), (ad 4, .inr (3, [.ref (ad 5), .int (nI wn)])), (ad 5, .inl (E.2.1 0, 65536, .inl wb)), (ad 6, .inl (E.2.1 3, 41, .inr (.inr (.inr (.inr all))))), (ad 7, .inl (E.2.1 0, 16000, .inl P.2.2.2.1)), (ad 8, .inl (E.2.1 1, 8000, .inl P.2.2.2.2.2.1)), (ad 9, .inl (E.2.1 0, 8000, .inl P.2.2.2.2.2.2.1)), (ad 10, .inr (4, [.ref (ad 11), .ref (ad 12), va_rf R.2.2.1, .int R.2.2.2.1, .int R.2.2.2.2.1])), (ad 11, .inl (E.2.1 1, 4096, .inl R.1)), (ad 12, .inl (E.2.1 1, 4096, .inl R.2.1)), (ad 13, .inl (E.2.1 2, 500, .inr (.inl R.2.2.2.2.2))), (ad 14, .inl (E.2.1 2, 500, .inr (.inl F.2.2.2.2.1))), (ad 15, .inl (E.2.1 2, 500, .inr (.inl F.2.2.2.2.2.2))), (ad 16, .inr (5, [.ref (ad 17), .int (nI on)])), (ad 17, .inl (E.2.1 0, 30000, .inl ob)), (ad 18, .inr (5, [.ref (ad 19), .int (nI dn_w)])), (ad 19, .inl (E.2.1 0, 30000, .inl db_w))]) H locs := h
      refine lv_aload_n hx hb dX0_write_47 rfl (lv_at hl 2 rfl) ?_
      refine lv_aload_n hx hb dX0_write_48 rfl (lv_at hl 2 rfl) ?_
      refine ct_get (v := .ref (ad 18)) B h.1 kX0 0 rfl 10 (Nat.le_of_ble_eq_true rfl) q287 rfl dX0_write_49 ?_
      refine ct_put (ws' := [(ad 0, .inr (0, [.ref (ad 1), .int (nI F.2.1), .int (nI F.2.2.1), .ref (ad 2), .ref (ad 3), .int F.2.2.2.1, .ref (ad 14), .int (nI F.2.2.2.2.2.1), .ref (ad 15), .ref (ad 18), .ref (ad 18)])), (ad 1, .inl (E.2.1 0, 16000, .inl F.1)), (ad 2, .inr (1, [.ref (ad 20), .int S.1, .int S.2])), (ad 3, .inr (2, [.ref (ad 2), .ref (ad 4), .ref (ad 6), .int (nI made), va_rf P.1, .int (nI P.2.1), .int (nI P.2.2.1), .ref (ad 7), .int (nI P.2.2.2.2.1), .ref (ad 8), .ref (ad 9), .int (nI P.2.2.2.2.2.2.2.1), .int (nI P.2.2.2.2.2.2.2.2), .ref (ad 10), .ref (ad 13)])), (ad 4, .inr (3, [.ref (ad 5), .int (nI wn)])), (ad 5, .inl (E.2.1 0, 65536, .inl wb)), (ad 6, .inl (E.2.1 3, 41, .inr (.inr (.inr (.inr all))))), (ad 7, .inl (E.2.1 0, 16000, .inl P.2.2.2.1)), (ad 8, .inl (E.2.1 1, 8000, .inl P.2.2.2.2.2.1)), (ad 9, .inl (E.2.1 0, 8000, .inl P.2.2.2.2.2.2.1)), (ad 10, .inr (4, [.ref (ad 11), .ref (ad 12), va_rf R.2.2.1, .int R.2.2.2.1, .int R.2.2.2.2.1])), (ad 11, .inl (E.2.1 1, 4096, .inl R.1)), (ad 12, .inl (E.2.1 1, 4096, .inl R.2.1)), (ad 13, .inl (E.2.1 2, 500, .inr (.inl R.2.2.2.2.2))), (ad 14, .inl (E.2.1 2, 500, .inr (.inl F.2.2.2.2.1))), (ad 15, .inl (E.2.1 2, 500, .inr (.inl F.2.2.2.2.2.2))), (ad 16, .inr (5, [.ref (ad 17), .int (nI on)])), (ad 17, .inl (E.2.1 0, 30000, .inl ob)), (ad 18, .inr (5, [.ref (ad 19), .int (nI dn_w)])), (ad 19, .inl (E.2.1 0, 30000, .inl db_w))]) B h kX0 0 rfl 9 (Nat.le_of_ble_eq_true rfl) q286 rfl rfl rfl (Nat.le_of_ble_eq_true rfl) rfl dX0_write_52 (fun H locs h => ?_)
      refine lv_aload_n hx hb dX0_write_55 rfl (lv_at hl 2 rfl) ?_
      refine lv_aload_n hx hb dX0_write_56 rfl (lv_at hl 0 rfl) ?_
      refine ct_put (ws' := [(ad 0, .inr (0, [.ref (ad 1), .int (nI F.2.1), .int (nI F.2.2.1), .ref (ad 2), .ref (ad 3), .int F.2.2.2.1, .ref (ad 14), .int (nI F.2.2.2.2.2.1), .ref (ad 15), .ref (ad 18), .ref (ad 16)])), (ad 1, .inl (E.2.1 0, 16000, .inl F.1)), (ad 2, .inr (1, [.ref (ad 20), .int S.1, .int S.2])), (ad 3, .inr (2, [.ref (ad 2), .ref (ad 4), .ref (ad 6), .int (nI made), va_rf P.1, .int (nI P.2.1), .int (nI P.2.2.1), .ref (ad 7), .int (nI P.2.2.2.2.1), .ref (ad 8), .ref (ad 9), .int (nI P.2.2.2.2.2.2.2.1), .int (nI P.2.2.2.2.2.2.2.2), .ref (ad 10), .ref (ad 13)])), (ad 4, .inr (3, [.ref (ad 5), .int (nI wn)])), (ad 5, .inl (E.2.1 0, 65536, .inl wb)), (ad 6, .inl (E.2.1 3, 41, .inr (.inr (.inr (.inr all))))), (ad 7, .inl (E.2.1 0, 16000, .inl P.2.2.2.1)), (ad 8, .inl (E.2.1 1, 8000, .inl P.2.2.2.2.2.1)), (ad 9, .inl (E.2.1 0, 8000, .inl P.2.2.2.2.2.2.1)), (ad 10, .inr (4, [.ref (ad 11), .ref (ad 12), va_rf R.2.2.1, .int R.2.2.2.1, .int R.2.2.2.2.1])), (ad 11, .inl (E.2.1 1, 4096, .inl R.1)), (ad 12, .inl (E.2.1 1, 4096, .inl R.2.1)), (ad 13, .inl (E.2.1 2, 500, .inr (.inl R.2.2.2.2.2))), (ad 14, .inl (E.2.1 2, 500, .inr (.inl F.2.2.2.2.1))), (ad 15, .inl (E.2.1 2, 500, .inr (.inl F.2.2.2.2.2.2))), (ad 16, .inr (5, [.ref (ad 17), .int (nI on)])), (ad 17, .inl (E.2.1 0, 30000, .inl ob)), (ad 18, .inr (5, [.ref (ad 19), .int (nI dn_w)])), (ad 19, .inl (E.2.1 0, 30000, .inl db_w))]) B h kX0 0 rfl 10 (Nat.le_of_ble_eq_true rfl) q287 rfl rfl rfl (Nat.le_of_ble_eq_true rfl) rfl dX0_write_57 (fun H locs h => ?_)
      refine lv_aload_n hx hb dX0_write_60 rfl (lv_at hl 2 rfl) ?_
      refine ct_get (v := .ref (ad 18)) B h.1 kX0 0 rfl 9 (Nat.le_of_ble_eq_true rfl) q286 rfl dX0_write_61 ?_
      refine ct_get (v := .int (nI dn_w)) B h.1 kX5 18 rfl 1 (Nat.le_of_ble_eq_true rfl) q271 rfl dX0_write_64 ?_
      have hou := ho2 cwr
      have hdn : dn_w = (wrT tb).length := by rw [hou.1]; exact Nat.min_eq_left cwr
      exact ct_iret (ty := .int) (v := (nI dn_w)) B rfl rfl h.2.2 ⟨_, (swp ad), (db_w, dn_w, ob, on), (wrT tb), rfl, (h.1.sub [0, 1, 2, 3, 4, 5, 6, 7, 8, 9, 10, 11, 12, 13, 14, 15, 18, 19, 16, 17] rfl), Or.inr rfl, by rw [writeS, htb]; dsimp only; rw [if_pos (show (wrT tb).length ≤ 30000 from cwr), hdn], ⟨hdn, cwr, hou.2, wrO_lt (TD_lt hnum.1) (TD_lt hnum.2.1)⟩⟩ dX0_write_67
    · refine lv_bipush (v := (-12)) hx hb dX0_write_39 (by decide) ?_
      exact ct_iret (ty := .int) (v := (-12)) B rfl rfl h.2.2 ⟨(-12), ad, (ob, on, db_w, dn_w), o, rfl, h.1, Or.inl rfl, by rw [writeS, htb]; dsimp only; rw [if_neg (show ¬ (wrT tb).length ≤ 30000 from cwr)], ho⟩ dX0_write_41
set_option maxHeartbeats 4000000 in
set_option maxRecDepth 100000 in
theorem met_X0_read (l : Launch) (E : CE) (ad : Nat → Nat) (tray : Nat → Int32) (trayed : Nat) (fed : Nat) (place : Int32) (picked : Nat → Int64) (pcnt : Nat) (column : Nat → Int64) (O : XO) (code : Int32) (splace : Int32) (made : Nat) (all : Nat → Option Nat) (wn : Nat) (wb : Nat → Int32) (txt : Option Nat) (size : Nat) (at_ : Nat) (means : Nat → Int32) (meant : Nat) (starts : Nat → Int32) (lens : Nat → Int32) (cnt : Nat) (cols : Nat) (R : XR) (ts : List Tab) (tx : List Nat) (sz : Nat) (h20 : ∀ i, i < 20 → ad i ≠ ad 20) (ho9 : ∀ i, 20 < i → ad i < sz) (hty : trayed ≤ 16000) (htx : txR tray trayed tx) : Met l yX0_read (wsW_ yX0_read cX0_read 3 (some .int) [(10, 22, 23, 73)]) { frames := 13, cells := 6, slots := 16023, locals := 308 } (ctP E [.ref (ad 0)] sz (fun H => va_P E.1 ct_cl (xw E ad (tray, trayed, fed, place, picked, pcnt, column) O (code, splace) (made, all, wn, wb) (txt, size, at_, means, meant, starts, lens, cnt, cols) R) H ∧ va_D (fun q => E.2.2.1 ≤ q) (xw E ad (tray, trayed, fed, place, picked, pcnt, column) O (code, splace) (made, all, wn, wb) (txt, size, at_, means, meant, starts, lens, cnt, cols) R) ∧ xTabs E ad made all wn wb ts H ∧ exC E H (ad 20))) (ctQ (fun v H => ∃ (r2 pl2 cd2 sp2 : Int32) (T2 : XT) (P2 : XP) (ts2 : List Tab), v = some (.int r2) ∧ va_P E.1 ct_cl (xw E ad (tray, 0, fed, pl2, picked, pcnt, column) O (cd2, sp2) T2 P2 R) H ∧ (r2, pl2, ts2) = readS ts tx ∧ xTabs E ad T2.1 T2.2.1 T2.2.2.1 T2.2.2.2 ts2 H) (va_A (xw E ad (tray, trayed, fed, place, picked, pcnt, column) O (code, splace) (made, all, wn, wb) (txt, size, at_, means, meant, starts, lens, cnt, cols) R) sz)) 6 16023 (va_A (xw E ad (tray, trayed, fed, place, picked, pcnt, column) O (code, splace) (made, all, wn, wb) (txt, size, at_, means, meant, starts, lens, cnt, cols) R) sz) := by
  refine ct_startW (by decide) (Nat.le_of_ble_eq_true rfl) ?_
  intro p e s m below meth c ls B htab hsz hH hl
  obtain ⟨hP, hD, hTB, hex⟩ := hH
  obtain ⟨A, hAe, h, hA, hAn⟩ := ct_enter B.2.2.2.2.2.2.2.2 hsz hP hD
  have hN20 := ap20 hex hsz h20 hAe
  rw [hAe]
  refine ct_gen h (fun H locs h => ?_)
  have hx := B.1
  have hb := B.2.1
  have hl : lv_has ls 3 [(0, .ref (ad 0))] := hl
  refine lv_aload_n hx hb dX0_read_0 rfl (lv_at hl 0 rfl) ?_
  refine lv_iconst (v := (-1)) hx hb dX0_read_1 (by decide) ?_
  refine ct_put (ws' := xw E ad (tray, trayed, fed, (-1), picked, pcnt, column) O (code, splace) (made, all, wn, wb) (txt, size, at_, means, meant, starts, lens, cnt, cols) R) B h kX0 0 rfl 5 (Nat.le_of_ble_eq_true rfl) q282 rfl rfl rfl (Nat.le_of_ble_eq_true rfl) rfl dX0_read_2 (fun H locs h => ?_)
  refine lv_aload_n hx hb dX0_read_5 rfl (lv_at hl 0 rfl) ?_
  refine ct_callQ (ct_runV (As := []) (rest := []) B (met_X0_used l E ad tray trayed fed (-1) picked pcnt column O (code, splace) (made, all, wn, wb) (txt, size, at_, means, meant, starts, lens, cnt, cols) R  H.size) (lw_V q329 q331 qs2 q44 q332) (n := 0) ⟨by decide, by decide, by decide +kernel⟩ rfl ⟨rfl, rfl, (Nat.le_of_ble_eq_true rfl), (Nat.le_of_ble_eq_true rfl), (by dsimp only; omega), (by dsimp only; omega)⟩ h.2.2 hA (ct_recv B h.1 kX0 0 rfl) ⟨h.1, (ct_D0 h hA)⟩ hl.1 (Nat.le_of_ble_eq_true rfl) dX0_read_6) h.2.2 (ct_sub h hAn) (ct_sub h hAn) (fun v H locs hv hz hk hS => ?_)
  obtain ⟨rfl, hP1⟩ := hv
  have h : Hs E A s.heap (xw E ad (tray, 0, fed, (-1), picked, pcnt, column) O (code, splace) (made, all, wn, wb) (txt, size, at_, means, meant, starts, lens, cnt, cols) R) H locs := ct_again h hP1 rfl hS
  clear hP1 hS hz hk
  refine W.eq (g2 := F0 m 9 ls [.int (nI trayed)]) rfl ?_
  refine lv_istore_n (lv' := [(1, .int (nI trayed)), (0, .ref (ad 0))]) hx hb dX0_read_9 rfl hl (by decide) rfl (fun ls hl => ?_)
  have hH0 := h.2.2.1
  refine lv_aload_n hx hb dX0_read_10 rfl (lv_at hl 1 rfl) ?_
  refine ct_get (v := .ref (ad 3)) B h.1 kX0 0 rfl 4 (Nat.le_of_ble_eq_true rfl) q281 rfl dX0_read_11 ?_
  refine lv_aload_n hx hb dX0_read_14 rfl (lv_at hl 1 rfl) ?_
  refine ct_get (v := .ref (ad 1)) B h.1 kX0 0 rfl 0 (Nat.le_of_ble_eq_true rfl) q277 rfl dX0_read_15 ?_
  refine lv_iload_n hx hb dX0_read_18 rfl (lv_at hl 0 rfl) ?_
  refine ct_callC B htab ⟨by decide, by decide⟩ (by decide) q328 (ct_runXV (As := [.ref (ad 1), .int (nI trayed)]) (rest := []) B (met_X2_read l E ad tray 0 fed (-1) picked pcnt column O code splace made all wn wb txt size at_ means meant starts lens cnt cols R trayed tx H.size htx hty hTB.2.1 hTB.2.2.2.1) (lw_V q333 q334 q335 q50 q336) (n := 2) ⟨by decide, by decide, by decide +kernel⟩ rfl ⟨rfl, rfl, (Nat.le_of_ble_eq_true rfl), (Nat.le_of_ble_eq_true rfl), (by dsimp only; omega), (by dsimp only; omega)⟩ h.2.2 hA (ct_recv B h.1 kX2 3 rfl) ⟨h.1, (ct_D0 h hA)⟩ hl.1 (Nat.le_of_ble_eq_true rfl) dX0_read_19) h.2.2 (ct_sub h hAn) (ct_sub h hAn) (fun x H locs hv hz hk hS => ?_) (fun v H locs hv hz hk hS => ?_)
  · obtain ⟨cd_1, sp_2, P2_3, rfl, hP1, hth⟩ := hv
    refine ⟨ex_keep hex hN20 hS, ?_⟩
    have h : Hs E A s.heap (xw E ad (tray, 0, fed, (-1), picked, pcnt, column) O (cd_1, sp_2) (made, all, wn, wb) (P2_3.1, P2_3.2.1, P2_3.2.2.1, P2_3.2.2.2.1, P2_3.2.2.2.2.1, P2_3.2.2.2.2.2.1, P2_3.2.2.2.2.2.2.1, P2_3.2.2.2.2.2.2.2.1, P2_3.2.2.2.2.2.2.2.2) R) H locs := ct_again h hP1 rfl hS
    clear hP1 hS hz hk
    refine W.eq (g2 := F0 m 23 ls [.ref (ad 20)]) rfl ?_
    rcases hth with ⟨pl, hpe, rfl, rfl⟩ | ⟨tb, hpt, hfu, rfl, rfl⟩
    · refine lv_astore_n (lv' := [(2, .ref (ad 20)), (1, .int (nI trayed)), (0, .ref (ad 0))]) hx hb dX0_read_23 rfl hl (by decide) rfl (fun ls hl => ?_)
      refine lv_aload_n hx hb dX0_read_24 rfl (lv_at hl 2 rfl) ?_
      refine lv_aload_n hx hb dX0_read_25 rfl (lv_at hl 2 rfl) ?_
      refine ct_get (v := .ref (ad 2)) B h.1 kX0 0 rfl 3 (Nat.le_of_ble_eq_true rfl) q280 rfl dX0_read_26 ?_
      refine ct_get (v := .int (nI pl)) B h.1 kX1 2 rfl 2 (Nat.le_of_ble_eq_true rfl) q161 rfl dX0_read_29 ?_
      refine ct_put (ws' := xw E ad (tray, 0, fed, (nI pl), picked, pcnt, column) O (20, (nI pl)) (made, all, wn, wb) (P2_3.1, P2_3.2.1, P2_3.2.2.1, P2_3.2.2.2.1, P2_3.2.2.2.2.1, P2_3.2.2.2.2.2.1, P2_3.2.2.2.2.2.2.1, P2_3.2.2.2.2.2.2.2.1, P2_3.2.2.2.2.2.2.2.2) R) B h kX0 0 rfl 5 (Nat.le_of_ble_eq_true rfl) q282 rfl rfl rfl (Nat.le_of_ble_eq_true rfl) rfl dX0_read_32 (fun H locs h => ?_)
      refine lv_aload_n hx hb dX0_read_35 rfl (lv_at hl 2 rfl) ?_
      refine ct_get (v := .ref (ad 2)) B h.1 kX0 0 rfl 3 (Nat.le_of_ble_eq_true rfl) q280 rfl dX0_read_36 ?_
      refine ct_get (v := .int 20) B h.1 kX1 2 rfl 1 (Nat.le_of_ble_eq_true rfl) q159 rfl dX0_read_39 ?_
      refine lv_ineg hx hb dX0_read_42 ?_
      refine W.widen (k := 6) (n := 16023) (by omega) (by omega) ?_
      exact ct_iret (ty := .int) (v := (-20)) B rfl rfl h.2.2 ⟨_, (nI pl), 20, (nI pl), (made, all, wn, wb), (P2_3.1, P2_3.2.1, P2_3.2.2.1, P2_3.2.2.2.1, P2_3.2.2.2.2.1, P2_3.2.2.2.2.2.1, P2_3.2.2.2.2.2.2.1, P2_3.2.2.2.2.2.2.2.1, P2_3.2.2.2.2.2.2.2.2), ts, rfl, h.1, by rw [readS, hpe], (xTabs_kept hTB hsz (fun q9 h9 h8 => h.2.2.2.1 q9 h9 (by rw [← hAe]; exact h8)))⟩ dX0_read_43
    · refine lv_astore_n (lv' := [(2, .ref (ad 20)), (1, .int (nI trayed)), (0, .ref (ad 0))]) hx hb dX0_read_23 rfl hl (by decide) rfl (fun ls hl => ?_)
      refine lv_aload_n hx hb dX0_read_24 rfl (lv_at hl 2 rfl) ?_
      refine lv_aload_n hx hb dX0_read_25 rfl (lv_at hl 2 rfl) ?_
      refine ct_get (v := .ref (ad 2)) B h.1 kX0 0 rfl 3 (Nat.le_of_ble_eq_true rfl) q280 rfl dX0_read_26 ?_
      refine ct_get (v := .int (-1)) B h.1 kX1 2 rfl 2 (Nat.le_of_ble_eq_true rfl) q161 rfl dX0_read_29 ?_
      refine ct_put (ws' := xw E ad (tray, 0, fed, (-1), picked, pcnt, column) O ((nI 12), (-1)) (made, all, wn, wb) (P2_3.1, P2_3.2.1, P2_3.2.2.1, P2_3.2.2.2.1, P2_3.2.2.2.2.1, P2_3.2.2.2.2.2.1, P2_3.2.2.2.2.2.2.1, P2_3.2.2.2.2.2.2.2.1, P2_3.2.2.2.2.2.2.2.2) R) B h kX0 0 rfl 5 (Nat.le_of_ble_eq_true rfl) q282 rfl rfl rfl (Nat.le_of_ble_eq_true rfl) rfl dX0_read_32 (fun H locs h => ?_)
      refine lv_aload_n hx hb dX0_read_35 rfl (lv_at hl 2 rfl) ?_
      refine ct_get (v := .ref (ad 2)) B h.1 kX0 0 rfl 3 (Nat.le_of_ble_eq_true rfl) q280 rfl dX0_read_36 ?_
      refine ct_get (v := .int (nI 12)) B h.1 kX1 2 rfl 1 (Nat.le_of_ble_eq_true rfl) q159 rfl dX0_read_39 ?_
      refine lv_ineg hx hb dX0_read_42 ?_
      refine W.widen (k := 6) (n := 16023) (by omega) (by omega) ?_
      exact ct_iret (ty := .int) (v := (-(nI 12))) B rfl rfl h.2.2 ⟨_, (-1), (nI 12), (-1), (made, all, wn, wb), (P2_3.1, P2_3.2.1, P2_3.2.2.1, P2_3.2.2.2.1, P2_3.2.2.2.2.1, P2_3.2.2.2.2.2.1, P2_3.2.2.2.2.2.2.1, P2_3.2.2.2.2.2.2.2.1, P2_3.2.2.2.2.2.2.2.2), ts, rfl, h.1, by rw [readS, hpt]; dsimp only; rw [if_pos (by rw [← hTB.1, ← hTB.2.2.1]; exact hfu)]; rfl, (xTabs_kept hTB hsz (fun q9 h9 h8 => h.2.2.2.1 q9 h9 (by rw [← hAe]; exact h8)))⟩ dX0_read_43
  obtain ⟨tb_r, q_r, f_r, wb_r, P_r, rfl, hP1, hpt, hfit, hT2, hqf2, hwb2, htn2⟩ := hv
  have h : Hs E A s.heap (xw E ad (tray, 0, fed, (-1), picked, pcnt, column) O (code, splace) (made + 1, va_up all (made + 1) (some (q_r 0)), wn + (tot tb_r.1 + tot tb_r.2), wb_r) (P_r.1, P_r.2.1, P_r.2.2.1, P_r.2.2.2.1, P_r.2.2.2.2.1, P_r.2.2.2.2.2.1, P_r.2.2.2.2.2.2.1, P_r.2.2.2.2.2.2.2.1, P_r.2.2.2.2.2.2.2.2) R) H locs := ct_again h hP1 rfl hS
  clear hP1 hS hz hk
  refine W.eq (g2 := F0 m 22 ls [.int (nI (made + 1))]) rfl ?_
  refine W.widen (k := 6) (n := 16023) (by omega) (by omega) ?_
  exact ct_iret (ty := .int) (v := (nI (made + 1))) B rfl rfl h.2.2 ⟨_, (-1), code, splace, (made + 1, va_up all (made + 1) (some (q_r 0)), wn + (tot tb_r.1 + tot tb_r.2), wb_r), (P_r.1, P_r.2.1, P_r.2.2.1, P_r.2.2.2.1, P_r.2.2.2.2.1, P_r.2.2.2.2.2.1, P_r.2.2.2.2.2.2.1, P_r.2.2.2.2.2.2.2.1, P_r.2.2.2.2.2.2.2.2), (ts ++ [tb_r]), rfl, h.1, by rw [readS, hpt]; dsimp only; rw [if_neg (by rw [← hTB.1, ← hTB.2.2.1]; omega), hTB.1], xTabs_add (xTabs_kept hTB hsz (fun q9 h9 h8 => h.2.2.2.1 q9 h9 (by rw [← hAe]; exact h8))) hfit.1 hfit.2 hwb2 (apT_fresh hP (Nat.le_refl _) (fun j hj => Nat.le_trans hH0 (hqf2 j hj)) (fun i9 h9 => by rw [hsz]; exact ho9 i9 h9)) hT2 htn2 (parse_ok hpt)⟩ dX0_read_22
theorem noBig {pk : List Nat} {n k : Nat} (hk : pk.length ≤ k) (h : ∀ j, j < k → pk.getD j 0 < n) : ¬ ∃ x ∈ pk, n ≤ x := by
  rintro ⟨x, hx, hn⟩
  obtain ⟨j, hj, rfl⟩ := List.mem_iff_getElem.mp hx
  have := h j (by omega)
  rw [List.getD_eq_getElem?_getD, List.getElem?_eq_getElem hj] at this
  dsimp only [Option.getD_some] at this
  omega
theorem isBig {pk : List Nat} {n j : Nat} (hj : j < pk.length) (h : n ≤ pk.getD j 0) : ∃ x ∈ pk, n ≤ x := by
  refine ⟨pk.getD j 0, ?_, h⟩
  rw [List.getD_eq_getElem?_getD, List.getElem?_eq_getElem hj]
  exact List.getElem_mem _
set_option maxHeartbeats 4000000 in
set_option maxRecDepth 100000 in
theorem met_X0_pick (l : Launch) (E : CE) (ad : Nat → Nat) (tray : Nat → Int32) (trayed : Nat) (fed : Nat) (place : Int32) (picked : Nat → Int64) (pcnt : Nat) (column : Nat → Int64) (O : XO) (code : Int32) (splace : Int32) (made : Nat) (all : Nat → Option Nat) (wn : Nat) (wb : Nat → Int32) (P : XP) (R : XR) (t : Int32) (ts : List Tab) (pk : List Nat) (sz : Nat) (h20 : ∀ i, i < 20 → ad i ≠ ad 20) (ho9 : ∀ i, 20 < i → ad i < sz) (hpk : pkR picked pcnt pk) : Met l yX0_pick (wsW_ yX0_pick cX0_pick 5 (some .int) [(60, 73, 74, 73)]) { frames := 12, cells := 6, slots := 16023, locals := 289 } (ctP E [.ref (ad 0), .int t] sz (fun H => va_P E.1 ct_cl (xw E ad (tray, trayed, fed, place, picked, pcnt, column) O (code, splace) (made, all, wn, wb) P R) H ∧ va_D (fun q => E.2.2.1 ≤ q) (xw E ad (tray, trayed, fed, place, picked, pcnt, column) O (code, splace) (made, all, wn, wb) P R) ∧ xTabs E ad made all wn wb ts H ∧ exC E H (ad 20))) (ctQ (fun v H => ∃ (r2 cd2 sp2 : Int32) (T2 : XT) (ts2 : List Tab), v = some (.int r2) ∧ va_P E.1 ct_cl (xw E ad (tray, trayed, fed, place, picked, 0, column) O (cd2, sp2) T2 P R) H ∧ (r2, ts2) = pickS ts pk t ∧ xTabs E ad T2.1 T2.2.1 T2.2.2.1 T2.2.2.2 ts2 H) (va_A (xw E ad (tray, trayed, fed, place, picked, pcnt, column) O (code, splace) (made, all, wn, wb) P R) sz)) 6 16023 (va_A (xw E ad (tray, trayed, fed, place, picked, pcnt, column) O (code, splace) (made, all, wn, wb) P R) sz) := by
  refine ct_startW (by decide) (Nat.le_of_ble_eq_true rfl) ?_
  intro p e s m below meth c ls B htab hsz hH hl
  obtain ⟨hP, hD, hTB, hex⟩ := hH
  obtain ⟨A, hAe, h, hA, hAn⟩ := ct_enter B.2.2.2.2.2.2.2.2 hsz hP hD
  have hN20 := ap20 hex hsz h20 hAe
  rw [hAe]
  refine ct_gen h (fun H locs h => ?_)
  have hx := B.1
  have hb := B.2.1
  have hl : lv_has ls 5 [(0, .ref (ad 0)), (1, .int t)] := hl
  have hp1 := hpk.1
  have hp2 := hpk.2.1
  refine lv_aload_n hx hb dX0_pick_0 rfl (lv_at hl 0 rfl) ?_
  refine ct_get (v := .int (nI pcnt)) B h.1 kX0 0 rfl 7 (Nat.le_of_ble_eq_true rfl) q284 rfl dX0_pick_1 ?_
  refine lv_istore_n (lv' := [(2, .int (nI pcnt)), (0, .ref (ad 0)), (1, .int t)]) hx hb dX0_pick_4 rfl hl (by decide) rfl (fun ls hl => ?_)
  refine lv_aload_n hx hb dX0_pick_5 rfl (lv_at hl 1 rfl) ?_
  refine lv_iconst (v := nI 0) hx hb dX0_pick_6 (by decide) ?_
  refine ct_put (ws' := xw E ad (tray, trayed, fed, place, picked, 0, column) O (code, splace) (made, all, wn, wb) P R) B h kX0 0 rfl 7 (Nat.le_of_ble_eq_true rfl) q284 rfl rfl rfl (Nat.le_of_ble_eq_true rfl) rfl dX0_pick_7 (fun H locs h => ?_)
  refine lv_aload_n hx hb dX0_pick_10 rfl (lv_at hl 1 rfl) ?_
  refine ct_get (v := .ref (ad 3)) B h.1 kX0 0 rfl 4 (Nat.le_of_ble_eq_true rfl) q281 rfl dX0_pick_11 ?_
  refine lv_iload_n hx hb dX0_pick_14 rfl (lv_at hl 2 rfl) ?_
  refine ct_callR (ct_runV (As := [.int t]) (rest := []) B (met_X2_find l E ad (tray, trayed, fed, place, picked, 0, column) O (code, splace) made all wn wb P R t H.size (by have := hTB.2.1; omega)) (lw_V q534 q535 q536 q50 q537) (n := 1) ⟨by decide, by decide, by decide +kernel⟩ rfl ⟨rfl, rfl, (Nat.le_of_ble_eq_true rfl), (Nat.le_of_ble_eq_true rfl), (by dsimp only; omega), (by dsimp only; omega)⟩ h.2.2 hA (ct_recv B h.1 kX2 3 rfl) h.1 hl.1 (Nat.le_of_ble_eq_true rfl) dX0_pick_15) (fun v hv => ?_)
  subst hv
  refine W.eq (g2 := F0 m 18 ls [va_rf (fndV made all t)]) rfl ?_
  refine q_astore_n (lv' := [(3, va_rf (fndV made all t)), (2, .int (nI pcnt)), (0, .ref (ad 0)), (1, .int t)]) hx hb dX0_pick_18 rfl hl (by decide) rfl (fun ls hl => ?_)
  rcases hq : fndV made all t with _ | x9
  · rw [hq] at hl
    have htb := xTabs_none hTB hq
    refine lv_aload_nN hx hb dX0_pick_19 rfl (lv_at hl 0 rfl) ?_
    refine lv_ifnonnullN hx hb dX0_pick_20 ?_
    refine lv_bipush (v := (-14)) hx hb dX0_pick_23 (by decide) ?_
    refine W.widen (k := 6) (n := 16023) (by omega) (by omega) ?_
    exact ct_iret (ty := .int) (v := (-14)) B rfl rfl h.2.2 ⟨(-14), code, splace, (made, all, wn, wb), ts, rfl, h.1, by rw [pickS, htb], (xTabs_kept hTB hsz (fun q9 h9 h8 => h.2.2.2.1 q9 h9 (by rw [← hAe]; exact h8)))⟩ dX0_pick_25
  · rw [hq] at hl
    obtain ⟨tb, q, f, rfl, htb, hap, hTq, hnum, htok⟩ := xTabs_get hTB hq
    obtain ⟨hcs, hrs, htl2, hnm0, hcl0⟩ := htok
    have hmul := mul_cs hcs.2 hrs
    have hNq := apT_N hTq hsz hap (hAe := hAe)
    refine lv_aload_n hx hb dX0_pick_19 rfl (lv_at hl 0 rfl) ?_
    refine lv_ifnonnull (tgt := 26) hx hb dX0_pick_20 (by decide) ?_
    refine lv_iconst (v := nI 0) hx hb dX0_pick_26 (by decide) ?_
    refine lv_istore (lv' := [(4, .int (nI 0)), (3, .ref (q 0)), (2, .int (nI pcnt)), (0, .ref (ad 0)), (1, .int t)]) hx hb dX0_pick_27 hl (by decide) rfl (fun ls hl => ?_)
    refine ct_loop (σ := Nat) (fun k ls => lv_has ls 5 [(4, .int (nI k)), (3, .ref (q 0)), (2, .int (nI pcnt)), (0, .ref (ad 0)), (1, .int t)] ∧ (k ≤ pcnt) ∧ (∀ j, j < k → pk.getD j 0 < tRows tb)) (fun k => pcnt - k) (g := fun k ls => F0 m 29 ls []) (x0 := 0) (ls0 := ls) ?_ ⟨lv_sub hl [0, 1, 2, 3, 4] rfl, Nat.zero_le _, fun j hj => absurd hj (Nat.not_lt_zero j)⟩
    clear hl
    intro k ls hI ih_1
    obtain ⟨hl, hk, hall⟩ := hI
    refine W.eq (g2 := F0 m 29 ls []) rfl ?_
    refine lv_iload hx hb dX0_pick_29 (lv_at hl 0 rfl) ?_
    refine lv_iload_n hx hb dX0_pick_31 rfl (lv_at hl 2 rfl) ?_
    refine n_icmp_ge (tgt := 60) hx hb dX0_pick_32 (by decide) (by omega) (by omega) (fun c_2 => ?_) (fun c_2 => ?_)
    · have hH0 := h.2.2.1
      have hnb := noBig (n := tRows tb) (pk := pk) (by omega) hall
      have hmul3 := mul_cs hcs.2 hp2
      have hmul4 : tCols tb * pcnt ≤ 7984 := by rw [hp1]; exact hmul3
      refine lv_aload_n hx hb dX0_pick_60 rfl (lv_at hl 3 rfl) ?_
      refine ct_get (v := .ref (ad 3)) B h.1 kX0 0 rfl 4 (Nat.le_of_ble_eq_true rfl) q281 rfl dX0_pick_61 ?_
      refine lv_aload_n hx hb dX0_pick_64 rfl (lv_at hl 1 rfl) ?_
      refine lv_aload_n hx hb dX0_pick_65 rfl (lv_at hl 3 rfl) ?_
      refine ct_get (v := .ref (ad 14)) B h.1 kX0 0 rfl 6 (Nat.le_of_ble_eq_true rfl) q283 rfl dX0_pick_66 ?_
      refine lv_iload_n hx hb dX0_pick_69 rfl (lv_at hl 2 rfl) ?_
      refine ct_callC B htab ⟨by decide, by decide⟩ (by decide) q328 (ct_runXV (As := [.ref (q 0), .ref (ad 14), .int (nI pcnt)]) (rest := []) B (met_X2_pick l E ad tray trayed fed place picked 0 column O code splace made all wn wb P R pcnt q (tCols tb) (tRows tb) f (nameW tb) (cellW tb) (fun j => pk.getD j 0) H.size (by omega) hcs hrs hTB.2.1 hTB.2.2.2.1 (nameW_nm hnm0) hnum.1 hnum.2.1 (fun j hj => ⟨hpk.2.2.1 j (by omega), hall j (by omega)⟩)) (lw_V q661 q662 q663 q50 q664) (n := 3) ⟨by decide, by decide, by decide +kernel⟩ rfl ⟨rfl, rfl, (Nat.le_of_ble_eq_true rfl), (Nat.le_of_ble_eq_true rfl), (by dsimp only; omega), (by dsimp only; omega)⟩ h.2.2 hA (ct_recv B h.1 kX2 3 rfl) ⟨h.1, (ct_D0 h hA), (ct_keep hTq hNq h.2.2), hap⟩ hl.1 (Nat.le_of_ble_eq_true rfl) dX0_pick_70) h.2.2 (ct_sub h hAn) (ct_sub h hAn) (fun x H locs hv hz hk hS => ?_) (fun v H locs hv hz hk hS => ?_)
      · obtain ⟨rfl, hP1, hfull⟩ := hv
        refine ⟨ex_keep hex hN20 hS, ?_⟩
        have h : Hs E A s.heap (xw E ad (tray, trayed, fed, place, picked, 0, column) O ((nI 12), (-1)) (made, all, wn, wb) P R) H locs := ct_again h hP1 rfl hS
        clear hP1 hS hz hk
        refine W.eq (g2 := F0 m 74 ls [.ref (ad 20)]) rfl ?_
        refine lv_astore (lv' := [(4, .ref (ad 20)), (3, .ref (q 0)), (2, .int (nI pcnt)), (0, .ref (ad 0)), (1, .int t)]) hx hb dX0_pick_74 hl (by decide) rfl (fun ls hl => ?_)
        refine lv_aload_n hx hb dX0_pick_76 rfl (lv_at hl 3 rfl) ?_
        refine ct_get (v := .ref (ad 2)) B h.1 kX0 0 rfl 3 (Nat.le_of_ble_eq_true rfl) q280 rfl dX0_pick_77 ?_
        refine ct_get (v := .int (nI 12)) B h.1 kX1 2 rfl 1 (Nat.le_of_ble_eq_true rfl) q159 rfl dX0_pick_80 ?_
        refine lv_ineg hx hb dX0_pick_83 ?_
        refine W.widen (k := 6) (n := 16023) (by omega) (by omega) ?_
        exact ct_iret (ty := .int) (v := (-(nI 12))) B rfl rfl h.2.2 ⟨_, (nI 12), (-1), (made, all, wn, wb), ts, rfl, h.1, by rw [pickS, htb]; dsimp only; rw [if_neg hnb, if_pos (by rw [pickT_tot, ← hTB.1, ← hTB.2.2.1, ← hp1]; exact hfull)]; rfl, (xTabs_kept hTB hsz (fun q9 h9 h8 => h.2.2.2.1 q9 h9 (by rw [← hAe]; exact h8)))⟩ dX0_pick_84
      obtain ⟨q_p, f_p, wb_p, rfl, hP1, hfit, hT2, hqf2, hkp2, hTn2, hTc2, hlm2⟩ := hv
      have h : Hs E A s.heap (xw E ad (tray, trayed, fed, place, picked, 0, column) O (code, splace) (made + 1, va_up all (made + 1) (some (q_p 0)), wn + (sumN (lenW (nameW tb)) (tCols tb) + sumN (lenW (pickW (tCols tb) (fun j => pk.getD j 0) (cellW tb))) ((tCols tb) * pcnt)), wb_p) P R) H locs := ct_again h hP1 rfl hS
      clear hP1 hS hz hk
      refine W.eq (g2 := F0 m 73 ls [.int (nI (made + 1))]) rfl ?_
      rw [hp1, ← pickT_tot] at hfit h hTn2 hTc2
      rw [hp1] at hT2 hlm2
      refine W.widen (k := 6) (n := 16023) (by omega) (by omega) ?_
      exact ct_iret (ty := .int) (v := (nI (made + 1))) B rfl rfl h.2.2 ⟨_, code, splace, (made + 1, va_up all (made + 1) (some (q_p 0)), wn + (tot (pickT tb pk).1 + tot (pickT tb pk).2), wb_p), (ts ++ [pickT tb pk]), rfl, h.1, by rw [pickS, htb]; dsimp only; rw [if_neg hnb, if_neg (by rw [← hTB.1, ← hTB.2.2.1]; omega), hTB.1], xTabs_add (xTabs_kept hTB hsz (fun q9 h9 h8 => h.2.2.2.1 q9 h9 (by rw [← hAe]; exact h8))) hfit.1 hfit.2 hkp2 (apT_fresh hP (Nat.le_refl _) (fun j hj => Nat.le_trans hH0 (hqf2 j hj)) (fun i9 h9 => by rw [hsz]; exact ho9 i9 h9)) (by rw [pickT_cols, pickT_rows hcs.1]; exact hT2) (tNum_pick hcs.1 hTn2 hTc2 hlm2) (pickT_ok ⟨hcs, hrs, htl2, hnm0, hcl0⟩ hnb hpk.2.1)⟩ dX0_pick_73
    · refine lv_aload_n hx hb dX0_pick_35 rfl (lv_at hl 3 rfl) ?_
      refine ct_get (v := .ref (ad 14)) B h.1 kX0 0 rfl 6 (Nat.le_of_ble_eq_true rfl) q283 rfl dX0_pick_36 ?_
      refine lv_iload hx hb dX0_pick_39 (lv_at hl 0 rfl) ?_
      refine ct_lald (f := picked) B h.1 14 rfl (by omega) (by omega) dX0_pick_41 ?_
      refine W.eq (g2 := F0 m 42 ls [.long (lN (pk.getD k 0))]) (by rw [(hpk.2.2.1 k (by omega))]) ?_
      refine lv_aload_n hx hb dX0_pick_42 rfl (lv_at hl 1 rfl) ?_
      refine ct_get (v := .int (nI (tRows tb))) B (ct_keep hTq hNq h.2.2) kX9 0 rfl 1 (Nat.le_of_ble_eq_true rfl) q395 rfl dX0_pick_43 ?_
      refine lv_i2l (v := lN (tRows tb)) hx hb dX0_pick_46 (nI_l (by omega)) ?_
      refine m_if_lt (tgt := 54) hx hb dX0_pick_47 dX0_pick_48 (by decide) (by have := hpk.2.2.2 _ (gD_mem (show k < pk.length by omega)); omega) (by omega) (fun clt => ?_) (fun clt => ?_)
      · refine n_iinc (n := 1) (lv' := [(4, .int (nI (k + 1))), (3, .ref (q 0)), (2, .int (nI pcnt)), (0, .ref (ad 0)), (1, .int t)]) hx hb dX0_pick_54 hl (k := 0) rfl rfl (by decide) (by decide) rfl (fun ls hl => ?_)
        refine lv_goto (tgt := 29) hx hb dX0_pick_57 (by decide) ?_
        exact ih_1 (k + 1) ls (by omega) ⟨lv_sub hl [0, 1, 2, 3, 4] rfl, by omega, fun j hj => by rcases Nat.lt_succ_iff_lt_or_eq.mp hj with q9 | q9; exact hall j q9; rw [q9]; exact clt⟩
      · refine lv_bipush (v := (-2)) hx hb dX0_pick_51 (by decide) ?_
        refine W.widen (k := 6) (n := 16023) (by omega) (by omega) ?_
        exact ct_iret (ty := .int) (v := (-2)) B rfl rfl h.2.2 ⟨(-2), code, splace, (made, all, wn, wb), ts, rfl, h.1, by rw [pickS, htb]; dsimp only; rw [if_pos (isBig (by omega) clt)], (xTabs_kept hTB hsz (fun q9 h9 h8 => h.2.2.2.1 q9 h9 (by rw [← hAe]; exact h8)))⟩ dX0_pick_53
