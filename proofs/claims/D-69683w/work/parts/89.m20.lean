set_option maxHeartbeats 4000000 in
set_option maxRecDepth 100000 in
theorem met_X6_value (l : Launch) (E : CE) (im : va_W) (b0 b1 b2 b3 b4 b5 b7 trayed fed : Nat) (place : Int32) (tcn wby pcn : Nat) (tabs : Nat → Option Nat) (ts : List Tab) (t co ro : Int32) (sz : Nat) (hmt : mTabs E im tcn tabs wby ts) : Met l yX6_value (ws_ yX6_value cX6_value 6 (some .long)) { frames := 6, cells := 0, slots := 0, locals := 147 } (ctP E [.ref b0, .int t, .int co, .int ro] sz (fun H => va_P E.1 ct_cl [(b0, .inr (6, [.ref b1, .int (nI trayed), .int (nI fed), .int place, .ref b2, .ref b3, .int (nI tcn), .int (nI wby), .ref b4, .int (nI pcn), .ref b5, .ref b7])), (b3, .inl (E.2.1 4, 41, .inr (.inr (.inr (.inr tabs)))))] H ∧ va_P E.1 ct_cl im H)) (ctR (fun v => v = some (.long (valueS ts t co ro)))) 0 0 (fun _ => False) := by
  refine ct_start (by decide) (Nat.le_of_ble_eq_true rfl) ?_
  intro p e s m below meth c ls B hsz hH hl
  obtain ⟨hC, hI⟩ := hH
  have hx := B.1
  have hb := B.2.1
  have hl : lv_has ls 6 [(0, .ref b0), (1, .int t), (2, .int co), (3, .int ro)] := hl
  refine lv_aload_n hx hb dX6_value_0 rfl (lv_at hl 0 rfl) ?_
  refine lv_iload_n hx hb dX6_value_1 rfl (lv_at hl 1 rfl) ?_
  refine lv_iload_n hx hb dX6_value_2 rfl (lv_at hl 2 rfl) ?_
  refine lv_iload_n hx hb dX6_value_3 rfl (lv_at hl 3 rfl) ?_
  refine ct_callR (ct_runV (As := [.int t, .int co, .int ro]) (rest := []) B (met_X6_isCell l E im b0 b1 b2 b3 b4 b5 b7 trayed fed place tcn wby pcn tabs ts t co ro s.heap.size hmt) (lw_V q1229 q1231 qs40 q54 q1232) (n := 3) ⟨by decide, by decide, by decide +kernel⟩ rfl ⟨rfl, rfl, (Nat.le_of_ble_eq_true rfl), (Nat.le_of_ble_eq_true rfl), (Nat.le_of_ble_eq_true rfl), (Nat.le_of_ble_eq_true rfl)⟩ (va_S.rf (A := fun _ => False)) (fun _ h => h.elim) (ct_recv B hC kX6 0 rfl) ⟨(hC.sub [0, 1] rfl), hI⟩ hl.1 (Nat.le_of_ble_eq_true rfl) dX6_value_4) (fun v hv => ?_)
  subst hv
  refine W.eq (g2 := F0 m 7 ls [.int (if (cellS ts t co ro).isSome = true then 1 else 0)]) rfl ?_
  refine b_if_ne (tgt := 12) hx hb dX6_value_7 (by decide) (fun ce => ?_) (fun ce => ?_)
  · obtain ⟨hcc, hck⟩ := cellS_is ce
    obtain ⟨hct, hcj⟩ := colO_is hcc
    obtain ⟨tb, j, a9, n9, c9, l9, fl, htb, rfl, hj, hta, hma, htl, hml, hfl, hok⟩ := mT_get hmt hct
    obtain ⟨hcs, hrs, htl2, hn20, hc40⟩ := id hok
    obtain ⟨jj, rfl, hjj⟩ := hcj tb htb hcs.2
    obtain ⟨kk, rfl, hkk⟩ := hck tb htb hrs
    have hcS := cellS_s htb hok hjj hkk
    refine lv_aload_n hx hb dX6_value_12 rfl (lv_at hl 0 rfl) ?_
    refine ct_get (v := .ref b3) B hC kX6 0 rfl 5 (Nat.le_of_ble_eq_true rfl) q732 rfl dX6_value_13 ?_
    refine lv_iload_n hx hb dX6_value_16 rfl (lv_at hl 1 rfl) ?_
    refine ct_aald B hC 1 4 rfl rfl (by omega) (by omega) dX6_value_17 ?_
    refine W.eq (g2 := F0 m 18 ls [.ref a9]) (by rw [hta] <;> rfl) ?_
    refine ct_get (v := .ref l9) B (ct_sel hI hma) kX11 0 rfl 2 (Nat.le_of_ble_eq_true rfl) q834 rfl dX6_value_18 ?_
    refine lv_iload_n hx hb dX6_value_21 rfl (lv_at hl 2 rfl) ?_
    refine ct_iald (f := fl) B (ct_sel hI hml) 0 rfl (by omega) (by omega) dX6_value_22 ?_
    refine W.eq (g2 := F0 m 23 ls [.int (nI (laneT (tCols tb) (tRows tb) (cellW tb) jj))]) (by rw [(hfl jj hjj)]) ?_
    have hl8 := laneT_le (tCols tb) (tRows tb) (cellW tb) jj
    refine lv_istore (lv' := [(4, .int (nI (laneT (tCols tb) (tRows tb) (cellW tb) jj))), (0, .ref b0), (1, .int (nI j)), (2, .int (nI jj)), (3, .int (nI kk))]) hx hb dX6_value_23 hl (by decide) rfl (fun ls hl => ?_)
    refine lv_aload_n hx hb dX6_value_25 rfl (lv_at hl 1 rfl) ?_
    refine ct_get (v := .ref b3) B hC kX6 0 rfl 5 (Nat.le_of_ble_eq_true rfl) q732 rfl dX6_value_26 ?_
    refine lv_iload_n hx hb dX6_value_29 rfl (lv_at hl 2 rfl) ?_
    refine ct_aald B hC 1 4 rfl rfl (by omega) (by omega) dX6_value_30 ?_
    refine W.eq (g2 := F0 m 31 ls [.ref a9]) (by rw [hta] <;> rfl) ?_
    refine lv_iload_n hx hb dX6_value_31 rfl (lv_at hl 4 rfl) ?_
    refine lv_iload_n hx hb dX6_value_32 rfl (lv_at hl 3 rfl) ?_
    refine ct_callR (ct_runV (As := [.int (nI kk), .int (nI jj)]) (rest := []) B (met_X11_at l E im a9 n9 c9 (some l9) tb kk jj s.heap.size htl hok (by omega) (by omega)) (lw_V q1163 q1164 q1165 q63 q1166) (n := 2) ⟨by decide, by decide, by decide +kernel⟩ rfl ⟨rfl, rfl, (Nat.le_of_ble_eq_true rfl), (Nat.le_of_ble_eq_true rfl), (Nat.le_of_ble_eq_true rfl), (Nat.le_of_ble_eq_true rfl)⟩ (va_S.rf (A := fun _ => False)) (fun _ h => h.elim) (ct_recv B (ct_sel hI hma) kX11 0 rfl) ⟨((ct_sel hI hma).sub [0] rfl), hI⟩ hl.1 (Nat.le_of_ble_eq_true rfl) dX6_value_33) (fun v hv => ?_)
    obtain ⟨x9, rfl, s9, hx9, hs9⟩ := hv
    refine W.eq (g2 := F0 m 36 ls [.ref x9]) rfl ?_
    refine lv_astore (lv' := [(5, .ref x9), (4, .int (nI (laneT (tCols tb) (tRows tb) (cellW tb) jj))), (0, .ref b0), (1, .int (nI j)), (2, .int (nI jj)), (3, .int (nI kk))]) hx hb dX6_value_36 hl (by decide) rfl (fun ls hl => ?_)
    refine lv_aload hx hb dX6_value_38 (lv_at hl 0 rfl) ?_
    refine ct_callR (ct_runV (As := []) (rest := []) B (met_X12_isMissing l E _ x9 s9 (if (cellW tb (tCols tb * kk + jj)).2 = true then 1 else 0) ((cellW tb (tCols tb * kk + jj)).1) s.heap.size (by split <;> omega)) (lw_V q1169 q1170 q1171 q74 q1172) (n := 0) ⟨by decide, by decide, by decide +kernel⟩ rfl ⟨rfl, rfl, (Nat.le_of_ble_eq_true rfl), (Nat.le_of_ble_eq_true rfl), (Nat.le_of_ble_eq_true rfl), (Nat.le_of_ble_eq_true rfl)⟩ (va_S.rf (A := fun _ => False)) (fun _ h => h.elim) (ct_recv B (ct_sel hI (by intro z9 h9; rw [List.mem_singleton.mp h9]; exact hx9)) kX12 0 rfl) ⟨((ct_sel hI (by intro z9 h9; rw [List.mem_singleton.mp h9]; exact hx9)).sub [0] rfl), (hs9.S hI)⟩ hl.1 (Nat.le_of_ble_eq_true rfl) dX6_value_40) (fun v hv => ?_)
    subst hv
    refine W.eq (g2 := F0 m 43 ls [.int (if (if (cellW tb (tCols tb * kk + jj)).2 = true then 1 else 0) = 0 ∧ ((cellW tb (tCols tb * kk + jj)).1).length = 0 then 1 else 0)]) rfl ?_
    refine b_if_eq (tgt := 61) hx hb dX6_value_43 (by decide) (fun cm => ?_) (fun cm => ?_)
    · have hms : ¬ missW (cellW tb (tCols tb * kk + jj)) := fun z9 => cm (missW_to z9)
      have hw40 : (cellW tb (tCols tb * kk + jj)).1.length ≤ 40 := (hc40 _ (cellW_mem (by rw [htl2]; exact ix_lt hjj hkk))).1
      refine lv_iload hx hb dX6_value_61 (lv_at hl 1 rfl) ?_
      refine n_if_ne (tgt := 85) hx hb dX6_value_63 (by decide) (by omega) (fun cl0 => ?_) (fun cl0 => ?_)
      · refine lv_iload hx hb dX6_value_85 (lv_at hl 1 rfl) ?_
        refine lv_bipush (v := nI 7) hx hb dX6_value_87 (by decide) ?_
        refine n_icmp_ne (tgt := 101) hx hb dX6_value_89 (by decide) (by omega) (by omega) (fun cl7 => ?_) (fun cl7 => ?_)
        · refine lv_iload hx hb dX6_value_101 (lv_at hl 1 rfl) ?_
          refine lv_bipush (v := nI 8) hx hb dX6_value_103 (by decide) ?_
          refine n_icmp_ne (tgt := 127) hx hb dX6_value_105 (by decide) (by omega) (by omega) (fun cl8b => ?_) (fun cl8b => ?_)
          · have htk : takesW (laneT (tCols tb) (tRows tb) (cellW tb) jj) (cellW tb (tCols tb * kk + jj)) := by rcases (lane_tk (show laneT (tCols tb) (tRows tb) (cellW tb) jj ≠ 8 by omega) hkk).2 with q9 | q9; exact absurd q9 hms; exact q9
            have hl45 : laneT (tCols tb) (tRows tb) (cellW tb) jj = 4 ∨ laneT (tCols tb) (tRows tb) (cellW tb) jj = 5 := by rcases (lane_tk (show laneT (tCols tb) (tRows tb) (cellW tb) jj ≠ 8 by omega) hkk).1 with q9 | q9 | q9 | q9 <;> omega
            have hnq := tk_nq htk (by omega)
            have hwd := wh_d ((tk_w hnq hl45).mp htk)
            refine lv_aload hx hb dX6_value_127 (lv_at hl 0 rfl) ?_
            refine ct_get (v := .ref s9) B (ct_sel hI (by intro z9 h9; rw [List.mem_singleton.mp h9]; exact hx9)) kX12 0 rfl 0 (Nat.le_of_ble_eq_true rfl) q1118 rfl dX6_value_129 ?_
            refine ct_callR (ct_runS (As := [.ref s9]) (rest := []) B (met_X6_wholeWord l E _ s9 ((cellW tb (tCols tb * kk + jj)).1) s.heap.size hwd) (lw_S q1283 q1284 q54 q1285) (n := 1) ⟨by decide, by decide, by decide +kernel⟩ rfl ⟨rfl, rfl, (Nat.le_of_ble_eq_true rfl), (Nat.le_of_ble_eq_true rfl), (Nat.le_of_ble_eq_true rfl), (Nat.le_of_ble_eq_true rfl)⟩ (va_S.rf (A := fun _ => False)) (fun _ h => h.elim) (hs9.S hI) hl.1 (Nat.le_of_ble_eq_true rfl) dX6_value_132) (fun v hv => ?_)
            subst hv
            refine W.eq (g2 := F0 m 135 ls [.long (if frT ((cellW tb (tCols tb * kk + jj)).1) = 1 then -(lN (accD (((cellW tb (tCols tb * kk + jj)).1).drop (frT ((cellW tb (tCols tb * kk + jj)).1)))).1) else lN (accD (((cellW tb (tCols tb * kk + jj)).1).drop (frT ((cellW tb (tCols tb * kk + jj)).1)))).1)]) rfl ?_
            exact ct_lretR (v := if frT ((cellW tb (tCols tb * kk + jj)).1) = 1 then -(lN (accD (((cellW tb (tCols tb * kk + jj)).1).drop (frT ((cellW tb (tCols tb * kk + jj)).1)))).1) else lN (accD (((cellW tb (tCols tb * kk + jj)).1).drop (frT ((cellW tb (tCols tb * kk + jj)).1)))).1) B (by rw [valueS, hcS]; show _ = some (Value.long (colV (laneT (tCols tb) (tRows tb) (cellW tb) jj) (tCols tb) (tRows tb) (cellW tb) jj kk)); unfold colV; rw [if_pos (show laneT (tCols tb) (tRows tb) (cellW tb) jj ≠ 8 by omega)]; unfold valC; rw [if_neg hms, if_neg (show ¬ laneT (tCols tb) (tRows tb) (cellW tb) jj = 0 by omega), if_pos (show laneT (tCols tb) (tRows tb) (cellW tb) jj ≠ 7 by omega)]; rfl) dX6_value_135
          · refine lv_aload_n hx hb dX6_value_108 rfl (lv_at hl 2 rfl) ?_
            refine ct_get (v := .ref b3) B hC kX6 0 rfl 5 (Nat.le_of_ble_eq_true rfl) q732 rfl dX6_value_109 ?_
            refine lv_iload_n hx hb dX6_value_112 rfl (lv_at hl 3 rfl) ?_
            refine ct_aald B hC 1 4 rfl rfl (by omega) (by omega) dX6_value_113 ?_
            refine W.eq (g2 := F0 m 114 ls [.ref a9]) (by rw [hta] <;> rfl) ?_
            refine lv_iload_n hx hb dX6_value_114 rfl (lv_at hl 4 rfl) ?_
            refine lv_aload hx hb dX6_value_115 (lv_at hl 0 rfl) ?_
            refine ct_get (v := .ref s9) B (ct_sel hI (by intro z9 h9; rw [List.mem_singleton.mp h9]; exact hx9)) kX12 0 rfl 0 (Nat.le_of_ble_eq_true rfl) q1118 rfl dX6_value_117 ?_
            refine ct_callR (ct_runS (As := [.ref a9, .int (nI jj), .ref s9]) (rest := []) B (met_X6_before l E _ im a9 n9 c9 (some l9) tb jj s9 ((cellW tb (tCols tb * kk + jj)).1) s.heap.size htl hok hjj) (lw_S q1277 q1278 q54 q1279) (n := 3) ⟨by decide, by decide, by decide +kernel⟩ rfl ⟨rfl, rfl, (Nat.le_of_ble_eq_true rfl), (Nat.le_of_ble_eq_true rfl), (Nat.le_of_ble_eq_true rfl), (Nat.le_of_ble_eq_true rfl)⟩ (va_S.rf (A := fun _ => False)) (fun _ h => h.elim) ⟨((ct_sel hI hma).sub [0] rfl), hI, (hs9.S hI)⟩ hl.1 (Nat.le_of_ble_eq_true rfl) dX6_value_120) (fun v hv => ?_)
            subst hv
            refine W.eq (g2 := F0 m 123 ls [.int (nI (sumN (cntB (tCols tb) (cellW tb) jj ((cellW tb (tCols tb * kk + jj)).1)) (tRows tb)))]) rfl ?_
            refine lv_i2l (v := lN (sumN (cntB (tCols tb) (cellW tb) jj ((cellW tb (tCols tb * kk + jj)).1)) (tRows tb))) hx hb dX6_value_123 (nI_l (by have := sumN_le (f := cntB (tCols tb) (cellW tb) jj (cellW tb (tCols tb * kk + jj)).1) (B := 1) (tRows tb) (fun k9 _ => cntB_le _ _ _ _ _); omega)) ?_
            refine lv_goto (tgt := 135) hx hb dX6_value_124 (by decide) ?_
            exact ct_lretR (v := (lN (sumN (cntB (tCols tb) (cellW tb) jj ((cellW tb (tCols tb * kk + jj)).1)) (tRows tb)))) B (by rw [valueS, hcS]; show _ = some (Value.long (colV (laneT (tCols tb) (tRows tb) (cellW tb) jj) (tCols tb) (tRows tb) (cellW tb) jj kk)); unfold colV; rw [if_neg (fun z9 => z9 cl8b), if_neg hms, ← bef_cnt hkk hms]) dX6_value_135
        · have htk : takesW (laneT (tCols tb) (tRows tb) (cellW tb) jj) (cellW tb (tCols tb * kk + jj)) := by rcases (lane_tk (show laneT (tCols tb) (tRows tb) (cellW tb) jj ≠ 8 by omega) hkk).2 with q9 | q9; exact absurd q9 hms; exact q9
          rw [cl7] at htk
          have hnq := tk_nq htk (by omega)
          have h77 := (tk_7 (by omega) hnq).mp htk
          have hrb := real_b (by omega) h77.1 h77.2
          refine lv_aload hx hb dX6_value_92 (lv_at hl 0 rfl) ?_
          refine ct_get (v := .ref s9) B (ct_sel hI (by intro z9 h9; rw [List.mem_singleton.mp h9]; exact hx9)) kX12 0 rfl 0 (Nat.le_of_ble_eq_true rfl) q1118 rfl dX6_value_94 ?_
          refine ct_callR (ct_runS (As := [.ref s9]) (rest := []) B (met_X6_realWord l E _ s9 ((cellW tb (tCols tb * kk + jj)).1) s.heap.size hrb) (lw_S q1234 q1235 q54 q1236) (n := 1) ⟨by decide, by decide, by decide +kernel⟩ rfl ⟨rfl, rfl, (Nat.le_of_ble_eq_true rfl), (Nat.le_of_ble_eq_true rfl), (Nat.le_of_ble_eq_true rfl), (Nat.le_of_ble_eq_true rfl)⟩ (va_S.rf (A := fun _ => False)) (fun _ h => h.elim) (hs9.S hI) hl.1 (Nat.le_of_ble_eq_true rfl) dX6_value_97) (fun v hv => ?_)
          subst hv
          refine W.eq (g2 := F0 m 100 ls [.long (if frT ((cellW tb (tCols tb * kk + jj)).1) = 1 then lN (decB (accD (((cellW tb (tCols tb * kk + jj)).1).drop (frT ((cellW tb (tCols tb * kk + jj)).1)))).1 (accD (((cellW tb (tCols tb * kk + jj)).1).drop (frT ((cellW tb (tCols tb * kk + jj)).1)))).2.1) ^^^ (-9223372036854775808) else lN (decB (accD (((cellW tb (tCols tb * kk + jj)).1).drop (frT ((cellW tb (tCols tb * kk + jj)).1)))).1 (accD (((cellW tb (tCols tb * kk + jj)).1).drop (frT ((cellW tb (tCols tb * kk + jj)).1)))).2.1))]) rfl ?_
          exact ct_lretR (v := if frT ((cellW tb (tCols tb * kk + jj)).1) = 1 then lN (decB (accD (((cellW tb (tCols tb * kk + jj)).1).drop (frT ((cellW tb (tCols tb * kk + jj)).1)))).1 (accD (((cellW tb (tCols tb * kk + jj)).1).drop (frT ((cellW tb (tCols tb * kk + jj)).1)))).2.1) ^^^ (-9223372036854775808) else lN (decB (accD (((cellW tb (tCols tb * kk + jj)).1).drop (frT ((cellW tb (tCols tb * kk + jj)).1)))).1 (accD (((cellW tb (tCols tb * kk + jj)).1).drop (frT ((cellW tb (tCols tb * kk + jj)).1)))).2.1)) B (by rw [valueS, hcS]; show _ = some (Value.long (colV (laneT (tCols tb) (tRows tb) (cellW tb) jj) (tCols tb) (tRows tb) (cellW tb) jj kk)); unfold colV; rw [if_pos (show laneT (tCols tb) (tRows tb) (cellW tb) jj ≠ 8 by omega)]; unfold valC; rw [if_neg hms, if_neg (show ¬ laneT (tCols tb) (tRows tb) (cellW tb) jj = 0 by omega), if_neg (show ¬ laneT (tCols tb) (tRows tb) (cellW tb) jj ≠ 7 from fun z9 => z9 cl7)]; show _ = some (Value.long (if frT (cellW tb (tCols tb * kk + jj)).1 = 1 then FP.dneg (quoD (accD ((cellW tb (tCols tb * kk + jj)).1.drop (frT (cellW tb (tCols tb * kk + jj)).1))).1 (accD ((cellW tb (tCols tb * kk + jj)).1.drop (frT (cellW tb (tCols tb * kk + jj)).1))).2.1) else quoD (accD ((cellW tb (tCols tb * kk + jj)).1.drop (frT (cellW tb (tCols tb * kk + jj)).1))).1 (accD ((cellW tb (tCols tb * kk + jj)).1.drop (frT (cellW tb (tCols tb * kk + jj)).1))).2.1).toInt64); split; rw [quo_m hrb.2.2.1 hrb.2.2.2]; rw [quo_l hrb.2.2.1 hrb.2.2.2]) dX6_value_100
      · have htk : takesW (laneT (tCols tb) (tRows tb) (cellW tb) jj) (cellW tb (tCols tb * kk + jj)) := by rcases (lane_tk (show laneT (tCols tb) (tRows tb) (cellW tb) jj ≠ 8 by omega) hkk).2 with q9 | q9; exact absurd q9 hms; exact q9
        rw [cl0] at htk
        have hnq := tk_nq htk (by omega)
        have htf := (tk_0 hnq).mp htk
        refine lv_aload hx hb dX6_value_66 (lv_at hl 0 rfl) ?_
        refine ct_get (v := .ref s9) B (ct_sel hI (by intro z9 h9; rw [List.mem_singleton.mp h9]; exact hx9)) kX12 0 rfl 0 (Nat.le_of_ble_eq_true rfl) q1118 rfl dX6_value_68 ?_
        refine va_ldcS hx hb B.2.2.1 (B.2.2.2.2.2.2.2.2.2.2.2.2.2.2.2.1) dX6_value_71 ?_
        refine ct_callR (ct_runV (As := [.ref (E.2.2.2 0)]) (rest := []) B (met_J4_equals l E _ _ s9 (E.2.2.2 0) ((cellW tb (tCols tb * kk + jj)).1) tx_true s.heap.size) (lw_V q1181 q1051 q1052 q58 q1053) (n := 1) ⟨by decide, by decide, by decide +kernel⟩ rfl ⟨rfl, rfl, (Nat.le_of_ble_eq_true rfl), (Nat.le_of_ble_eq_true rfl), (Nat.le_of_ble_eq_true rfl), (Nat.le_of_ble_eq_true rfl)⟩ (va_S.rf (A := fun _ => False)) (fun _ h => h.elim) (ct_Srecv B (hs9.S hI)) ⟨(hs9.S hI), B.2.2.2.2.2.2.2.2.2.2.2.1.2.2.2.2.2.1⟩ hl.1 (Nat.le_of_ble_eq_true rfl) dX6_value_73) (fun v hv => ?_)
        subst hv
        refine W.eq (g2 := F0 m 76 ls [.int (if ((cellW tb (tCols tb * kk + jj)).1) = tx_true then 1 else 0)]) rfl ?_
        refine b_if_eq (tgt := 83) hx hb dX6_value_76 (by decide) (fun ctr => ?_) (fun ctr => ?_)
        · refine lv_lconst (v := 0) hx hb dX6_value_83 (by decide) ?_
          exact ct_lretR (v := 0) B (by rw [valueS, hcS]; show _ = some (Value.long (colV (laneT (tCols tb) (tRows tb) (cellW tb) jj) (tCols tb) (tRows tb) (cellW tb) jj kk)); unfold colV; rw [if_pos (show laneT (tCols tb) (tRows tb) (cellW tb) jj ≠ 8 by omega)]; unfold valC; rw [if_neg hms, if_pos cl0, if_neg (show ¬ (cellW tb (tCols tb * kk + jj)).1.length = 4 by rcases htf with q9 | q9; exact absurd q9 ctr; rw [q9]; decide)]) dX6_value_84
        · refine lv_lconst (v := 1) hx hb dX6_value_79 (by decide) ?_
          refine lv_goto (tgt := 84) hx hb dX6_value_80 (by decide) ?_
          exact ct_lretR (v := 1) B (by rw [valueS, hcS]; show _ = some (Value.long (colV (laneT (tCols tb) (tRows tb) (cellW tb) jj) (tCols tb) (tRows tb) (cellW tb) jj kk)); unfold colV; rw [if_pos (show laneT (tCols tb) (tRows tb) (cellW tb) jj ≠ 8 by omega)]; unfold valC; rw [if_neg hms, if_pos cl0, if_pos (show (cellW tb (tCols tb * kk + jj)).1.length = 4 by rw [ctr]; rfl)]) dX6_value_84
    · refine lv_iload hx hb dX6_value_46 (lv_at hl 1 rfl) ?_
      refine lv_bipush (v := nI 8) hx hb dX6_value_48 (by decide) ?_
      refine n_icmp_ne (tgt := 59) hx hb dX6_value_50 (by decide) (by omega) (by omega) (fun cl8 => ?_) (fun cl8 => ?_)
      · refine lv_lconst (v := 0) hx hb dX6_value_59 (by decide) ?_
        exact ct_lretR (v := 0) B (by rw [valueS, hcS]; show _ = some (Value.long (colV (laneT (tCols tb) (tRows tb) (cellW tb) jj) (tCols tb) (tRows tb) (cellW tb) jj kk)); unfold colV; rw [if_pos cl8]; unfold valC; rw [if_pos (missW_of cm)]) dX6_value_60
      · refine lv_ldc2 (v := (-1)) hx hb B.2.2.1 (B.2.2.2.1 _ q1233) dX6_value_53 ?_
        refine lv_goto (tgt := 60) hx hb dX6_value_56 (by decide) ?_
        exact ct_lretR (v := (-1)) B (by rw [valueS, hcS]; show _ = some (Value.long (colV (laneT (tCols tb) (tRows tb) (cellW tb) jj) (tCols tb) (tRows tb) (cellW tb) jj kk)); unfold colV; rw [if_neg (fun z9 => z9 cl8), if_pos (missW_of cm)]) dX6_value_60
  · refine lv_lconst (v := 0) hx hb dX6_value_10 (by decide) ?_
    exact ct_lretR (v := 0) B (by rw [valueS, cellS_n ce]) dX6_value_11
