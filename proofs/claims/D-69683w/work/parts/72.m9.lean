set_option maxHeartbeats 4000000 in
set_option maxRecDepth 100000 in
theorem met_X6_named (l : Launch) (E : CE) (b0 b1 b2 b3 b4 b5 b7 trayed fed : Nat) (place : Int32) (tcn wby pcn : Nat) (tabs : Nat → Option Nat) (ts : List Tab) (tray : Nat → Int32) (t : Int32) (tx : List Nat) (im : va_W) (sz : Nat) (hmt : mTabs E im tcn tabs wby ts) (hty : trayed ≤ 16000) (htx : txR tray trayed tx) : Met l yX6_named (ws_ yX6_named cX6_named 7 (some .int)) { frames := 4, cells := 0, slots := 0, locals := 85 } (ctP E [.ref b0, .int t] sz (fun H => va_P E.1 ct_cl ([(b0, .inr (6, [.ref b1, .int (nI trayed), .int (nI fed), .int place, .ref b2, .ref b3, .int (nI tcn), .int (nI wby), .ref b4, .int (nI pcn), .ref b5, .ref b7])), (b3, .inl (E.2.1 4, 41, .inr (.inr (.inr (.inr tabs))))), (b1, .inl (E.2.1 0, 16000, .inl tray))] ++ im) H ∧ va_D (fun q => E.2.2.1 ≤ q) ([(b0, .inr (6, [.ref b1, .int (nI trayed), .int (nI fed), .int place, .ref b2, .ref b3, .int (nI tcn), .int (nI wby), .ref b4, .int (nI pcn), .ref b5, .ref b7])), (b3, .inl (E.2.1 4, 41, .inr (.inr (.inr (.inr tabs))))), (b1, .inl (E.2.1 0, 16000, .inl tray))] ++ im))) (ctQ (fun v H => v = some (.int (namedS ts t tx)) ∧ va_P E.1 ct_cl ([(b0, .inr (6, [.ref b1, .int (nI 0), .int (nI fed), .int place, .ref b2, .ref b3, .int (nI tcn), .int (nI wby), .ref b4, .int (nI pcn), .ref b5, .ref b7])), (b3, .inl (E.2.1 4, 41, .inr (.inr (.inr (.inr tabs))))), (b1, .inl (E.2.1 0, 16000, .inl tray))] ++ im) H ∧ va_D (va_A ([(b0, .inr (6, [.ref b1, .int (nI trayed), .int (nI fed), .int place, .ref b2, .ref b3, .int (nI tcn), .int (nI wby), .ref b4, .int (nI pcn), .ref b5, .ref b7])), (b3, .inl (E.2.1 4, 41, .inr (.inr (.inr (.inr tabs))))), (b1, .inl (E.2.1 0, 16000, .inl tray))] ++ im) sz) ([(b0, .inr (6, [.ref b1, .int (nI 0), .int (nI fed), .int place, .ref b2, .ref b3, .int (nI tcn), .int (nI wby), .ref b4, .int (nI pcn), .ref b5, .ref b7])), (b3, .inl (E.2.1 4, 41, .inr (.inr (.inr (.inr tabs))))), (b1, .inl (E.2.1 0, 16000, .inl tray))] ++ im)) (va_A ([(b0, .inr (6, [.ref b1, .int (nI trayed), .int (nI fed), .int place, .ref b2, .ref b3, .int (nI tcn), .int (nI wby), .ref b4, .int (nI pcn), .ref b5, .ref b7])), (b3, .inl (E.2.1 4, 41, .inr (.inr (.inr (.inr tabs))))), (b1, .inl (E.2.1 0, 16000, .inl tray))] ++ im) sz)) 0 0 (va_A ([(b0, .inr (6, [.ref b1, .int (nI trayed), .int (nI fed), .int place, .ref b2, .ref b3, .int (nI tcn), .int (nI wby), .ref b4, .int (nI pcn), .ref b5, .ref b7])), (b3, .inl (E.2.1 4, 41, .inr (.inr (.inr (.inr tabs))))), (b1, .inl (E.2.1 0, 16000, .inl tray))] ++ im) sz) := by
  refine ct_start (by decide) (Nat.le_of_ble_eq_true rfl) ?_
  intro p e s m below meth c ls B hsz hH hl
  obtain ⟨hP, hD⟩ := hH
  obtain ⟨A, hAe, h, hA, hAn⟩ := ct_enter B.2.2.2.2.2.2.2.2 hsz hP hD
  rw [hAe]
  refine ct_gen h (fun H locs h => ?_)
  have hx := B.1
  have hb := B.2.1
  have hl : lv_has ls 7 [(0, .ref b0), (1, .int t)] := hl
  refine lv_aload_n hx hb dX6_named_0 rfl (lv_at hl 0 rfl) ?_
  have h : Hs E A s.heap ([(b0, .inr (6, [.ref b1, .int (nI trayed), .int (nI fed), .int place, .ref b2, .ref b3, .int (nI tcn), .int (nI wby), .ref b4, .int (nI pcn), .ref b5, .ref b7]))] ++ ([(b3, .inl (E.2.1 4, 41, .inr (.inr (.inr (.inr tabs))))), (b1, .inl (E.2.1 0, 16000, .inl tray))] ++ im)) H locs := h
  refine ct_callQ (ct_runV (As := []) (rest := []) B (met_X6_used l E b0 b1 b2 b3 b4 b5 b7 trayed fed place tcn wby pcn H.size) (lw_V q786 q788 qs27 q54 q789) (n := 0) ⟨by decide, by decide, by decide +kernel⟩ rfl ⟨rfl, rfl, (Nat.le_of_ble_eq_true rfl), (Nat.le_of_ble_eq_true rfl), (Nat.le_of_ble_eq_true rfl), (Nat.le_of_ble_eq_true rfl)⟩ h.2.2 hA (ct_recv B h.1 kX6 0 rfl) ⟨(ct_Pl h.1), (ct_Dl (ct_D0 h hA))⟩ hl.1 (Nat.le_of_ble_eq_true rfl) dX6_named_1) h.2.2 (ct_subL h hAn) (ct_subL h hAn) (fun v H locs hv hz hk hS => ?_)
  obtain ⟨rfl, hP1, hD1⟩ := hv
  have h : Hs E A s.heap ([(b0, .inr (6, [.ref b1, .int (nI 0), .int (nI fed), .int place, .ref b2, .ref b3, .int (nI tcn), .int (nI wby), .ref b4, .int (nI pcn), .ref b5, .ref b7]))] ++ ([(b3, .inl (E.2.1 4, 41, .inr (.inr (.inr (.inr tabs))))), (b1, .inl (E.2.1 0, 16000, .inl tray))] ++ im)) H locs := ct_frL h hP1 hD1 hk hS hAn
  have h : Hs E A s.heap ([(b0, .inr (6, [.ref b1, .int (nI 0), .int (nI fed), .int place, .ref b2, .ref b3, .int (nI tcn), .int (nI wby), .ref b4, .int (nI pcn), .ref b5, .ref b7])), (b3, .inl (E.2.1 4, 41, .inr (.inr (.inr (.inr tabs))))), (b1, .inl (E.2.1 0, 16000, .inl tray))] ++ im) H locs := h
  clear hP1 hD1 hS hz hk
  refine W.eq (g2 := F0 m 4 ls [.int (nI trayed)]) rfl ?_
  refine lv_istore_n (lv' := [(2, .int (nI trayed)), (0, .ref b0), (1, .int t)]) hx hb dX6_named_4 rfl hl (by decide) rfl (fun ls hl => ?_)
  refine lv_aload_n hx hb dX6_named_5 rfl (lv_at hl 1 rfl) ?_
  refine lv_iload_n hx hb dX6_named_6 rfl (lv_at hl 2 rfl) ?_
  refine ct_callR (ct_runV (As := [.int t]) (rest := []) B (met_X6_isTable l E im b0 b1 b2 b3 b4 b5 b7 0 fed place tcn wby pcn tabs ts t H.size hmt) (lw_V q1203 q1205 qs38 q54 q1206) (n := 1) ⟨by decide, by decide, by decide +kernel⟩ rfl ⟨rfl, rfl, (Nat.le_of_ble_eq_true rfl), (Nat.le_of_ble_eq_true rfl), (Nat.le_of_ble_eq_true rfl), (Nat.le_of_ble_eq_true rfl)⟩ h.2.2 hA (ct_recv B h.1 kX6 0 rfl) ⟨(h.1.sub [0, 1] rfl), (ct_Pr h.1)⟩ hl.1 (Nat.le_of_ble_eq_true rfl) dX6_named_7) (fun v hv => ?_)
  subst hv
  refine W.eq (g2 := F0 m 10 ls [.int (if (tabOf ts t).isSome = true then 1 else 0)]) rfl ?_
  refine b_if_ne (tgt := 16) hx hb dX6_named_10 (by decide) (fun ct => ?_) (fun ct => ?_)
  · obtain ⟨tb, j, a9, n9, c9, l9, fl, htb, rfl, hj, hta, hma, htl, hml, hfl, hok⟩ := mT_get hmt ct
    obtain ⟨hcs, hrs, htl2, hn20, hc40⟩ := id hok
    obtain ⟨fn, fc, hln, hlc, hnm, hce⟩ := id htl
    obtain ⟨mdn, en, hmn⟩ := hln.obj
    obtain ⟨md1, d1, cap1, hcap, hcap2, hm1⟩ := hln.get (show 0 < tb.1.length from hcs.1)
    have hc1 : tb.1.length = tCols tb := rfl
    have htxl := htx.1
    refine lv_iconst (v := nI 0) hx hb dX6_named_16 (by decide) ?_
    refine lv_istore_n (lv' := [(3, .int (nI 0)), (2, .int (nI trayed)), (0, .ref b0), (1, .int (nI j))]) hx hb dX6_named_17 rfl hl (by decide) rfl (fun ls hl => ?_)
    refine ct_loop (σ := Nat) (fun k ls => lv_has ls 7 [(3, .int (nI k)), (2, .int (nI trayed)), (0, .ref b0), (1, .int (nI j))] ∧ (k ≤ tCols tb) ∧ (nmF (nameW tb) tx (tCols tb) 0 = nmF (nameW tb) tx (tCols tb - k) k)) (fun k => tCols tb - k) (g := fun k ls => F0 m 18 ls []) (x0 := 0) (ls0 := ls) ?_ ⟨lv_sub hl [0, 1, 2, 3] rfl, Nat.zero_le _, rfl⟩
    clear hl
    intro k ls hI ih_1
    obtain ⟨hl, hk, hno⟩ := hI
    refine W.eq (g2 := F0 m 18 ls []) rfl ?_
    refine lv_iload_n hx hb dX6_named_18 rfl (lv_at hl 0 rfl) ?_
    refine lv_aload_n hx hb dX6_named_19 rfl (lv_at hl 2 rfl) ?_
    refine ct_get (v := .ref b3) B h.1 kX6 0 rfl 5 (Nat.le_of_ble_eq_true rfl) q732 rfl dX6_named_20 ?_
    refine lv_iload_n hx hb dX6_named_23 rfl (lv_at hl 3 rfl) ?_
    refine ct_aald B h.1 1 4 rfl rfl (by omega) (by omega) dX6_named_24 ?_
    refine W.eq (g2 := F0 m 25 ls [.ref a9, .int (nI k)]) (by rw [hta] <;> rfl) ?_
    refine ct_get (v := .ref n9) B (ct_sel (ct_Pr h.1) hma) kX11 0 rfl 0 (Nat.le_of_ble_eq_true rfl) q830 rfl dX6_named_25 ?_
    refine ct_callR (ct_runV (As := []) (rest := [.int (nI k)]) B (met_J10_size l E n9 en tb.1.length mdn H.size) (lw_V q1154 q847 q848 q66 q849) (n := 0) ⟨by decide, by decide, by decide +kernel⟩ rfl ⟨rfl, rfl, (Nat.le_of_ble_eq_true rfl), (Nat.le_of_ble_eq_true rfl), (Nat.le_of_ble_eq_true rfl), (Nat.le_of_ble_eq_true rfl)⟩ h.2.2 hA (ct_recv B (ct_sel (ct_Pr h.1) hmn) kJ10 0 rfl) ((ct_sel (ct_Pr h.1) hmn).sub [0] rfl) hl.1 (Nat.le_of_ble_eq_true rfl) dX6_named_28) (fun v hv => ?_)
    subst hv
    refine W.eq (g2 := F0 m 31 ls [.int (nI tb.1.length), .int (nI k)]) rfl ?_
    refine W.eq (g2 := F0 m 31 ls [.int (nI (tCols tb)), .int (nI k)]) (by rw [show tb.1.length = tCols tb from rfl] <;> rfl) ?_
    refine n_icmp_ge (tgt := 129) hx hb dX6_named_31 (by decide) (by omega) (by omega) (fun cend => ?_) (fun cend => ?_)
    · refine lv_bipush (v := (-2)) hx hb dX6_named_129 (by decide) ?_
      have h : Hs E A s.heap ([(b0, .inr (6, [.ref b1, .int (nI 0), .int (nI fed), .int place, .ref b2, .ref b3, .int (nI tcn), .int (nI wby), .ref b4, .int (nI pcn), .ref b5, .ref b7])), (b3, .inl (E.2.1 4, 41, .inr (.inr (.inr (.inr tabs))))), (b1, .inl (E.2.1 0, 16000, .inl tray))] ++ im) H locs := h
      exact ct_iret (ty := .int) (v := (-2)) B rfl rfl h.2.2 ⟨by rw [namedS, htb]; dsimp only; rw [hno, nmF_0 (by omega), if_pos (by decide)], h.1, h.2.1⟩ dX6_named_131
    · obtain ⟨s_c, hfs, hss⟩ := hnm k (by omega)
      have hs8 := (hss.S (ct_Pr h.1)).small
      refine lv_aload_n hx hb dX6_named_34 rfl (lv_at hl 2 rfl) ?_
      refine ct_get (v := .ref b3) B h.1 kX6 0 rfl 5 (Nat.le_of_ble_eq_true rfl) q732 rfl dX6_named_35 ?_
      refine lv_iload_n hx hb dX6_named_38 rfl (lv_at hl 3 rfl) ?_
      refine ct_aald B h.1 1 4 rfl rfl (by omega) (by omega) dX6_named_39 ?_
      refine W.eq (g2 := F0 m 40 ls [.ref a9]) (by rw [hta] <;> rfl) ?_
      refine ct_get (v := .ref n9) B (ct_sel (ct_Pr h.1) hma) kX11 0 rfl 0 (Nat.le_of_ble_eq_true rfl) q830 rfl dX6_named_40 ?_
      refine lv_iload_n hx hb dX6_named_43 rfl (lv_at hl 0 rfl) ?_
      refine ct_callR (ct_runV (As := [.int (nI k)]) (rest := []) B (met_J10_get l E n9 d1 tb.1.length cap1 md1 fn k H.size (by omega) ⟨hcap, hcap2⟩) (lw_V q1215 q1038 q1039 q66 q1040) (n := 1) ⟨by decide, by decide, by decide +kernel⟩ rfl ⟨rfl, rfl, (Nat.le_of_ble_eq_true rfl), (Nat.le_of_ble_eq_true rfl), (Nat.le_of_ble_eq_true rfl), (Nat.le_of_ble_eq_true rfl)⟩ h.2.2 hA (ct_recv B (ct_sel (ct_Pr h.1) hm1) kJ10 0 rfl) ((ct_sel (ct_Pr h.1) hm1).sub [0, 1] rfl) hl.1 (Nat.le_of_ble_eq_true rfl) dX6_named_44) (fun v hv => ?_)
      subst hv
      refine W.eq (g2 := F0 m 47 ls [va_rf (fn k)]) rfl ?_
      refine W.eq (g2 := F0 m 47 ls [.ref s_c]) (by rw [hfs] <;> rfl) ?_
      refine va_castE hx hb B.2.2.1 (B.2.2.2.1 _ q1216) (ct_Srecv B (hss.S (ct_Pr h.1))) dX6_named_47 ?_
      refine lv_astore (lv' := [(4, .ref s_c), (3, .int (nI k)), (2, .int (nI trayed)), (0, .ref b0), (1, .int (nI j))]) hx hb dX6_named_50 hl (by decide) rfl (fun ls hl => ?_)
      refine lv_aload hx hb dX6_named_52 (lv_at hl 0 rfl) ?_
      refine ct_callR (ct_runV (As := []) (rest := []) B (met_J4_length l E  _ s_c ((nameW tb k).1) H.size) (lw_V q1189 q466 q467 q58 q468) (n := 0) ⟨by decide, by decide, by decide +kernel⟩ rfl ⟨rfl, rfl, (Nat.le_of_ble_eq_true rfl), (Nat.le_of_ble_eq_true rfl), (Nat.le_of_ble_eq_true rfl), (Nat.le_of_ble_eq_true rfl)⟩ h.2.2 hA (ct_Srecv B (hss.S (ct_Pr h.1))) (hss.S (ct_Pr h.1)) hl.1 (Nat.le_of_ble_eq_true rfl) dX6_named_54) (fun v hv => ?_)
      subst hv
      refine W.eq (g2 := F0 m 57 ls [.int (nI (((nameW tb k).1).length))]) rfl ?_
      refine lv_iload_n hx hb dX6_named_57 rfl (lv_at hl 2 rfl) ?_
      refine n_icmp_ne (tgt := 65) hx hb dX6_named_58 (by decide) (by omega) (by omega) (fun cln => ?_) (fun cln => ?_)
      · refine lv_iconst (v := nI 0) hx hb dX6_named_65 (by decide) ?_
        refine lv_istore (lv' := [(5, .int (nI 0)), (4, .ref s_c), (3, .int (nI k)), (2, .int (nI trayed)), (0, .ref b0), (1, .int (nI j))]) hx hb dX6_named_66 hl (by decide) rfl (fun ls hl => ?_)
        refine lv_iconst (v := nI 0) hx hb dX6_named_68 (by decide) ?_
        refine lv_istore (lv' := [(6, .int (nI 0)), (5, .int (nI 0)), (4, .ref s_c), (3, .int (nI k)), (2, .int (nI trayed)), (0, .ref b0), (1, .int (nI j))]) hx hb dX6_named_69 hl (by decide) rfl (fun ls hl => ?_)
        refine lv_iload hx hb dX6_named_71 (lv_at hl 0 rfl) ?_
        refine lv_iload_n hx hb dX6_named_73 rfl (lv_at hl 4 rfl) ?_
        refine n_icmp_ge (tgt := 116) hx hb dX6_named_74 (by decide) (by omega) (by omega) (fun c_2 => ?_) (fun c_2 => ?_)
        · refine lv_iload hx hb dX6_named_116 (lv_at hl 1 rfl) ?_
          refine n_if_eq (tgt := 123) hx hb dX6_named_118 (by decide) (by first | omega | (rcases hb5 with z9 | z9 <;> omega)) (fun cb6 => ?_) (fun cb6 => absurd cb6 (by omega))
          have hne : ¬ (nameW tb k).1 = tx := fun z9 => cln (by rw [z9]; exact htxl)
          refine n_iinc (n := 1) (lv' := [(3, .int (nI (k + 1))), (6, .int (nI 0)), (5, .int (nI 0)), (4, .ref s_c), (2, .int (nI trayed)), (0, .ref b0), (1, .int (nI j))]) hx hb dX6_named_123 hl (k := 3) rfl rfl (by decide) (by decide) rfl (fun ls hl => ?_)
          refine lv_goto (tgt := 18) hx hb dX6_named_126 (by decide) ?_
          exact ih_1 (k + 1) ls (by omega) ⟨lv_sub hl [0, 4, 5, 6] rfl, by omega, by rw [hno, nmF_n (by omega) hne, show tCols tb - k - 1 = tCols tb - (k + 1) by omega]⟩
        · refine lv_iload hx hb dX6_named_77 (lv_at hl 1 rfl) ?_
          refine n_if_eq (tgt := 116) hx hb dX6_named_79 (by decide) (by first | omega | (rcases hb5 with z9 | z9 <;> omega)) (fun cb5 => ?_) (fun cb5 => absurd cb5 (by omega))
          refine lv_iload hx hb dX6_named_116 (lv_at hl 1 rfl) ?_
          refine n_if_eq (tgt := 123) hx hb dX6_named_118 (by decide) (by first | omega | (rcases hb5 with z9 | z9 <;> omega)) (fun cb6 => ?_) (fun cb6 => absurd cb6 (by omega))
          have hne : ¬ (nameW tb k).1 = tx := fun z9 => cln (by rw [z9]; exact htxl)
          refine n_iinc (n := 1) (lv' := [(3, .int (nI (k + 1))), (6, .int (nI 0)), (5, .int (nI 0)), (4, .ref s_c), (2, .int (nI trayed)), (0, .ref b0), (1, .int (nI j))]) hx hb dX6_named_123 hl (k := 3) rfl rfl (by decide) (by decide) rfl (fun ls hl => ?_)
          refine lv_goto (tgt := 18) hx hb dX6_named_126 (by decide) ?_
          exact ih_1 (k + 1) ls (by omega) ⟨lv_sub hl [0, 4, 5, 6] rfl, by omega, by rw [hno, nmF_n (by omega) hne, show tCols tb - k - 1 = tCols tb - (k + 1) by omega]⟩
      · refine lv_iconst (v := nI 1) hx hb dX6_named_61 (by decide) ?_
        refine lv_goto (tgt := 66) hx hb dX6_named_62 (by decide) ?_
        refine lv_istore (lv' := [(5, .int (nI 1)), (4, .ref s_c), (3, .int (nI k)), (2, .int (nI trayed)), (0, .ref b0), (1, .int (nI j))]) hx hb dX6_named_66 hl (by decide) rfl (fun ls hl => ?_)
        refine lv_iconst (v := nI 0) hx hb dX6_named_68 (by decide) ?_
        refine lv_istore (lv' := [(6, .int (nI 0)), (5, .int (nI 1)), (4, .ref s_c), (3, .int (nI k)), (2, .int (nI trayed)), (0, .ref b0), (1, .int (nI j))]) hx hb dX6_named_69 hl (by decide) rfl (fun ls hl => ?_)
        refine ct_loop (σ := Nat × Nat) (fun (i_, b5_) ls => lv_has ls 7 [(6, .int (nI i_)), (5, .int (nI b5_)), (4, .ref s_c), (3, .int (nI k)), (2, .int (nI trayed)), (0, .ref b0), (1, .int (nI j))] ∧ (i_ ≤ trayed) ∧ ((b5_ = 1 ∧ ∀ j9, j9 < i_ → (nameW tb k).1.getD j9 0 = tx.getD j9 0) ∨ (b5_ = 0 ∧ (nameW tb k).1 ≠ tx))) (fun (i_, b5_) => trayed - i_) (g := fun (i_, b5_) ls => F0 m 71 ls []) (x0 := (0, 1)) (ls0 := ls) ?_ ⟨lv_sub hl [0, 1, 2, 3, 4, 5, 6] rfl, Nat.zero_le _, Or.inl ⟨rfl, fun j hj => absurd hj (Nat.not_lt_zero j)⟩⟩
        clear hl
        intro x9 ls hI ih_3
        obtain ⟨i_, b5_⟩ := x9
        obtain ⟨hl, hi_, hb5⟩ := hI
        refine W.eq (g2 := F0 m 71 ls []) rfl ?_
        refine lv_iload hx hb dX6_named_71 (lv_at hl 0 rfl) ?_
        refine lv_iload_n hx hb dX6_named_73 rfl (lv_at hl 4 rfl) ?_
        refine n_icmp_ge (tgt := 116) hx hb dX6_named_74 (by decide) (by omega) (by omega) (fun c_4 => ?_) (fun c_4 => ?_)
        · refine lv_iload hx hb dX6_named_116 (lv_at hl 1 rfl) ?_
          refine n_if_eq (tgt := 123) hx hb dX6_named_118 (by decide) (by first | omega | (rcases hb5 with z9 | z9 <;> omega)) (fun cb6 => ?_) (fun cb6 => ?_)
          · have hne : ¬ (nameW tb k).1 = tx := by rcases hb5 with z9 | z9; exact absurd z9.1 (by omega); exact z9.2
            refine n_iinc (n := 1) (lv' := [(3, .int (nI (k + 1))), (6, .int (nI i_)), (5, .int (nI b5_)), (4, .ref s_c), (2, .int (nI trayed)), (0, .ref b0), (1, .int (nI j))]) hx hb dX6_named_123 hl (k := 3) rfl rfl (by decide) (by decide) rfl (fun ls hl => ?_)
            refine lv_goto (tgt := 18) hx hb dX6_named_126 (by decide) ?_
            exact ih_1 (k + 1) ls (by omega) ⟨lv_sub hl [0, 4, 5, 6] rfl, by omega, by rw [hno, nmF_n (by omega) hne, show tCols tb - k - 1 = tCols tb - (k + 1) by omega]⟩
          · have hye : (nameW tb k).1 = tx := tx_ext (by omega) (fun j9 h9 => by rcases hb5 with z9 | z9; exact z9.2 j9 (by omega); omega)
            refine lv_iload_n hx hb dX6_named_121 rfl (lv_at hl 3 rfl) ?_
            have h : Hs E A s.heap ([(b0, .inr (6, [.ref b1, .int (nI 0), .int (nI fed), .int place, .ref b2, .ref b3, .int (nI tcn), .int (nI wby), .ref b4, .int (nI pcn), .ref b5, .ref b7])), (b3, .inl (E.2.1 4, 41, .inr (.inr (.inr (.inr tabs))))), (b1, .inl (E.2.1 0, 16000, .inl tray))] ++ im) H locs := h
            exact ct_iret (ty := .int) (v := (nI k)) B rfl rfl h.2.2 ⟨by rw [namedS, htb]; dsimp only; rw [hno, nmF_y (by omega) hye, if_neg (nI_lt0 _ (by omega))], h.1, h.2.1⟩ dX6_named_122
        · refine lv_iload hx hb dX6_named_77 (lv_at hl 1 rfl) ?_
          refine n_if_eq (tgt := 116) hx hb dX6_named_79 (by decide) (by first | omega | (rcases hb5 with z9 | z9 <;> omega)) (fun cb5 => ?_) (fun cb5 => ?_)
          · refine lv_iload hx hb dX6_named_116 (lv_at hl 1 rfl) ?_
            refine n_if_eq (tgt := 123) hx hb dX6_named_118 (by decide) (by first | omega | (rcases hb5 with z9 | z9 <;> omega)) (fun cb6 => ?_) (fun cb6 => ?_)
            · have hne : ¬ (nameW tb k).1 = tx := by rcases hb5 with z9 | z9; exact absurd z9.1 (by omega); exact z9.2
              refine n_iinc (n := 1) (lv' := [(3, .int (nI (k + 1))), (6, .int (nI i_)), (5, .int (nI b5_)), (4, .ref s_c), (2, .int (nI trayed)), (0, .ref b0), (1, .int (nI j))]) hx hb dX6_named_123 hl (k := 3) rfl rfl (by decide) (by decide) rfl (fun ls hl => ?_)
              refine lv_goto (tgt := 18) hx hb dX6_named_126 (by decide) ?_
              exact ih_1 (k + 1) ls (by omega) ⟨lv_sub hl [0, 4, 5, 6] rfl, by omega, by rw [hno, nmF_n (by omega) hne, show tCols tb - k - 1 = tCols tb - (k + 1) by omega]⟩
            · have hye : (nameW tb k).1 = tx := tx_ext (by omega) (fun j9 h9 => by rcases hb5 with z9 | z9; exact z9.2 j9 (by omega); omega)
              refine lv_iload_n hx hb dX6_named_121 rfl (lv_at hl 3 rfl) ?_
              have h : Hs E A s.heap ([(b0, .inr (6, [.ref b1, .int (nI 0), .int (nI fed), .int place, .ref b2, .ref b3, .int (nI tcn), .int (nI wby), .ref b4, .int (nI pcn), .ref b5, .ref b7])), (b3, .inl (E.2.1 4, 41, .inr (.inr (.inr (.inr tabs))))), (b1, .inl (E.2.1 0, 16000, .inl tray))] ++ im) H locs := h
              exact ct_iret (ty := .int) (v := (nI k)) B rfl rfl h.2.2 ⟨by rw [namedS, htb]; dsimp only; rw [hno, nmF_y (by omega) hye, if_neg (nI_lt0 _ (by omega))], h.1, h.2.1⟩ dX6_named_122
          · have hal : ∀ j9, j9 < i_ → (nameW tb k).1.getD j9 0 = tx.getD j9 0 := by rcases hb5 with z9 | z9; exact z9.2; exact absurd z9.1 (by omega)
            refine lv_aload hx hb dX6_named_82 (lv_at hl 2 rfl) ?_
            refine lv_iload hx hb dX6_named_84 (lv_at hl 0 rfl) ?_
            refine ct_callR (ct_runV (As := [.int (nI i_)]) (rest := []) B (met_J4_charAt l E  _ s_c i_ ((nameW tb k).1) H.size (by omega)) (lw_V q1190 q476 q477 q58 q478) (n := 1) ⟨by decide, by decide, by decide +kernel⟩ rfl ⟨rfl, rfl, (Nat.le_of_ble_eq_true rfl), (Nat.le_of_ble_eq_true rfl), (Nat.le_of_ble_eq_true rfl), (Nat.le_of_ble_eq_true rfl)⟩ h.2.2 hA (ct_Srecv B (hss.S (ct_Pr h.1))) (hss.S (ct_Pr h.1)) hl.1 (Nat.le_of_ble_eq_true rfl) dX6_named_86) (fun v hv => ?_)
            subst hv
            refine W.eq (g2 := F0 m 89 ls [.int (nI (((nameW tb k).1).getD i_ 0))]) rfl ?_
            refine lv_aload_n hx hb dX6_named_89 rfl (lv_at hl 5 rfl) ?_
            refine ct_get (v := .ref b1) B h.1 kX6 0 rfl 0 (Nat.le_of_ble_eq_true rfl) q727 rfl dX6_named_90 ?_
            refine lv_iload hx hb dX6_named_93 (lv_at hl 0 rfl) ?_
            refine ct_bald (f := tray) B h.1 2 rfl (by omega) (by omega) dX6_named_95 ?_
            refine lv_sipush (v := nI 255) hx hb dX6_named_96 (by decide) ?_
            refine lv_iand hx hb dX6_named_99 ?_
            refine W.eq (g2 := F0 m 100 ls [.int (nI (tx.getD i_ 0)), .int (nI (((nameW tb k).1).getD i_ 0))]) (by rw [(txR_and htx (show i_ < trayed by omega))]) ?_
            refine n_icmp_ne (tgt := 107) hx hb dX6_named_100 (by decide) (by have := tx_lt hs8.2 i_; omega) (by have := txR_lt htx i_; omega) (fun csm => ?_) (fun csm => ?_)
            · refine lv_iconst (v := nI 0) hx hb dX6_named_107 (by decide) ?_
              refine lv_istore (lv' := [(5, .int (nI 0)), (6, .int (nI i_)), (4, .ref s_c), (3, .int (nI k)), (2, .int (nI trayed)), (0, .ref b0), (1, .int (nI j))]) hx hb dX6_named_108 hl (by decide) rfl (fun ls hl => ?_)
              refine n_iinc (n := 1) (lv' := [(6, .int (nI (i_ + 1))), (5, .int (nI 0)), (4, .ref s_c), (3, .int (nI k)), (2, .int (nI trayed)), (0, .ref b0), (1, .int (nI j))]) hx hb dX6_named_110 hl (k := 1) rfl rfl (by decide) (by decide) rfl (fun ls hl => ?_)
              refine lv_goto (tgt := 71) hx hb dX6_named_113 (by decide) ?_
              exact ih_3 ((i_ + 1), 0) ls (by dsimp only; omega) ⟨lv_sub hl [0, 1, 2, 3, 4, 5, 6] rfl, by omega, Or.inr ⟨rfl, fun z9 => csm (by rw [z9])⟩⟩
            · refine lv_iconst (v := nI 1) hx hb dX6_named_103 (by decide) ?_
              refine lv_goto (tgt := 108) hx hb dX6_named_104 (by decide) ?_
              refine lv_istore (lv' := [(5, .int (nI 1)), (6, .int (nI i_)), (4, .ref s_c), (3, .int (nI k)), (2, .int (nI trayed)), (0, .ref b0), (1, .int (nI j))]) hx hb dX6_named_108 hl (by decide) rfl (fun ls hl => ?_)
              refine n_iinc (n := 1) (lv' := [(6, .int (nI (i_ + 1))), (5, .int (nI 1)), (4, .ref s_c), (3, .int (nI k)), (2, .int (nI trayed)), (0, .ref b0), (1, .int (nI j))]) hx hb dX6_named_110 hl (k := 1) rfl rfl (by decide) (by decide) rfl (fun ls hl => ?_)
              refine lv_goto (tgt := 71) hx hb dX6_named_113 (by decide) ?_
              exact ih_3 ((i_ + 1), 1) ls (by dsimp only; omega) ⟨lv_sub hl [0, 1, 2, 3, 4, 5, 6] rfl, by omega, Or.inl ⟨rfl, fun j9 hj9 => by rcases Nat.lt_succ_iff_lt_or_eq.mp hj9 with q9 | q9; exact hal j9 q9; rw [q9]; exact csm⟩⟩
  · refine lv_bipush (v := (-14)) hx hb dX6_named_13 (by decide) ?_
    have h : Hs E A s.heap ([(b0, .inr (6, [.ref b1, .int (nI 0), .int (nI fed), .int place, .ref b2, .ref b3, .int (nI tcn), .int (nI wby), .ref b4, .int (nI pcn), .ref b5, .ref b7])), (b3, .inl (E.2.1 4, 41, .inr (.inr (.inr (.inr tabs))))), (b1, .inl (E.2.1 0, 16000, .inl tray))] ++ im) H locs := h
    exact ct_iret (ty := .int) (v := (-14)) B rfl rfl h.2.2 ⟨by rw [namedS, isSome_none ct], h.1, h.2.1⟩ dX6_named_15
