set_option maxHeartbeats 4000000 in
set_option maxRecDepth 100000 in
theorem met_X10_is (l : Launch) (E : CE) (r9 tr tx : Nat) (tray : Nat → Int32) (sz9 i q9 by9 : Nat) (tq : Option Nat) (t : List Nat) (c9 : Nat) (sz : Nat) (htx : txR tray sz9 t) (hsz9 : sz9 ≤ 16000) (hi : i ≤ sz9) (hc9 : c9 < 128) : Met l yX10_is (ws_ yX10_is cX10_is 2 (some .boolean)) { frames := 0, cells := 0, slots := 0, locals := 0 } (ctP E [.ref r9, .int (nI c9)] sz (fun H => va_P E.1 ct_cl [(r9, .inr (10, [.ref tr, .ref tx, .int (nI sz9), .int (nI i), .int (nI q9), va_rf tq, .int (nI by9)])), (tx, .inl (E.2.1 0, 16000, .inl tray))] H)) (ctR (fun v => v = some (.int (if i < t.length ∧ t.getD i 0 = c9 then 1 else 0)))) 0 0 (fun _ => False) := by
  refine ct_start (by decide) (Nat.le_of_ble_eq_true rfl) ?_
  intro p e s m below meth c ls B hsz hH hl
  have hC := hH
  have hx := B.1
  have hb := B.2.1
  have hl : lv_has ls 2 [(0, .ref r9), (1, .int (nI c9))] := hl
  have htl : t.length = sz9 := htx.1
  refine lv_aload_n hx hb dX10_is_0 rfl (lv_at hl 0 rfl) ?_
  refine ct_get (v := .int (nI i)) B hC kX10 0 rfl 3 (Nat.le_of_ble_eq_true rfl) q1129 rfl dX10_is_1 ?_
  refine lv_aload_n hx hb dX10_is_4 rfl (lv_at hl 0 rfl) ?_
  refine ct_get (v := .int (nI sz9)) B hC kX10 0 rfl 2 (Nat.le_of_ble_eq_true rfl) q1128 rfl dX10_is_5 ?_
  refine n_icmp_ge (tgt := 28) hx hb dX10_is_8 (by decide) (by omega) (by omega) (fun ca => ?_) (fun ca => ?_)
  · refine lv_iconst (v := nI 0) hx hb dX10_is_28 (by decide) ?_
    exact ct_iretR (ty := .boolean) (v := (nI 0)) B rfl rfl (by rw [if_neg (fun z9 => by have := z9.1; omega)] <;> rfl) dX10_is_29
  · refine lv_aload_n hx hb dX10_is_11 rfl (lv_at hl 0 rfl) ?_
    refine ct_get (v := .ref tx) B hC kX10 0 rfl 1 (Nat.le_of_ble_eq_true rfl) q1127 rfl dX10_is_12 ?_
    refine lv_aload_n hx hb dX10_is_15 rfl (lv_at hl 0 rfl) ?_
    refine ct_get (v := .int (nI i)) B hC kX10 0 rfl 3 (Nat.le_of_ble_eq_true rfl) q1129 rfl dX10_is_16 ?_
    refine ct_bald (f := tray) B hC 1 rfl (by omega) (by omega) dX10_is_19 ?_
    refine lv_iload_n hx hb dX10_is_20 rfl (lv_at hl 1 rfl) ?_
    refine lv_icmp_ne (tgt := 28) hx hb dX10_is_21 (by decide) (fun cb => ?_) (fun cb => ?_)
    · refine lv_iconst (v := nI 0) hx hb dX10_is_28 (by decide) ?_
      exact ct_iretR (ty := .boolean) (v := (nI 0)) B rfl rfl (by rw [if_neg (fun z9 => cb ((tb_eq htx (by omega) hc9).mpr z9.2))] <;> rfl) dX10_is_29
    · refine lv_iconst (v := nI 1) hx hb dX10_is_24 (by decide) ?_
      refine lv_goto (tgt := 29) hx hb dX10_is_25 (by decide) ?_
      exact ct_iretR (ty := .boolean) (v := (nI 1)) B rfl rfl (by rw [if_pos ⟨by omega, (tb_eq htx (by omega) hc9).mp cb⟩] <;> rfl) dX10_is_29
set_option maxHeartbeats 4000000 in
set_option maxRecDepth 100000 in
theorem met_X10_wrong (l : Launch) (E : CE) (r9 tr tx : Nat) (sz9 i q9 by9 : Nat) (tq : Option Nat) (p0 pl : Int32) (sz : Nat) (htr : l.stackTraces = false) : Met l yX10_wrong (ws_ yX10_wrong cX10_wrong 2 (some (.object "java/lang/IllegalStateException"))) { frames := 7, cells := 1, slots := 6, locals := 117 } (ctP E [.ref r9, .int pl] sz (fun H => va_P E.1 ct_cl ([(r9, .inr (10, [.ref tr, .ref tx, .int (nI sz9), .int (nI i), .int (nI q9), va_rf tq, .int (nI by9)])), (tr, .inr (7, [.int p0]))]) H ∧ va_D (fun q => E.2.2.1 ≤ q) ([(r9, .inr (10, [.ref tr, .ref tx, .int (nI sz9), .int (nI i), .int (nI q9), va_rf tq, .int (nI by9)])), (tr, .inr (7, [.int p0]))]))) (ctQ (fun v H => ∃ x2 : Nat, v = some (.ref x2) ∧ va_P E.1 ct_cl ([(r9, .inr (10, [.ref tr, .ref tx, .int (nI sz9), .int (nI i), .int (nI q9), va_rf tq, .int (nI by9)])), (tr, .inr (7, [.int pl]))]) H ∧ va_D (va_A ([(r9, .inr (10, [.ref tr, .ref tx, .int (nI sz9), .int (nI i), .int (nI q9), va_rf tq, .int (nI by9)])), (tr, .inr (7, [.int p0]))]) sz) ([(r9, .inr (10, [.ref tr, .ref tx, .int (nI sz9), .int (nI i), .int (nI q9), va_rf tq, .int (nI by9)])), (tr, .inr (7, [.int pl]))]) ∧ (exC E H x2)) (va_A ([(r9, .inr (10, [.ref tr, .ref tx, .int (nI sz9), .int (nI i), .int (nI q9), va_rf tq, .int (nI by9)])), (tr, .inr (7, [.int p0]))]) sz)) 1 6 (va_A ([(r9, .inr (10, [.ref tr, .ref tx, .int (nI sz9), .int (nI i), .int (nI q9), va_rf tq, .int (nI by9)])), (tr, .inr (7, [.int p0]))]) sz) := by
  refine ct_start (by decide) (Nat.le_of_ble_eq_true rfl) ?_
  intro p e s m below meth c ls B hsz hH hl
  obtain ⟨hP, hD⟩ := hH
  obtain ⟨A, hAe, h, hA, hAn⟩ := ct_enter B.2.2.2.2.2.2.2.2 hsz hP hD
  rw [hAe]
  refine ct_gen h (fun H locs h => ?_)
  have hx := B.1
  have hb := B.2.1
  have hl : lv_has ls 2 [(0, .ref r9), (1, .int pl)] := hl
  refine lv_aload_n hx hb dX10_wrong_0 rfl (lv_at hl 0 rfl) ?_
  refine ct_get (v := .ref tr) B h.1 kX10 0 rfl 0 (Nat.le_of_ble_eq_true rfl) q1126 rfl dX10_wrong_1 ?_
  refine lv_iconst (v := nI 1) hx hb dX10_wrong_4 (by decide) ?_
  refine lv_iload_n hx hb dX10_wrong_5 rfl (lv_at hl 1 rfl) ?_
  have h : Hs E A s.heap ([(tr, .inr (7, [.int p0])), (r9, .inr (10, [.ref tr, .ref tx, .int (nI sz9), .int (nI i), .int (nI q9), va_rf tq, .int (nI by9)]))]) H locs := ct_part0 h [1, 0] rfl rfl
  have h : Hs E A s.heap ([(tr, .inr (7, [.int p0]))] ++ ([(r9, .inr (10, [.ref tr, .ref tx, .int (nI sz9), .int (nI i), .int (nI q9), va_rf tq, .int (nI by9)]))])) H locs := h
  refine ct_callQ (ct_runV (As := [.int (nI 1), .int pl]) (rest := []) B (met_X7_at l E tr (nI 1) pl p0 H.size htr) (lw_V q854 q855 q856 q55 q857) (n := 2) ⟨by decide, by decide, by decide +kernel⟩ rfl ⟨rfl, rfl, (Nat.le_of_ble_eq_true rfl), (Nat.le_of_ble_eq_true rfl), (by first | omega | (dsimp only; omega)), (by first | omega | (dsimp only; omega))⟩ h.2.2 hA (ct_recv B h.1 kX7 0 rfl) ⟨(ct_Pl h.1), (ct_Dl (ct_D0 h hA))⟩ hl.1 (Nat.le_of_ble_eq_true rfl) dX10_wrong_6) h.2.2 (ct_subL h hAn) (ct_subL h hAn) (fun v H locs hv hz hk hS => ?_)
  obtain ⟨x1, rfl, hP1, hD1, hex2⟩ := hv
  have h : Hs E A s.heap ([(tr, .inr (7, [.int pl]))] ++ ([(r9, .inr (10, [.ref tr, .ref tx, .int (nI sz9), .int (nI i), .int (nI q9), va_rf tq, .int (nI by9)]))])) H locs := ct_frL h hP1 hD1 hk hS hAn
  have h : Hs E A s.heap ([(tr, .inr (7, [.int pl])), (r9, .inr (10, [.ref tr, .ref tx, .int (nI sz9), .int (nI i), .int (nI q9), va_rf tq, .int (nI by9)]))]) H locs := h
  clear hP1 hD1 hS hz hk
  refine W.eq (g2 := F0 m 9 ls [.ref x1]) rfl ?_
  have h : Hs E A s.heap ([(r9, .inr (10, [.ref tr, .ref tx, .int (nI sz9), .int (nI i), .int (nI q9), va_rf tq, .int (nI by9)])), (tr, .inr (7, [.int pl]))]) H locs := ct_part0 h [1, 0] rfl rfl
  refine W.widen (k := 1) (n := 6) (by first | omega | (dsimp only; omega)) (by first | omega | (dsimp only; omega)) ?_
  exact ct_aretQ (r := some (x1)) B rfl (Or.inl ⟨_, rfl⟩) h.2.2 ⟨x1, rfl, h.1, h.2.1, hex2⟩ dX10_wrong_9
set_option maxHeartbeats 4000000 in
set_option maxRecDepth 100000 in
theorem met_X10_mustEnd (l : Launch) (E : CE) (r9 tr tx : Nat) (tray : Nat → Int32) (sz9 i q9 by9 : Nat) (tq : Option Nat) (t : List Nat) (p0 : Int32) (sz : Nat) (htr : l.stackTraces = false) (htx : txR tray sz9 t) (hsz9 : sz9 ≤ 16000) (hi : i ≤ sz9) : MetX l yX10_mustEnd (ws_ yX10_mustEnd cX10_mustEnd 1 none) { frames := 8, cells := 1, slots := 6, locals := 138 } (ctP E [.ref r9] sz (fun H => va_P E.1 ct_cl ([(r9, .inr (10, [.ref tr, .ref tx, .int (nI sz9), .int (nI i), .int (nI q9), va_rf tq, .int (nI by9)])), (tx, .inl (E.2.1 0, 16000, .inl tray)), (tr, .inr (7, [.int p0]))]) H ∧ va_D (fun q => E.2.2.1 ≤ q) ([(r9, .inr (10, [.ref tr, .ref tx, .int (nI sz9), .int (nI i), .int (nI q9), va_rf tq, .int (nI by9)])), (tx, .inl (E.2.1 0, 16000, .inl tray)), (tr, .inr (7, [.int p0]))]))) (ctX (fun v H => v = none ∧ va_P E.1 ct_cl ([(r9, .inr (10, [.ref tr, .ref tx, .int (nI sz9), .int (nI i), .int (nI q9), va_rf tq, .int (nI by9)])), (tx, .inl (E.2.1 0, 16000, .inl tray)), (tr, .inr (7, [.int p0]))]) H ∧ va_D (va_A ([(r9, .inr (10, [.ref tr, .ref tx, .int (nI sz9), .int (nI i), .int (nI q9), va_rf tq, .int (nI by9)])), (tx, .inl (E.2.1 0, 16000, .inl tray)), (tr, .inr (7, [.int p0]))]) sz) ([(r9, .inr (10, [.ref tr, .ref tx, .int (nI sz9), .int (nI i), .int (nI q9), va_rf tq, .int (nI by9)])), (tx, .inl (E.2.1 0, 16000, .inl tray)), (tr, .inr (7, [.int p0]))]) ∧ (endsAt t i)) (fun x H => ∃ pl : Nat, exC E H x ∧ va_P E.1 ct_cl ([(tx, .inl (E.2.1 0, 16000, .inl tray)), (tr, .inr (7, [.int (nI pl)]))]) H ∧ (pl = i ∧ ¬ endsAt t i)) (va_A ([(r9, .inr (10, [.ref tr, .ref tx, .int (nI sz9), .int (nI i), .int (nI q9), va_rf tq, .int (nI by9)])), (tx, .inl (E.2.1 0, 16000, .inl tray)), (tr, .inr (7, [.int p0]))]) sz)) 1 6 (va_A ([(r9, .inr (10, [.ref tr, .ref tx, .int (nI sz9), .int (nI i), .int (nI q9), va_rf tq, .int (nI by9)])), (tx, .inl (E.2.1 0, 16000, .inl tray)), (tr, .inr (7, [.int p0]))]) sz) := by
  refine ct_startX (by decide) (Nat.le_of_ble_eq_true rfl) ?_
  intro p e s m below meth c ls B hno hsz hH hl
  obtain ⟨hP, hD⟩ := hH
  obtain ⟨A, hAe, h, hA, hAn⟩ := ct_enter B.2.2.2.2.2.2.2.2 hsz hP hD
  rw [hAe]
  refine ct_gen h (fun H locs h => ?_)
  have hx := B.1
  have hb := B.2.1
  have hl : lv_has ls 1 [(0, .ref r9)] := hl
  have htl : t.length = sz9 := htx.1
  refine lv_aload_n hx hb dX10_mustEnd_0 rfl (lv_at hl 0 rfl) ?_
  refine lv_bipush (v := nI 44) hx hb dX10_mustEnd_1 (by decide) ?_
  refine ct_callR (ct_runV (As := [.int (nI 44)]) (rest := []) B (met_X10_is l E r9 tr tx tray sz9 i q9 by9 tq t 44 H.size htx (by omega) (by omega) (by omega)) (lw_V q894 q896 qs31 q62 q897) (n := 1) ⟨by decide, by decide, by decide +kernel⟩ rfl ⟨rfl, rfl, (Nat.le_of_ble_eq_true rfl), (Nat.le_of_ble_eq_true rfl), (by first | omega | (dsimp only; omega)), (by first | omega | (dsimp only; omega))⟩ h.2.2 hA (ct_recv B h.1 kX10 0 rfl) (h.1.sub [0, 1] rfl) hl.1 (Nat.le_of_ble_eq_true rfl) dX10_mustEnd_3) (fun v hv => ?_)
  subst hv
  refine W.eq (g2 := F0 m 6 ls [.int (if i < t.length ∧ t.getD i 0 = 44 then 1 else 0)]) rfl ?_
  refine b_if_ne (tgt := 27) hx hb dX10_mustEnd_6 (by decide) (fun c44 => ?_) (fun c44 => ?_)
  · have h : Hs E A s.heap ([(r9, .inr (10, [.ref tr, .ref tx, .int (nI sz9), .int (nI i), .int (nI q9), va_rf tq, .int (nI by9)])), (tx, .inl (E.2.1 0, 16000, .inl tray)), (tr, .inr (7, [.int p0]))]) H locs := h
    refine W.widen (k := 1) (n := 6) (by first | omega | (dsimp only; omega)) (by first | omega | (dsimp only; omega)) ?_
    exact ct_toX (ct_vret B h.2.2 ⟨rfl, h.1, h.2.1, ⟨c44.1, Or.inl c44.2⟩⟩ dX10_mustEnd_27)
  · refine lv_aload_n hx hb dX10_mustEnd_9 rfl (lv_at hl 0 rfl) ?_
    refine lv_bipush (v := nI 10) hx hb dX10_mustEnd_10 (by decide) ?_
    refine ct_callR (ct_runV (As := [.int (nI 10)]) (rest := []) B (met_X10_is l E r9 tr tx tray sz9 i q9 by9 tq t 10 H.size htx (by omega) (by omega) (by omega)) (lw_V q894 q896 qs31 q62 q897) (n := 1) ⟨by decide, by decide, by decide +kernel⟩ rfl ⟨rfl, rfl, (Nat.le_of_ble_eq_true rfl), (Nat.le_of_ble_eq_true rfl), (by first | omega | (dsimp only; omega)), (by first | omega | (dsimp only; omega))⟩ h.2.2 hA (ct_recv B h.1 kX10 0 rfl) (h.1.sub [0, 1] rfl) hl.1 (Nat.le_of_ble_eq_true rfl) dX10_mustEnd_12) (fun v hv => ?_)
    subst hv
    refine W.eq (g2 := F0 m 15 ls [.int (if i < t.length ∧ t.getD i 0 = 10 then 1 else 0)]) rfl ?_
    refine b_if_ne (tgt := 27) hx hb dX10_mustEnd_15 (by decide) (fun c10 => ?_) (fun c10 => ?_)
    · have h : Hs E A s.heap ([(r9, .inr (10, [.ref tr, .ref tx, .int (nI sz9), .int (nI i), .int (nI q9), va_rf tq, .int (nI by9)])), (tx, .inl (E.2.1 0, 16000, .inl tray)), (tr, .inr (7, [.int p0]))]) H locs := h
      refine W.widen (k := 1) (n := 6) (by first | omega | (dsimp only; omega)) (by first | omega | (dsimp only; omega)) ?_
      exact ct_toX (ct_vret B h.2.2 ⟨rfl, h.1, h.2.1, ⟨c10.1, Or.inr c10.2⟩⟩ dX10_mustEnd_27)
    · refine lv_aload_n hx hb dX10_mustEnd_18 rfl (lv_at hl 0 rfl) ?_
      refine lv_aload_n hx hb dX10_mustEnd_19 rfl (lv_at hl 0 rfl) ?_
      refine ct_get (v := .int (nI i)) B h.1 kX10 0 rfl 3 (Nat.le_of_ble_eq_true rfl) q1129 rfl dX10_mustEnd_20 ?_
      have h : Hs E A s.heap ([(r9, .inr (10, [.ref tr, .ref tx, .int (nI sz9), .int (nI i), .int (nI q9), va_rf tq, .int (nI by9)])), (tr, .inr (7, [.int p0])), (tx, .inl (E.2.1 0, 16000, .inl tray))]) H locs := ct_part0 h [0, 2, 1] rfl rfl
      have h : Hs E A s.heap ([(r9, .inr (10, [.ref tr, .ref tx, .int (nI sz9), .int (nI i), .int (nI q9), va_rf tq, .int (nI by9)])), (tr, .inr (7, [.int p0]))] ++ ([(tx, .inl (E.2.1 0, 16000, .inl tray))])) H locs := h
      refine ct_callQ (ct_runV (As := [.int (nI i)]) (rest := []) B (met_X10_wrong l E r9 tr tx sz9 i q9 by9 tq p0 (nI i) H.size htr) (lw_V q850 q852 qs29 q62 q853) (n := 1) ⟨by decide, by decide, by decide +kernel⟩ rfl ⟨rfl, rfl, (Nat.le_of_ble_eq_true rfl), (Nat.le_of_ble_eq_true rfl), (by first | omega | (dsimp only; omega)), (by first | omega | (dsimp only; omega))⟩ h.2.2 hA (ct_recv B h.1 kX10 0 rfl) ⟨(ct_Pl h.1), (ct_Dl (ct_D0 h hA))⟩ hl.1 (Nat.le_of_ble_eq_true rfl) dX10_mustEnd_23) h.2.2 (ct_subL h hAn) (ct_subL h hAn) (fun v H locs hv hz hk hS => ?_)
      obtain ⟨x1, rfl, hP1, hD1, hex_⟩ := hv
      have h : Hs E A s.heap ([(r9, .inr (10, [.ref tr, .ref tx, .int (nI sz9), .int (nI i), .int (nI q9), va_rf tq, .int (nI by9)])), (tr, .inr (7, [.int (nI i)]))] ++ ([(tx, .inl (E.2.1 0, 16000, .inl tray))])) H locs := ct_frL h hP1 hD1 hk hS hAn
      have h : Hs E A s.heap ([(r9, .inr (10, [.ref tr, .ref tx, .int (nI sz9), .int (nI i), .int (nI q9), va_rf tq, .int (nI by9)])), (tr, .inr (7, [.int (nI i)])), (tx, .inl (E.2.1 0, 16000, .inl tray))]) H locs := h
      clear hP1 hD1 hS hz hk
      refine W.eq (g2 := F0 m 26 ls [.ref x1]) rfl ?_
      refine W.widen (k := 1) (n := 6) (by first | omega | (dsimp only; omega)) (by first | omega | (dsimp only; omega)) ?_
      exact ct_athrow B hno h.2.2 ⟨i, hex_, h.1.sub [2, 1] rfl, rfl, fun z9 => by rcases z9.2 with y9 | y9; exact c44 ⟨z9.1, y9⟩; exact c10 ⟨z9.1, y9⟩⟩ dX10_mustEnd_26
set_option maxHeartbeats 4000000 in
set_option maxRecDepth 100000 in
theorem met_X10_word (l : Launch) (E : CE) (r9 tr tx : Nat) (tray : Nat → Int32) (sz9 i q9 by9 : Nat) (tq : Option Nat) (t : List Nat) (p0 : Int32) (sz : Nat) (htr : l.stackTraces = false) (htx : txR tray sz9 t) (hsz9 : sz9 ≤ 16000) (hi : i ≤ sz9) : MetX l yX10_word (ws_ yX10_word cX10_word 4 (some (.object "java/lang/String"))) { frames := 8, cells := 4 + wL t i, slots := 60 + 5 * wL t i, locals := 171 } (ctP E [.ref r9] sz (fun H => va_P E.1 ct_cl ([(r9, .inr (10, [.ref tr, .ref tx, .int (nI sz9), .int (nI i), .int (nI q9), va_rf tq, .int (nI by9)])), (tx, .inl (E.2.1 0, 16000, .inl tray)), (tr, .inr (7, [.int p0]))]) H ∧ va_D (fun q => E.2.2.1 ≤ q) ([(r9, .inr (10, [.ref tr, .ref tx, .int (nI sz9), .int (nI i), .int (nI q9), va_rf tq, .int (nI by9)])), (tx, .inl (E.2.1 0, 16000, .inl tray)), (tr, .inr (7, [.int p0]))]))) (ctX (fun v H => ∃ s2 : Nat, ∃ q2 : Nat, ∃ g2 : Nat → Int32, ∃ w2 : Wd, ∃ j2 : Nat, v = some (.ref s2) ∧ va_P E.1 ct_cl ([(r9, .inr (10, [.ref tr, .ref tx, .int (nI sz9), .int (nI j2), .int (nI (if w2.2 = true then 1 else 0)), va_rf tq, .int (nI by9)])), (tx, .inl (E.2.1 0, 16000, .inl tray)), (tr, .inr (7, [.int p0])), (s2, .inr (13, [.ref q2, .int (nI 0), .int 0, .int 0])), (q2, .inl (E.2.1 0, w2.1.length, .inl g2))]) H ∧ va_D (va_A ([(r9, .inr (10, [.ref tr, .ref tx, .int (nI sz9), .int (nI i), .int (nI q9), va_rf tq, .int (nI by9)])), (tx, .inl (E.2.1 0, 16000, .inl tray)), (tr, .inr (7, [.int p0]))]) sz) ([(r9, .inr (10, [.ref tr, .ref tx, .int (nI sz9), .int (nI j2), .int (nI (if w2.2 = true then 1 else 0)), va_rf tq, .int (nI by9)])), (tx, .inl (E.2.1 0, 16000, .inl tray)), (tr, .inr (7, [.int p0])), (s2, .inr (13, [.ref q2, .int (nI 0), .int 0, .int 0])), (q2, .inl (E.2.1 0, w2.1.length, .inl g2))]) ∧ (wordAt t i = .inr (w2, j2)) ∧ (∀ x, x < w2.1.length → g2 x = nI (w2.1.getD x 0)) ∧ (i ≤ j2 ∧ j2 ≤ t.length ∧ w2.1.length ≤ j2 - i) ∧ (∀ x ∈ w2.1, x < 128)) (fun x H => ∃ pl : Nat, exC E H x ∧ va_P E.1 ct_cl ([(tx, .inl (E.2.1 0, 16000, .inl tray)), (tr, .inr (7, [.int (nI pl)]))]) H ∧ (wordAt t i = .inl pl)) (va_A ([(r9, .inr (10, [.ref tr, .ref tx, .int (nI sz9), .int (nI i), .int (nI q9), va_rf tq, .int (nI by9)])), (tx, .inl (E.2.1 0, 16000, .inl tray)), (tr, .inr (7, [.int p0]))]) sz)) (4 + wL t i) (60 + 5 * wL t i) (va_A ([(r9, .inr (10, [.ref tr, .ref tx, .int (nI sz9), .int (nI i), .int (nI q9), va_rf tq, .int (nI by9)])), (tx, .inl (E.2.1 0, 16000, .inl tray)), (tr, .inr (7, [.int p0]))]) sz) := by
  refine ct_startX (by decide) (Nat.le_of_ble_eq_true rfl) ?_
  intro p e s m below meth c ls B hno hsz hH hl
  obtain ⟨hP, hD⟩ := hH
  obtain ⟨A, hAe, h, hA, hAn⟩ := ct_enter B.2.2.2.2.2.2.2.2 hsz hP hD
  rw [hAe]
  refine ct_gen h (fun H locs h => ?_)
  have hx := B.1
  have hb := B.2.1
  have hl : lv_has ls 4 [(0, .ref r9)] := hl
  have htl : t.length = sz9 := htx.1
  refine ct_new (fs := [.null, .int 0, .int 0, .int 0]) B h hAn kJ12 q864 q865 q68 (by intro j9 hj9; rcases j9 with _ | _ | _ | _ | j9 <;> first | rfl | omega) (by first | omega | (dsimp only; omega)) (by first | omega | (dsimp only; omega)) dX10_word_0 (fun sb H h hsb => ?_)
  have h : Hs E A s.heap ([(sb, .inr (15, [.null, .int 0, .int 0, .int 0]))] ++ ([(r9, .inr (10, [.ref tr, .ref tx, .int (nI sz9), .int (nI i), .int (nI q9), va_rf tq, .int (nI by9)])), (tx, .inl (E.2.1 0, 16000, .inl tray)), (tr, .inr (7, [.int p0]))])) H locs := ct_Hc h
  have h : Hs E A s.heap ([(sb, .inr (15, [.null, .int 0, .int 0, .int 0])), (r9, .inr (10, [.ref tr, .ref tx, .int (nI sz9), .int (nI i), .int (nI q9), va_rf tq, .int (nI by9)])), (tx, .inl (E.2.1 0, 16000, .inl tray)), (tr, .inr (7, [.int p0]))]) H locs := h
  refine lv_dup hx hb dX10_word_3 rfl ?_
  have h : Hs E A s.heap ([(sb, .inr (15, [.null, .int 0, .int 0, .int 0]))] ++ ([(r9, .inr (10, [.ref tr, .ref tx, .int (nI sz9), .int (nI i), .int (nI q9), va_rf tq, .int (nI by9)])), (tx, .inl (E.2.1 0, 16000, .inl tray)), (tr, .inr (7, [.int p0]))])) H locs := h
  refine ct_callQ (ct_runI (b := sb) (As := []) (rest := [.ref sb]) B (met_J12_init l E sb H.size) q868 q68 q866 q867 rfl (n := 0) ⟨by decide, by decide, by decide +kernel⟩ rfl ⟨rfl, rfl, (Nat.le_of_ble_eq_true rfl), (Nat.le_of_ble_eq_true rfl), (by first | omega | (dsimp only; omega)), (by first | omega | (dsimp only; omega))⟩ h.2.2 hA ⟨(ct_Pl h.1), (ct_Dl (ct_D0 h hA))⟩ hl.1 (Nat.le_of_ble_eq_true rfl) dX10_word_4) h.2.2 (ct_subL h hAn) (ct_subL h hAn) (fun v H locs hv hz hk hS => ?_)
  obtain ⟨va0, rfl, hP1, hD1⟩ := hv
  have h : Hs E A s.heap ([(sb, .inr (15, [.ref va0, .int (nI 0), .int 0, .int (nI 0)])), (va0, .inl (E.2.1 0, 16, .inl (fun _ => 0)))] ++ ([(r9, .inr (10, [.ref tr, .ref tx, .int (nI sz9), .int (nI i), .int (nI q9), va_rf tq, .int (nI by9)])), (tx, .inl (E.2.1 0, 16000, .inl tray)), (tr, .inr (7, [.int p0]))])) H locs := ct_frL h hP1 hD1 hk hS hAn
  have h : Hs E A s.heap ([(sb, .inr (15, [.ref va0, .int (nI 0), .int 0, .int (nI 0)])), (va0, .inl (E.2.1 0, 16, .inl (fun _ => 0))), (r9, .inr (10, [.ref tr, .ref tx, .int (nI sz9), .int (nI i), .int (nI q9), va_rf tq, .int (nI by9)])), (tx, .inl (E.2.1 0, 16000, .inl tray)), (tr, .inr (7, [.int p0]))]) H locs := h
  clear hP1 hD1 hS hz hk
  refine W.eq (g2 := F0 m 7 ls [.ref sb]) rfl ?_
  refine lv_astore_n (lv' := [(1, .ref sb), (0, .ref r9)]) hx hb dX10_word_7 rfl hl (by decide) rfl (fun ls hl => ?_)
  refine lv_aload_n hx hb dX10_word_8 rfl (lv_at hl 1 rfl) ?_
  refine lv_aload_n hx hb dX10_word_9 rfl (lv_at hl 1 rfl) ?_
  refine lv_bipush (v := nI 34) hx hb dX10_word_10 (by decide) ?_
  refine ct_callR (ct_runV (As := [.int (nI 34)]) (rest := [.ref r9]) B (met_X10_is l E r9 tr tx tray sz9 i q9 by9 tq t 34 H.size htx (by omega) (by omega) (by omega)) (lw_V q894 q896 qs31 q62 q897) (n := 1) ⟨by decide, by decide, by decide +kernel⟩ rfl ⟨rfl, rfl, (Nat.le_of_ble_eq_true rfl), (Nat.le_of_ble_eq_true rfl), (by first | omega | (dsimp only; omega)), (by first | omega | (dsimp only; omega))⟩ h.2.2 hA (ct_recv B h.1 kX10 2 rfl) (h.1.sub [2, 3] rfl) hl.1 (Nat.le_of_ble_eq_true rfl) dX10_word_12) (fun v hv => ?_)
  subst hv
  refine W.eq (g2 := F0 m 15 ls [.int (if i < t.length ∧ t.getD i 0 = 34 then 1 else 0), .ref r9]) rfl ?_
  by_cases hq : i < t.length ∧ t.getD i 0 = 34
  · refine W.eq (g2 := F0 m 15 ls [.int (nI 1), .ref r9]) (by rw [if_pos hq] <;> rfl) ?_
    refine ct_put (ws' := [(sb, .inr (15, [.ref va0, .int (nI 0), .int 0, .int (nI 0)])), (va0, .inl (E.2.1 0, 16, .inl (fun _ => 0))), (r9, .inr (10, [.ref tr, .ref tx, .int (nI sz9), .int (nI i), .int (nI 1), va_rf tq, .int (nI by9)])), (tx, .inl (E.2.1 0, 16000, .inl tray)), (tr, .inr (7, [.int p0]))]) B h kX10 2 rfl 4 (Nat.le_of_ble_eq_true rfl) q1130 rfl rfl rfl (Nat.le_of_ble_eq_true rfl) rfl dX10_word_15 (fun H locs h => ?_)
    refine lv_aload_n hx hb dX10_word_18 rfl (lv_at hl 1 rfl) ?_
    refine ct_get (v := .int (nI 1)) B h.1 kX10 2 rfl 4 (Nat.le_of_ble_eq_true rfl) q1130 rfl dX10_word_19 ?_
    refine n_if_ne (tgt := 125) hx hb dX10_word_22 (by decide) (by omega) (fun c_1 => ?_) (fun c_1 => absurd c_1 (by omega))
    refine lv_aload_n hx hb dX10_word_125 rfl (lv_at hl 1 rfl) ?_
    refine lv_dup hx hb dX10_word_126 rfl ?_
    refine ct_get (v := .int (nI i)) B h.1 kX10 2 rfl 3 (Nat.le_of_ble_eq_true rfl) q1129 rfl dX10_word_127 ?_
    refine lv_iconst (v := nI 1) hx hb dX10_word_130 (by decide) ?_
    refine n_iadd hx hb dX10_word_131 ?_
    refine ct_put (ws' := [(sb, .inr (15, [.ref va0, .int (nI 0), .int 0, .int (nI 0)])), (va0, .inl (E.2.1 0, 16, .inl (fun _ => 0))), (r9, .inr (10, [.ref tr, .ref tx, .int (nI sz9), .int (nI (i + 1)), .int (nI 1), va_rf tq, .int (nI by9)])), (tx, .inl (E.2.1 0, 16000, .inl tray)), (tr, .inr (7, [.int p0]))]) B h kX10 2 rfl 3 (Nat.le_of_ble_eq_true rfl) q1129 rfl rfl rfl (Nat.le_of_ble_eq_true rfl) rfl dX10_word_132 (fun H locs h => ?_)
    refine lv_iconst (v := nI 1) hx hb dX10_word_135 (by decide) ?_
    refine lv_istore_n (lv' := [(2, .int (nI 1)), (1, .ref sb), (0, .ref r9)]) hx hb dX10_word_136 rfl hl (by decide) rfl (fun ls hl => ?_)
    have h : Hs E A s.heap ([(r9, .inr (10, [.ref tr, .ref tx, .int (nI sz9), .int (nI (i + 1)), .int (nI 1), va_rf tq, .int (nI by9)])), (tx, .inl (E.2.1 0, 16000, .inl tray)), (tr, .inr (7, [.int p0])), (sb, .inr (15, [.ref va0, .int (nI 0), .int 0, .int (nI 0)])), (va0, .inl (E.2.1 0, 16, .inl (fun _ => 0)))]) H locs := ct_part0 h [2, 3, 4, 0, 1] rfl rfl
    refine W.widen (k := 1 + 16 / 16) (n := 4 + 2 * 16) (by first | (have := hcb.2.2.2.1; dsimp only; omega) | omega | (dsimp only; omega)) (by first | (have := hcb.2.2.2.2; dsimp only; omega) | omega | (dsimp only; omega)) ?_
    refine ct_loopH (σ := Nat × Nat × List Nat × Nat × Nat × Nat × (Nat → Int32)) (fun (b9, j, u, k, va, cap, f) H locs ls => lv_has ls 4 [(2, .int (nI b9)), (1, .ref sb), (0, .ref r9)] ∧ Hs E A s.heap ([(r9, .inr (10, [.ref tr, .ref tx, .int (nI sz9), .int (nI j), .int (nI 1), va_rf tq, .int (nI by9)])), (tx, .inl (E.2.1 0, 16000, .inl tray)), (tr, .inr (7, [.int p0])), (sb, .inr (15, [.ref va, .int (nI 0), .int 0, .int (nI k)])), (va, .inl (E.2.1 0, cap, .inl f))]) H locs ∧ (i + 1 ≤ j ∧ j ≤ sz9 ∧ u.length ≤ j - (i + 1)) ∧ ((b9 = 1 ∧ scanQ (t.drop (i + 1)) false (i + 1) [] = scanQ (t.drop j) false j u) ∨ (b9 = 0 ∧ scanQ (t.drop (i + 1)) false (i + 1) [] = .inr (u, j))) ∧ (k = u.length) ∧ (k ≤ cap ∧ cap ≤ 2 * k + 16 ∧ 16 ≤ cap) ∧ (∀ x, x < cap → fits .byte (.int (f x)) = true) ∧ (∀ x, x < u.length → f x = nI (u.getD x 0)) ∧ (∀ x ∈ u, 32 ≤ x ∧ x ≤ 126)) (fun (b9, j, u, k, va, cap, f) => 2 * (sz9 - j) + b9) (fun (b9, j, u, k, va, cap, f) => 1 + cap / 16) (fun (b9, j, u, k, va, cap, f) => 4 + 2 * cap) (g := fun (b9, j, u, k, va, cap, f) ls => F0 m 137 ls []) (x0 := (1, (i + 1), [], 0, va0, 16, (fun _ => 0))) (ls0 := ls) ?_ ⟨lv_sub hl [0, 1, 2] rfl, h, ⟨by omega, by have := hq.1; omega, Nat.zero_le _⟩, Or.inl ⟨rfl, rfl⟩, rfl, ⟨by omega, by omega, by omega⟩, fun x hx => rfl, fun x hx => absurd hx (Nat.not_lt_zero x), fun x hx => absurd hx List.not_mem_nil⟩
    clear hl h
    intro x9 H locs ls hI ih_2
    obtain ⟨b9, j, u, k, va, cap, f⟩ := x9
    obtain ⟨hl, h, hj, hsc, hk, hkc, hf, hu, hr⟩ := hI
    refine W.eq (g2 := F0 m 137 ls []) rfl ?_
    have hwl0 := wL_q hq hsc (by omega)
    refine lv_iload_n hx hb dX10_word_137 rfl (lv_at hl 0 rfl) ?_
    refine n_if_eq (tgt := 259) hx hb dX10_word_138 (by decide) (by rcases hsc with z9 | z9 <;> omega) (fun cb0 => ?_) (fun cb0 => ?_)
    · have hwd := word_q hq (by rcases hsc with z9 | z9; exact absurd z9.1 (by omega); exact z9.2)
      refine lv_aload_n hx hb dX10_word_259 rfl (lv_at hl 1 rfl) ?_
      have h : Hs E A s.heap ([(sb, .inr (15, [.ref va, .int (nI 0), .int 0, .int (nI k)])), (va, .inl (E.2.1 0, cap, .inl f)), (r9, .inr (10, [.ref tr, .ref tx, .int (nI sz9), .int (nI j), .int (nI 1), va_rf tq, .int (nI by9)])), (tx, .inl (E.2.1 0, 16000, .inl tray)), (tr, .inr (7, [.int p0]))]) H locs := ct_part0 h [3, 4, 0, 1, 2] rfl rfl
      have h : Hs E A s.heap ([(sb, .inr (15, [.ref va, .int (nI 0), .int 0, .int (nI k)])), (va, .inl (E.2.1 0, cap, .inl f))] ++ ([(r9, .inr (10, [.ref tr, .ref tx, .int (nI sz9), .int (nI j), .int (nI 1), va_rf tq, .int (nI by9)])), (tx, .inl (E.2.1 0, 16000, .inl tray)), (tr, .inr (7, [.int p0]))])) H locs := h
      refine ct_callQ (ct_runV (As := []) (rest := []) B (met_J12_toString l E sb va 0 k cap f H.size ⟨hkc.1, by omega⟩ (by omega) hf) (lw_V q971 q972 q973 q68 q974) (n := 0) ⟨by decide, by decide, by decide +kernel⟩ rfl ⟨rfl, rfl, (Nat.le_of_ble_eq_true rfl), (Nat.le_of_ble_eq_true rfl), (by first | omega | (dsimp only; omega)), (by first | omega | (dsimp only; omega))⟩ h.2.2 hA (ct_recv B h.1 kJ12 0 rfl) ⟨(ct_Pl h.1), (ct_Dl (ct_D0 h hA))⟩ hl.1 (Nat.le_of_ble_eq_true rfl) dX10_word_260) h.2.2 (ct_subL h hAn) (ct_subL h hAn) (fun v H locs hv hz hk hS => ?_)
      obtain ⟨s_1, q_1, g_1, rfl, hP1, hD1, hg2⟩ := hv
      have h : Hs E A s.heap ([(s_1, .inr (13, [.ref q_1, .int (nI 0), .int 0, .int 0])), (sb, .inr (15, [.ref va, .int (nI 0), .int 0, .int (nI k)])), (va, .inl (E.2.1 0, cap, .inl f)), (q_1, .inl (E.2.1 0, k, .inl g_1))] ++ ([(r9, .inr (10, [.ref tr, .ref tx, .int (nI sz9), .int (nI j), .int (nI 1), va_rf tq, .int (nI by9)])), (tx, .inl (E.2.1 0, 16000, .inl tray)), (tr, .inr (7, [.int p0]))])) H locs := ct_frL h hP1 hD1 hk hS hAn
      have h : Hs E A s.heap ([(s_1, .inr (13, [.ref q_1, .int (nI 0), .int 0, .int 0])), (sb, .inr (15, [.ref va, .int (nI 0), .int 0, .int (nI k)])), (va, .inl (E.2.1 0, cap, .inl f)), (q_1, .inl (E.2.1 0, k, .inl g_1)), (r9, .inr (10, [.ref tr, .ref tx, .int (nI sz9), .int (nI j), .int (nI 1), va_rf tq, .int (nI by9)])), (tx, .inl (E.2.1 0, 16000, .inl tray)), (tr, .inr (7, [.int p0]))]) H locs := h
      clear hP1 hD1 hS hz hk
      refine W.eq (g2 := F0 m 263 ls [.ref s_1]) rfl ?_
      have hwl := wL_i hwd
      subst hk
      have h : Hs E A s.heap ([(r9, .inr (10, [.ref tr, .ref tx, .int (nI sz9), .int (nI j), .int (nI (if (u, true).2 = true then 1 else 0)), va_rf tq, .int (nI by9)])), (tx, .inl (E.2.1 0, 16000, .inl tray)), (tr, .inr (7, [.int p0])), (s_1, .inr (13, [.ref q_1, .int (nI 0), .int 0, .int 0])), (q_1, .inl (E.2.1 0, (u, true).1.length, .inl g_1))]) H locs := ct_part0 h [4, 5, 6, 0, 3] rfl rfl
      refine W.widen (k := 4 + wL t i) (n := 60 + 5 * wL t i) (by first | omega | (dsimp only; omega)) (by first | omega | (dsimp only; omega)) ?_
      exact ct_toX (ct_aretQ (r := some (s_1)) B rfl (Or.inl ⟨_, rfl⟩) h.2.2 ⟨s_1, q_1, g_1, (u, true), j, rfl, h.1, h.2.1, hwd, fun x hx => by rw [hg2 x hx]; exact hu x hx, ⟨by omega, by omega, by show u.length ≤ _; omega⟩, fun x hx => by have := hr x hx; omega⟩ dX10_word_263)
    · have hsc0 : scanQ (t.drop (i + 1)) false (i + 1) [] = scanQ (t.drop j) false j u := by rcases hsc with z9 | z9; exact z9.2; exact absurd z9.1 (by omega)
      have hb1 : b9 = 1 := by rcases hsc with z9 | z9 <;> omega
      subst hb1
      refine lv_aload_n hx hb dX10_word_141 rfl (lv_at hl 2 rfl) ?_
      refine ct_get (v := .int (nI j)) B h.1 kX10 0 rfl 3 (Nat.le_of_ble_eq_true rfl) q1129 rfl dX10_word_142 ?_
      refine lv_aload_n hx hb dX10_word_145 rfl (lv_at hl 2 rfl) ?_
      refine ct_get (v := .int (nI sz9)) B h.1 kX10 0 rfl 2 (Nat.le_of_ble_eq_true rfl) q1128 rfl dX10_word_146 ?_
      refine n_icmp_eq (tgt := 180) hx hb dX10_word_149 (by decide) (by omega) (by omega) (fun ca => ?_) (fun ca => ?_)
      · have hwd : wordAt t i = .inl j := word_qe hq (by rw [hsc0]; exact scanQ_end (by omega))
        have hwl := wL_e hwd
        refine lv_aload_n hx hb dX10_word_180 rfl (lv_at hl 2 rfl) ?_
        refine lv_aload_n hx hb dX10_word_181 rfl (lv_at hl 2 rfl) ?_
        refine ct_get (v := .int (nI j)) B h.1 kX10 0 rfl 3 (Nat.le_of_ble_eq_true rfl) q1129 rfl dX10_word_182 ?_
        have h : Hs E A s.heap ([(r9, .inr (10, [.ref tr, .ref tx, .int (nI sz9), .int (nI j), .int (nI 1), va_rf tq, .int (nI by9)])), (tr, .inr (7, [.int p0])), (tx, .inl (E.2.1 0, 16000, .inl tray)), (sb, .inr (15, [.ref va, .int (nI 0), .int 0, .int (nI k)])), (va, .inl (E.2.1 0, cap, .inl f))]) H locs := ct_part0 h [0, 2, 1, 3, 4] rfl rfl
        have h : Hs E A s.heap ([(r9, .inr (10, [.ref tr, .ref tx, .int (nI sz9), .int (nI j), .int (nI 1), va_rf tq, .int (nI by9)])), (tr, .inr (7, [.int p0]))] ++ ([(tx, .inl (E.2.1 0, 16000, .inl tray)), (sb, .inr (15, [.ref va, .int (nI 0), .int 0, .int (nI k)])), (va, .inl (E.2.1 0, cap, .inl f))])) H locs := h
        refine ct_callQ (ct_runV (As := [.int (nI j)]) (rest := []) B (met_X10_wrong l E r9 tr tx sz9 j 1 by9 tq p0 (nI j) H.size htr) (lw_V q850 q852 qs29 q62 q853) (n := 1) ⟨by decide, by decide, by decide +kernel⟩ rfl ⟨rfl, rfl, (Nat.le_of_ble_eq_true rfl), (Nat.le_of_ble_eq_true rfl), (by first | omega | (dsimp only; omega)), (by first | omega | (dsimp only; omega))⟩ h.2.2 hA (ct_recv B h.1 kX10 0 rfl) ⟨(ct_Pl h.1), (ct_Dl (ct_D0 h hA))⟩ hl.1 (Nat.le_of_ble_eq_true rfl) dX10_word_185) h.2.2 (ct_subL h hAn) (ct_subL h hAn) (fun v H locs hv hz hk hS => ?_)
        obtain ⟨x_1, rfl, hP1, hD1, hex_⟩ := hv
        have h : Hs E A s.heap ([(r9, .inr (10, [.ref tr, .ref tx, .int (nI sz9), .int (nI j), .int (nI 1), va_rf tq, .int (nI by9)])), (tr, .inr (7, [.int (nI j)]))] ++ ([(tx, .inl (E.2.1 0, 16000, .inl tray)), (sb, .inr (15, [.ref va, .int (nI 0), .int 0, .int (nI k)])), (va, .inl (E.2.1 0, cap, .inl f))])) H locs := ct_frL h hP1 hD1 hk hS hAn
        have h : Hs E A s.heap ([(r9, .inr (10, [.ref tr, .ref tx, .int (nI sz9), .int (nI j), .int (nI 1), va_rf tq, .int (nI by9)])), (tr, .inr (7, [.int (nI j)])), (tx, .inl (E.2.1 0, 16000, .inl tray)), (sb, .inr (15, [.ref va, .int (nI 0), .int 0, .int (nI k)])), (va, .inl (E.2.1 0, cap, .inl f))]) H locs := h
        clear hP1 hD1 hS hz hk
        refine W.eq (g2 := F0 m 188 ls [.ref x_1]) rfl ?_
        refine W.widen (k := 4 + wL t i) (n := 60 + 5 * wL t i) (by first | omega | (dsimp only; omega)) (by first | omega | (dsimp only; omega)) ?_
        exact ct_athrow B hno h.2.2 ⟨j, hex_, h.1.sub [2, 1] rfl, hwd⟩ dX10_word_188
      · refine lv_aload_n hx hb dX10_word_152 rfl (lv_at hl 2 rfl) ?_
        refine ct_get (v := .ref tx) B h.1 kX10 0 rfl 1 (Nat.le_of_ble_eq_true rfl) q1127 rfl dX10_word_153 ?_
        refine lv_aload_n hx hb dX10_word_156 rfl (lv_at hl 2 rfl) ?_
        refine ct_get (v := .int (nI j)) B h.1 kX10 0 rfl 3 (Nat.le_of_ble_eq_true rfl) q1129 rfl dX10_word_157 ?_
        refine ct_bald (f := tray) B h.1 1 rfl (by omega) (by omega) dX10_word_160 ?_
        refine lv_bipush (v := nI 32) hx hb dX10_word_161 (by decide) ?_
        refine lv_icmp_lt (tgt := 180) hx hb dX10_word_163 (by decide) (fun cb => ?_) (fun cb => ?_)
        · have hwd : wordAt t i = .inl j := word_qe hq (by rw [hsc0]; exact scanQ_bad (by omega) (by have := (tb_lt htx (show j < sz9 by omega)).mp cb; omega))
          have hwl := wL_e hwd
          refine lv_aload_n hx hb dX10_word_180 rfl (lv_at hl 2 rfl) ?_
          refine lv_aload_n hx hb dX10_word_181 rfl (lv_at hl 2 rfl) ?_
          refine ct_get (v := .int (nI j)) B h.1 kX10 0 rfl 3 (Nat.le_of_ble_eq_true rfl) q1129 rfl dX10_word_182 ?_
          have h : Hs E A s.heap ([(r9, .inr (10, [.ref tr, .ref tx, .int (nI sz9), .int (nI j), .int (nI 1), va_rf tq, .int (nI by9)])), (tr, .inr (7, [.int p0])), (tx, .inl (E.2.1 0, 16000, .inl tray)), (sb, .inr (15, [.ref va, .int (nI 0), .int 0, .int (nI k)])), (va, .inl (E.2.1 0, cap, .inl f))]) H locs := ct_part0 h [0, 2, 1, 3, 4] rfl rfl
          have h : Hs E A s.heap ([(r9, .inr (10, [.ref tr, .ref tx, .int (nI sz9), .int (nI j), .int (nI 1), va_rf tq, .int (nI by9)])), (tr, .inr (7, [.int p0]))] ++ ([(tx, .inl (E.2.1 0, 16000, .inl tray)), (sb, .inr (15, [.ref va, .int (nI 0), .int 0, .int (nI k)])), (va, .inl (E.2.1 0, cap, .inl f))])) H locs := h
          refine ct_callQ (ct_runV (As := [.int (nI j)]) (rest := []) B (met_X10_wrong l E r9 tr tx sz9 j 1 by9 tq p0 (nI j) H.size htr) (lw_V q850 q852 qs29 q62 q853) (n := 1) ⟨by decide, by decide, by decide +kernel⟩ rfl ⟨rfl, rfl, (Nat.le_of_ble_eq_true rfl), (Nat.le_of_ble_eq_true rfl), (by first | omega | (dsimp only; omega)), (by first | omega | (dsimp only; omega))⟩ h.2.2 hA (ct_recv B h.1 kX10 0 rfl) ⟨(ct_Pl h.1), (ct_Dl (ct_D0 h hA))⟩ hl.1 (Nat.le_of_ble_eq_true rfl) dX10_word_185) h.2.2 (ct_subL h hAn) (ct_subL h hAn) (fun v H locs hv hz hk hS => ?_)
          obtain ⟨x_1, rfl, hP1, hD1, hex_⟩ := hv
          have h : Hs E A s.heap ([(r9, .inr (10, [.ref tr, .ref tx, .int (nI sz9), .int (nI j), .int (nI 1), va_rf tq, .int (nI by9)])), (tr, .inr (7, [.int (nI j)]))] ++ ([(tx, .inl (E.2.1 0, 16000, .inl tray)), (sb, .inr (15, [.ref va, .int (nI 0), .int 0, .int (nI k)])), (va, .inl (E.2.1 0, cap, .inl f))])) H locs := ct_frL h hP1 hD1 hk hS hAn
          have h : Hs E A s.heap ([(r9, .inr (10, [.ref tr, .ref tx, .int (nI sz9), .int (nI j), .int (nI 1), va_rf tq, .int (nI by9)])), (tr, .inr (7, [.int (nI j)])), (tx, .inl (E.2.1 0, 16000, .inl tray)), (sb, .inr (15, [.ref va, .int (nI 0), .int 0, .int (nI k)])), (va, .inl (E.2.1 0, cap, .inl f))]) H locs := h
          clear hP1 hD1 hS hz hk
          refine W.eq (g2 := F0 m 188 ls [.ref x_1]) rfl ?_
          refine W.widen (k := 4 + wL t i) (n := 60 + 5 * wL t i) (by first | omega | (dsimp only; omega)) (by first | omega | (dsimp only; omega)) ?_
          exact ct_athrow B hno h.2.2 ⟨j, hex_, h.1.sub [2, 1] rfl, hwd⟩ dX10_word_188
        · refine lv_aload_n hx hb dX10_word_166 rfl (lv_at hl 2 rfl) ?_
          refine ct_get (v := .ref tx) B h.1 kX10 0 rfl 1 (Nat.le_of_ble_eq_true rfl) q1127 rfl dX10_word_167 ?_
          refine lv_aload_n hx hb dX10_word_170 rfl (lv_at hl 2 rfl) ?_
          refine ct_get (v := .int (nI j)) B h.1 kX10 0 rfl 3 (Nat.le_of_ble_eq_true rfl) q1129 rfl dX10_word_171 ?_
          refine ct_bald (f := tray) B h.1 1 rfl (by omega) (by omega) dX10_word_174 ?_
          refine lv_bipush (v := nI 126) hx hb dX10_word_175 (by decide) ?_
          refine lv_icmp_le (tgt := 189) hx hb dX10_word_177 (by decide) (fun cc => ?_) (fun cc => ?_)
          · have hjl : j < t.length := by omega
            have hnb : ¬ (t.getD j 0 < 32 ∨ 126 < t.getD j 0) := by have h1 := (not_congr (tb_lt htx (show j < sz9 by omega))).mp cb; have h2 := (not_congr (tb_gt htx (show j < sz9 by omega))).mp (Int32.not_lt.mpr cc); omega
            refine lv_aload_n hx hb dX10_word_189 rfl (lv_at hl 2 rfl) ?_
            refine ct_get (v := .ref tx) B h.1 kX10 0 rfl 1 (Nat.le_of_ble_eq_true rfl) q1127 rfl dX10_word_190 ?_
            refine lv_aload_n hx hb dX10_word_193 rfl (lv_at hl 2 rfl) ?_
            refine ct_get (v := .int (nI j)) B h.1 kX10 0 rfl 3 (Nat.le_of_ble_eq_true rfl) q1129 rfl dX10_word_194 ?_
            refine ct_bald (f := tray) B h.1 1 rfl (by omega) (by omega) dX10_word_197 ?_
            refine W.eq (g2 := F0 m 198 ls [.int (nI (t.getD j 0))]) (by rw [(txR_ok htx (show j < sz9 by omega) (by omega))]) ?_
            refine lv_istore_n (lv' := [(3, .int (nI (t.getD j 0))), (2, .int (nI 1)), (1, .ref sb), (0, .ref r9)]) hx hb dX10_word_198 rfl hl (by decide) rfl (fun ls hl => ?_)
            refine lv_aload_n hx hb dX10_word_199 rfl (lv_at hl 3 rfl) ?_
            refine lv_dup hx hb dX10_word_200 rfl ?_
            refine ct_get (v := .int (nI j)) B h.1 kX10 0 rfl 3 (Nat.le_of_ble_eq_true rfl) q1129 rfl dX10_word_201 ?_
            refine lv_iconst (v := nI 1) hx hb dX10_word_204 (by decide) ?_
            refine n_iadd hx hb dX10_word_205 ?_
            refine ct_put (ws' := [(r9, .inr (10, [.ref tr, .ref tx, .int (nI sz9), .int (nI (j + 1)), .int (nI 1), va_rf tq, .int (nI by9)])), (tx, .inl (E.2.1 0, 16000, .inl tray)), (tr, .inr (7, [.int p0])), (sb, .inr (15, [.ref va, .int (nI 0), .int 0, .int (nI k)])), (va, .inl (E.2.1 0, cap, .inl f))]) B h kX10 0 rfl 3 (Nat.le_of_ble_eq_true rfl) q1129 rfl rfl rfl (Nat.le_of_ble_eq_true rfl) rfl dX10_word_206 (fun H locs h => ?_)
            refine lv_iload_n hx hb dX10_word_209 rfl (lv_at hl 0 rfl) ?_
            refine lv_bipush (v := nI 34) hx hb dX10_word_210 (by decide) ?_
            refine n_icmp_eq (tgt := 225) hx hb dX10_word_212 (by decide) (by omega) (by omega) (fun c34 => ?_) (fun c34 => ?_)
            · have hsc1 : scanQ (t.drop (i + 1)) false (i + 1) [] = scanQ (t.drop (j + 1)) true (j + 1) u := by rw [hsc0, scanQ_q hjl c34]
              refine lv_aload_n hx hb dX10_word_225 rfl (lv_at hl 3 rfl) ?_
              refine lv_bipush (v := nI 34) hx hb dX10_word_226 (by decide) ?_
              refine ct_callR (ct_runV (As := [.int (nI 34)]) (rest := []) B (met_X10_is l E r9 tr tx tray sz9 (j + 1) 1 by9 tq t 34 H.size htx (by omega) (by omega) (by omega)) (lw_V q894 q896 qs31 q62 q897) (n := 1) ⟨by decide, by decide, by decide +kernel⟩ rfl ⟨rfl, rfl, (Nat.le_of_ble_eq_true rfl), (Nat.le_of_ble_eq_true rfl), (by first | omega | (dsimp only; omega)), (by first | omega | (dsimp only; omega))⟩ h.2.2 hA (ct_recv B h.1 kX10 0 rfl) (h.1.sub [0, 1] rfl) hl.1 (Nat.le_of_ble_eq_true rfl) dX10_word_228) (fun v hv => ?_)
              subst hv
              refine W.eq (g2 := F0 m 231 ls [.int (if (j + 1) < t.length ∧ t.getD (j + 1) 0 = 34 then 1 else 0)]) rfl ?_
              refine b_if_eq (tgt := 254) hx hb dX10_word_231 (by decide) (fun cis => ?_) (fun cis => ?_)
              · refine lv_iconst (v := nI 0) hx hb dX10_word_254 (by decide) ?_
                refine lv_istore_n (lv' := [(2, .int (nI 0)), (3, .int (nI (t.getD j 0))), (1, .ref sb), (0, .ref r9)]) hx hb dX10_word_255 rfl hl (by decide) rfl (fun ls hl => ?_)
                refine lv_goto (tgt := 137) hx hb dX10_word_256 (by decide) ?_
                refine W.widen (k := 1 + cap / 16) (n := 4 + 2 * cap) (by first | (have := hcb.2.2.2.1; dsimp only; omega) | omega | (dsimp only; omega)) (by first | (have := hcb.2.2.2.2; dsimp only; omega) | omega | (dsimp only; omega)) ?_
                exact ih_2 (0, (j + 1), u, k, va, cap, f) H locs ls (by dsimp only; omega) ⟨lv_sub hl [0, 2, 3] rfl, h, ⟨by omega, by omega, by omega⟩, Or.inr ⟨rfl, by rw [hsc1, scanQ_qe cis]⟩, hk, hkc, hf, hu, hr⟩
              · refine lv_aload_n hx hb dX10_word_234 rfl (lv_at hl 2 rfl) ?_
                refine lv_bipush (v := nI 34) hx hb dX10_word_235 (by decide) ?_
                have hcb := capB_f hkc.1 hkc.2.1 hkc.2.2
                have h : Hs E A s.heap ([(sb, .inr (15, [.ref va, .int (nI 0), .int 0, .int (nI k)])), (va, .inl (E.2.1 0, cap, .inl f)), (r9, .inr (10, [.ref tr, .ref tx, .int (nI sz9), .int (nI (j + 1)), .int (nI 1), va_rf tq, .int (nI by9)])), (tx, .inl (E.2.1 0, 16000, .inl tray)), (tr, .inr (7, [.int p0]))]) H locs := ct_part0 h [3, 4, 0, 1, 2] rfl rfl
                have h : Hs E A s.heap ([(sb, .inr (15, [.ref va, .int (nI 0), .int 0, .int (nI k)])), (va, .inl (E.2.1 0, cap, .inl f))] ++ ([(r9, .inr (10, [.ref tr, .ref tx, .int (nI sz9), .int (nI (j + 1)), .int (nI 1), va_rf tq, .int (nI by9)])), (tx, .inl (E.2.1 0, 16000, .inl tray)), (tr, .inr (7, [.int p0]))])) H locs := h
                refine ct_callQ (ct_runV (As := [.int (nI 34)]) (rest := []) B (met_J12_appendA l E sb va 0 k cap f 34 H.size ⟨hkc.1, by omega⟩ (by omega) hf) (lw_V q898 q899 q900 q68 q901) (n := 1) ⟨by decide, by decide, by decide +kernel⟩ rfl ⟨rfl, rfl, (Nat.le_of_ble_eq_true rfl), (Nat.le_of_ble_eq_true rfl), (by first | omega | (dsimp only; omega)), (by first | omega | (dsimp only; omega))⟩ h.2.2 hA (ct_recv B h.1 kJ12 0 rfl) ⟨(ct_Pl h.1), (ct_Dl (ct_D0 h hA))⟩ hl.1 (Nat.le_of_ble_eq_true rfl) dX10_word_237) h.2.2 (ct_subL h hAn) (ct_subL h hAn) (fun v H locs hv hz hk hS => ?_)
                obtain ⟨v_a, f_a, rfl, hP1, hD1, hf1, hfc, hf2⟩ := hv
                have h : Hs E A s.heap ([(sb, .inr (15, [.ref v_a, .int (nI 0), .int 0, .int (nI (k + 1))])), (v_a, .inl (E.2.1 0, capB k cap, .inl f_a))] ++ ([(r9, .inr (10, [.ref tr, .ref tx, .int (nI sz9), .int (nI (j + 1)), .int (nI 1), va_rf tq, .int (nI by9)])), (tx, .inl (E.2.1 0, 16000, .inl tray)), (tr, .inr (7, [.int p0]))])) H locs := ct_frL h hP1 hD1 hk hS hAn
                have h : Hs E A s.heap ([(sb, .inr (15, [.ref v_a, .int (nI 0), .int 0, .int (nI (k + 1))])), (v_a, .inl (E.2.1 0, capB k cap, .inl f_a)), (r9, .inr (10, [.ref tr, .ref tx, .int (nI sz9), .int (nI (j + 1)), .int (nI 1), va_rf tq, .int (nI by9)])), (tx, .inl (E.2.1 0, 16000, .inl tray)), (tr, .inr (7, [.int p0]))]) H locs := h
                clear hP1 hD1 hS hz hk
                refine W.eq (g2 := F0 m 240 ls [.ref sb]) rfl ?_
                refine lv_pop hx hb dX10_word_240 rfl ?_
                refine lv_aload_n hx hb dX10_word_241 rfl (lv_at hl 3 rfl) ?_
                refine lv_dup hx hb dX10_word_242 rfl ?_
                refine ct_get (v := .int (nI (j + 1))) B h.1 kX10 2 rfl 3 (Nat.le_of_ble_eq_true rfl) q1129 rfl dX10_word_243 ?_
                refine lv_iconst (v := nI 1) hx hb dX10_word_246 (by decide) ?_
                refine n_iadd hx hb dX10_word_247 ?_
                refine ct_put (ws' := [(sb, .inr (15, [.ref v_a, .int (nI 0), .int 0, .int (nI (k + 1))])), (v_a, .inl (E.2.1 0, capB k cap, .inl f_a)), (r9, .inr (10, [.ref tr, .ref tx, .int (nI sz9), .int (nI (j + 2)), .int (nI 1), va_rf tq, .int (nI by9)])), (tx, .inl (E.2.1 0, 16000, .inl tray)), (tr, .inr (7, [.int p0]))]) B h kX10 2 rfl 3 (Nat.le_of_ble_eq_true rfl) q1129 rfl rfl rfl (Nat.le_of_ble_eq_true rfl) rfl dX10_word_248 (fun H locs h => ?_)
                refine lv_goto (tgt := 256) hx hb dX10_word_251 (by decide) ?_
                refine lv_goto (tgt := 137) hx hb dX10_word_256 (by decide) ?_
                have h : Hs E A s.heap ([(r9, .inr (10, [.ref tr, .ref tx, .int (nI sz9), .int (nI (j + 2)), .int (nI 1), va_rf tq, .int (nI by9)])), (tx, .inl (E.2.1 0, 16000, .inl tray)), (tr, .inr (7, [.int p0])), (sb, .inr (15, [.ref v_a, .int (nI 0), .int 0, .int (nI (k + 1))])), (v_a, .inl (E.2.1 0, capB k cap, .inl f_a))]) H locs := ct_part0 h [2, 3, 4, 0, 1] rfl rfl
                refine W.widen (k := 1 + (capB k cap) / 16) (n := 4 + 2 * (capB k cap)) (by first | (have := hcb.2.2.2.1; dsimp only; omega) | omega | (dsimp only; omega)) (by first | (have := hcb.2.2.2.2; dsimp only; omega) | omega | (dsimp only; omega)) ?_
                exact ih_2 (1, (j + 2), (u ++ [34]), (k + 1), v_a, (capB k cap), f_a) H locs ls (by dsimp only; omega) ⟨lv_sub hl [1, 2, 3] rfl, h, ⟨by omega, by omega, by rw [List.length_append, List.length_singleton]; omega⟩, Or.inl ⟨rfl, by rw [hsc1, scanQ_qq cis.1 cis.2]⟩, by rw [List.length_append, List.length_singleton, ← hk], ⟨hcb.1, hcb.2.1, hcb.2.2.1⟩, hf2, sb_snoc hk hu hf1 hfc, rg_snoc hr ⟨by omega, by omega⟩⟩
            · refine lv_aload_n hx hb dX10_word_215 rfl (lv_at hl 2 rfl) ?_
              refine lv_iload_n hx hb dX10_word_216 rfl (lv_at hl 0 rfl) ?_
              refine lv_i2c (v := (nI (t.getD j 0))) hx hb dX10_word_217 (c_chr _ (by omega)) ?_
              have hcb := capB_f hkc.1 hkc.2.1 hkc.2.2
              have h : Hs E A s.heap ([(sb, .inr (15, [.ref va, .int (nI 0), .int 0, .int (nI k)])), (va, .inl (E.2.1 0, cap, .inl f)), (r9, .inr (10, [.ref tr, .ref tx, .int (nI sz9), .int (nI (j + 1)), .int (nI 1), va_rf tq, .int (nI by9)])), (tx, .inl (E.2.1 0, 16000, .inl tray)), (tr, .inr (7, [.int p0]))]) H locs := ct_part0 h [3, 4, 0, 1, 2] rfl rfl
              have h : Hs E A s.heap ([(sb, .inr (15, [.ref va, .int (nI 0), .int 0, .int (nI k)])), (va, .inl (E.2.1 0, cap, .inl f))] ++ ([(r9, .inr (10, [.ref tr, .ref tx, .int (nI sz9), .int (nI (j + 1)), .int (nI 1), va_rf tq, .int (nI by9)])), (tx, .inl (E.2.1 0, 16000, .inl tray)), (tr, .inr (7, [.int p0]))])) H locs := h
              refine ct_callQ (ct_runV (As := [.int (nI (t.getD j 0))]) (rest := []) B (met_J12_appendA l E sb va 0 k cap f (t.getD j 0) H.size ⟨hkc.1, by omega⟩ (by omega) hf) (lw_V q898 q899 q900 q68 q901) (n := 1) ⟨by decide, by decide, by decide +kernel⟩ rfl ⟨rfl, rfl, (Nat.le_of_ble_eq_true rfl), (Nat.le_of_ble_eq_true rfl), (by first | omega | (dsimp only; omega)), (by first | omega | (dsimp only; omega))⟩ h.2.2 hA (ct_recv B h.1 kJ12 0 rfl) ⟨(ct_Pl h.1), (ct_Dl (ct_D0 h hA))⟩ hl.1 (Nat.le_of_ble_eq_true rfl) dX10_word_218) h.2.2 (ct_subL h hAn) (ct_subL h hAn) (fun v H locs hv hz hk hS => ?_)
              obtain ⟨v_a, f_a, rfl, hP1, hD1, hf1, hfc, hf2⟩ := hv
              have h : Hs E A s.heap ([(sb, .inr (15, [.ref v_a, .int (nI 0), .int 0, .int (nI (k + 1))])), (v_a, .inl (E.2.1 0, capB k cap, .inl f_a))] ++ ([(r9, .inr (10, [.ref tr, .ref tx, .int (nI sz9), .int (nI (j + 1)), .int (nI 1), va_rf tq, .int (nI by9)])), (tx, .inl (E.2.1 0, 16000, .inl tray)), (tr, .inr (7, [.int p0]))])) H locs := ct_frL h hP1 hD1 hk hS hAn
              have h : Hs E A s.heap ([(sb, .inr (15, [.ref v_a, .int (nI 0), .int 0, .int (nI (k + 1))])), (v_a, .inl (E.2.1 0, capB k cap, .inl f_a)), (r9, .inr (10, [.ref tr, .ref tx, .int (nI sz9), .int (nI (j + 1)), .int (nI 1), va_rf tq, .int (nI by9)])), (tx, .inl (E.2.1 0, 16000, .inl tray)), (tr, .inr (7, [.int p0]))]) H locs := h
              clear hP1 hD1 hS hz hk
              refine W.eq (g2 := F0 m 221 ls [.ref sb]) rfl ?_
              refine lv_pop hx hb dX10_word_221 rfl ?_
              refine lv_goto (tgt := 256) hx hb dX10_word_222 (by decide) ?_
              refine lv_goto (tgt := 137) hx hb dX10_word_256 (by decide) ?_
              have h : Hs E A s.heap ([(r9, .inr (10, [.ref tr, .ref tx, .int (nI sz9), .int (nI (j + 1)), .int (nI 1), va_rf tq, .int (nI by9)])), (tx, .inl (E.2.1 0, 16000, .inl tray)), (tr, .inr (7, [.int p0])), (sb, .inr (15, [.ref v_a, .int (nI 0), .int 0, .int (nI (k + 1))])), (v_a, .inl (E.2.1 0, capB k cap, .inl f_a))]) H locs := ct_part0 h [2, 3, 4, 0, 1] rfl rfl
              refine W.widen (k := 1 + (capB k cap) / 16) (n := 4 + 2 * (capB k cap)) (by first | (have := hcb.2.2.2.1; dsimp only; omega) | omega | (dsimp only; omega)) (by first | (have := hcb.2.2.2.2; dsimp only; omega) | omega | (dsimp only; omega)) ?_
              exact ih_2 (1, (j + 1), (u ++ [t.getD j 0]), (k + 1), v_a, (capB k cap), f_a) H locs ls (by dsimp only; omega) ⟨lv_sub hl [1, 2, 3] rfl, h, ⟨by omega, by omega, by rw [List.length_append, List.length_singleton]; omega⟩, Or.inl ⟨rfl, by rw [hsc0, scanQ_c (by omega) hnb c34]⟩, by rw [List.length_append, List.length_singleton, ← hk], ⟨hcb.1, hcb.2.1, hcb.2.2.1⟩, hf2, sb_snoc hk hu hf1 hfc, rg_snoc hr ⟨by omega, by omega⟩⟩
          · have hwd : wordAt t i = .inl j := word_qe hq (by rw [hsc0]; exact scanQ_bad (by omega) (by have := (tb_gt htx (show j < sz9 by omega)).mp (Int32.not_le.mp cc); omega))
            have hwl := wL_e hwd
            refine lv_aload_n hx hb dX10_word_180 rfl (lv_at hl 2 rfl) ?_
            refine lv_aload_n hx hb dX10_word_181 rfl (lv_at hl 2 rfl) ?_
            refine ct_get (v := .int (nI j)) B h.1 kX10 0 rfl 3 (Nat.le_of_ble_eq_true rfl) q1129 rfl dX10_word_182 ?_
            have h : Hs E A s.heap ([(r9, .inr (10, [.ref tr, .ref tx, .int (nI sz9), .int (nI j), .int (nI 1), va_rf tq, .int (nI by9)])), (tr, .inr (7, [.int p0])), (tx, .inl (E.2.1 0, 16000, .inl tray)), (sb, .inr (15, [.ref va, .int (nI 0), .int 0, .int (nI k)])), (va, .inl (E.2.1 0, cap, .inl f))]) H locs := ct_part0 h [0, 2, 1, 3, 4] rfl rfl
            have h : Hs E A s.heap ([(r9, .inr (10, [.ref tr, .ref tx, .int (nI sz9), .int (nI j), .int (nI 1), va_rf tq, .int (nI by9)])), (tr, .inr (7, [.int p0]))] ++ ([(tx, .inl (E.2.1 0, 16000, .inl tray)), (sb, .inr (15, [.ref va, .int (nI 0), .int 0, .int (nI k)])), (va, .inl (E.2.1 0, cap, .inl f))])) H locs := h
            refine ct_callQ (ct_runV (As := [.int (nI j)]) (rest := []) B (met_X10_wrong l E r9 tr tx sz9 j 1 by9 tq p0 (nI j) H.size htr) (lw_V q850 q852 qs29 q62 q853) (n := 1) ⟨by decide, by decide, by decide +kernel⟩ rfl ⟨rfl, rfl, (Nat.le_of_ble_eq_true rfl), (Nat.le_of_ble_eq_true rfl), (by first | omega | (dsimp only; omega)), (by first | omega | (dsimp only; omega))⟩ h.2.2 hA (ct_recv B h.1 kX10 0 rfl) ⟨(ct_Pl h.1), (ct_Dl (ct_D0 h hA))⟩ hl.1 (Nat.le_of_ble_eq_true rfl) dX10_word_185) h.2.2 (ct_subL h hAn) (ct_subL h hAn) (fun v H locs hv hz hk hS => ?_)
            obtain ⟨x_1, rfl, hP1, hD1, hex_⟩ := hv
            have h : Hs E A s.heap ([(r9, .inr (10, [.ref tr, .ref tx, .int (nI sz9), .int (nI j), .int (nI 1), va_rf tq, .int (nI by9)])), (tr, .inr (7, [.int (nI j)]))] ++ ([(tx, .inl (E.2.1 0, 16000, .inl tray)), (sb, .inr (15, [.ref va, .int (nI 0), .int 0, .int (nI k)])), (va, .inl (E.2.1 0, cap, .inl f))])) H locs := ct_frL h hP1 hD1 hk hS hAn
            have h : Hs E A s.heap ([(r9, .inr (10, [.ref tr, .ref tx, .int (nI sz9), .int (nI j), .int (nI 1), va_rf tq, .int (nI by9)])), (tr, .inr (7, [.int (nI j)])), (tx, .inl (E.2.1 0, 16000, .inl tray)), (sb, .inr (15, [.ref va, .int (nI 0), .int 0, .int (nI k)])), (va, .inl (E.2.1 0, cap, .inl f))]) H locs := h
            clear hP1 hD1 hS hz hk
            refine W.eq (g2 := F0 m 188 ls [.ref x_1]) rfl ?_
            refine W.widen (k := 4 + wL t i) (n := 60 + 5 * wL t i) (by first | omega | (dsimp only; omega)) (by first | omega | (dsimp only; omega)) ?_
            exact ct_athrow B hno h.2.2 ⟨j, hex_, h.1.sub [2, 1] rfl, hwd⟩ dX10_word_188
  · refine W.eq (g2 := F0 m 15 ls [.int (nI 0), .ref r9]) (by rw [if_neg hq] <;> rfl) ?_
    refine ct_put (ws' := [(sb, .inr (15, [.ref va0, .int (nI 0), .int 0, .int (nI 0)])), (va0, .inl (E.2.1 0, 16, .inl (fun _ => 0))), (r9, .inr (10, [.ref tr, .ref tx, .int (nI sz9), .int (nI i), .int (nI 0), va_rf tq, .int (nI by9)])), (tx, .inl (E.2.1 0, 16000, .inl tray)), (tr, .inr (7, [.int p0]))]) B h kX10 2 rfl 4 (Nat.le_of_ble_eq_true rfl) q1130 rfl rfl rfl (Nat.le_of_ble_eq_true rfl) rfl dX10_word_15 (fun H locs h => ?_)
    refine lv_aload_n hx hb dX10_word_18 rfl (lv_at hl 1 rfl) ?_
    refine ct_get (v := .int (nI 0)) B h.1 kX10 2 rfl 4 (Nat.le_of_ble_eq_true rfl) q1130 rfl dX10_word_19 ?_
    refine n_if_ne (tgt := 125) hx hb dX10_word_22 (by decide) (by omega) (fun c_3 => absurd c_3 (by omega)) (fun c_3 => ?_)
    have h : Hs E A s.heap ([(r9, .inr (10, [.ref tr, .ref tx, .int (nI sz9), .int (nI i), .int (nI 0), va_rf tq, .int (nI by9)])), (tx, .inl (E.2.1 0, 16000, .inl tray)), (tr, .inr (7, [.int p0])), (sb, .inr (15, [.ref va0, .int (nI 0), .int 0, .int (nI 0)])), (va0, .inl (E.2.1 0, 16, .inl (fun _ => 0)))]) H locs := ct_part0 h [2, 3, 4, 0, 1] rfl rfl
    refine W.widen (k := 1 + 16 / 16) (n := 4 + 2 * 16) (by first | (have := hcb.2.2.2.1; dsimp only; omega) | omega | (dsimp only; omega)) (by first | (have := hcb.2.2.2.2; dsimp only; omega) | omega | (dsimp only; omega)) ?_
    refine ct_loopH (σ := Nat × List Nat × Nat × Nat × Nat × (Nat → Int32)) (fun (j, u, k, va, cap, f) H locs ls => lv_has ls 4 [(1, .ref sb), (0, .ref r9)] ∧ Hs E A s.heap ([(r9, .inr (10, [.ref tr, .ref tx, .int (nI sz9), .int (nI j), .int (nI 0), va_rf tq, .int (nI by9)])), (tx, .inl (E.2.1 0, 16000, .inl tray)), (tr, .inr (7, [.int p0])), (sb, .inr (15, [.ref va, .int (nI 0), .int 0, .int (nI k)])), (va, .inl (E.2.1 0, cap, .inl f))]) H locs ∧ (i ≤ j ∧ j ≤ sz9) ∧ (j = i + u.length) ∧ (plain t i = u ++ plain t j) ∧ (k = u.length) ∧ (k ≤ cap ∧ cap ≤ 2 * k + 16 ∧ 16 ≤ cap) ∧ (∀ x, x < cap → fits .byte (.int (f x)) = true) ∧ (∀ x, x < u.length → f x = nI (u.getD x 0)) ∧ (∀ x ∈ u, 32 ≤ x ∧ x ≤ 126)) (fun (j, u, k, va, cap, f) => sz9 - j) (fun (j, u, k, va, cap, f) => 1 + cap / 16) (fun (j, u, k, va, cap, f) => 4 + 2 * cap) (g := fun (j, u, k, va, cap, f) ls => F0 m 25 ls []) (x0 := (i, [], 0, va0, 16, (fun _ => 0))) (ls0 := ls) ?_ ⟨lv_sub hl [0, 1] rfl, h, ⟨by omega, by omega⟩, rfl, rfl, rfl, ⟨by omega, by omega, by omega⟩, fun x hx => rfl, fun x hx => absurd hx (Nat.not_lt_zero x), fun x hx => absurd hx List.not_mem_nil⟩
    clear hl h
    intro x9 H locs ls hI ih_4
    obtain ⟨j, u, k, va, cap, f⟩ := x9
    obtain ⟨hl, h, hj, hju, hpl, hk, hkc, hf, hu, hr⟩ := hI
    refine W.eq (g2 := F0 m 25 ls []) rfl ?_
    have hwl0 := wL_u hq hpl
    refine lv_aload_n hx hb dX10_word_25 rfl (lv_at hl 1 rfl) ?_
    refine ct_get (v := .int (nI j)) B h.1 kX10 0 rfl 3 (Nat.le_of_ble_eq_true rfl) q1129 rfl dX10_word_26 ?_
    refine lv_aload_n hx hb dX10_word_29 rfl (lv_at hl 1 rfl) ?_
    refine ct_get (v := .int (nI sz9)) B h.1 kX10 0 rfl 2 (Nat.le_of_ble_eq_true rfl) q1128 rfl dX10_word_30 ?_
    refine n_icmp_ge (tgt := 120) hx hb dX10_word_33 (by decide) (by omega) (by omega) (fun ca => ?_) (fun ca => ?_)
    · have hnj : ¬ (j < t.length ∧ okU (t.getD j 0)) := fun z9 => by have := z9.1; omega
      have hwd := word_u hq hpl hnj hju
      refine lv_aload_n hx hb dX10_word_120 rfl (lv_at hl 0 rfl) ?_
      have h : Hs E A s.heap ([(sb, .inr (15, [.ref va, .int (nI 0), .int 0, .int (nI k)])), (va, .inl (E.2.1 0, cap, .inl f)), (r9, .inr (10, [.ref tr, .ref tx, .int (nI sz9), .int (nI j), .int (nI 0), va_rf tq, .int (nI by9)])), (tx, .inl (E.2.1 0, 16000, .inl tray)), (tr, .inr (7, [.int p0]))]) H locs := ct_part0 h [3, 4, 0, 1, 2] rfl rfl
      have h : Hs E A s.heap ([(sb, .inr (15, [.ref va, .int (nI 0), .int 0, .int (nI k)])), (va, .inl (E.2.1 0, cap, .inl f))] ++ ([(r9, .inr (10, [.ref tr, .ref tx, .int (nI sz9), .int (nI j), .int (nI 0), va_rf tq, .int (nI by9)])), (tx, .inl (E.2.1 0, 16000, .inl tray)), (tr, .inr (7, [.int p0]))])) H locs := h
      refine ct_callQ (ct_runV (As := []) (rest := []) B (met_J12_toString l E sb va 0 k cap f H.size ⟨hkc.1, by omega⟩ (by omega) hf) (lw_V q971 q972 q973 q68 q974) (n := 0) ⟨by decide, by decide, by decide +kernel⟩ rfl ⟨rfl, rfl, (Nat.le_of_ble_eq_true rfl), (Nat.le_of_ble_eq_true rfl), (by first | omega | (dsimp only; omega)), (by first | omega | (dsimp only; omega))⟩ h.2.2 hA (ct_recv B h.1 kJ12 0 rfl) ⟨(ct_Pl h.1), (ct_Dl (ct_D0 h hA))⟩ hl.1 (Nat.le_of_ble_eq_true rfl) dX10_word_121) h.2.2 (ct_subL h hAn) (ct_subL h hAn) (fun v H locs hv hz hk hS => ?_)
      obtain ⟨s_1, q_1, g_1, rfl, hP1, hD1, hg2⟩ := hv
      have h : Hs E A s.heap ([(s_1, .inr (13, [.ref q_1, .int (nI 0), .int 0, .int 0])), (sb, .inr (15, [.ref va, .int (nI 0), .int 0, .int (nI k)])), (va, .inl (E.2.1 0, cap, .inl f)), (q_1, .inl (E.2.1 0, k, .inl g_1))] ++ ([(r9, .inr (10, [.ref tr, .ref tx, .int (nI sz9), .int (nI j), .int (nI 0), va_rf tq, .int (nI by9)])), (tx, .inl (E.2.1 0, 16000, .inl tray)), (tr, .inr (7, [.int p0]))])) H locs := ct_frL h hP1 hD1 hk hS hAn
      have h : Hs E A s.heap ([(s_1, .inr (13, [.ref q_1, .int (nI 0), .int 0, .int 0])), (sb, .inr (15, [.ref va, .int (nI 0), .int 0, .int (nI k)])), (va, .inl (E.2.1 0, cap, .inl f)), (q_1, .inl (E.2.1 0, k, .inl g_1)), (r9, .inr (10, [.ref tr, .ref tx, .int (nI sz9), .int (nI j), .int (nI 0), va_rf tq, .int (nI by9)])), (tx, .inl (E.2.1 0, 16000, .inl tray)), (tr, .inr (7, [.int p0]))]) H locs := h
      clear hP1 hD1 hS hz hk
      refine W.eq (g2 := F0 m 124 ls [.ref s_1]) rfl ?_
      have hwl := wL_i hwd
      subst hk
      have h : Hs E A s.heap ([(r9, .inr (10, [.ref tr, .ref tx, .int (nI sz9), .int (nI j), .int (nI (if (u, false).2 = true then 1 else 0)), va_rf tq, .int (nI by9)])), (tx, .inl (E.2.1 0, 16000, .inl tray)), (tr, .inr (7, [.int p0])), (s_1, .inr (13, [.ref q_1, .int (nI 0), .int 0, .int 0])), (q_1, .inl (E.2.1 0, (u, false).1.length, .inl g_1))]) H locs := ct_part0 h [4, 5, 6, 0, 3] rfl rfl
      refine W.widen (k := 4 + wL t i) (n := 60 + 5 * wL t i) (by first | omega | (dsimp only; omega)) (by first | omega | (dsimp only; omega)) ?_
      exact ct_toX (ct_aretQ (r := some (s_1)) B rfl (Or.inl ⟨_, rfl⟩) h.2.2 ⟨s_1, q_1, g_1, (u, false), j, rfl, h.1, h.2.1, hwd, fun x hx => by rw [hg2 x hx]; exact hu x hx, ⟨by omega, by omega, by show u.length ≤ _; omega⟩, fun x hx => by have := hr x hx; omega⟩ dX10_word_124)
    · refine lv_aload_n hx hb dX10_word_36 rfl (lv_at hl 1 rfl) ?_
      refine ct_get (v := .ref tx) B h.1 kX10 0 rfl 1 (Nat.le_of_ble_eq_true rfl) q1127 rfl dX10_word_37 ?_
      refine lv_aload_n hx hb dX10_word_40 rfl (lv_at hl 1 rfl) ?_
      refine ct_get (v := .int (nI j)) B h.1 kX10 0 rfl 3 (Nat.le_of_ble_eq_true rfl) q1129 rfl dX10_word_41 ?_
      refine ct_bald (f := tray) B h.1 1 rfl (by omega) (by omega) dX10_word_44 ?_
      refine lv_bipush (v := nI 32) hx hb dX10_word_45 (by decide) ?_
      refine lv_icmp_lt (tgt := 120) hx hb dX10_word_47 (by decide) (fun cb => ?_) (fun cb => ?_)
      · have hnj : ¬ (j < t.length ∧ okU (t.getD j 0)) := fun z9 => by obtain ⟨y0, y1, y2, y3, y4⟩ := z9; have := (tb_lt htx (show j < sz9 by omega)).mp cb; omega
        have hwd := word_u hq hpl hnj hju
        refine lv_aload_n hx hb dX10_word_120 rfl (lv_at hl 0 rfl) ?_
        have h : Hs E A s.heap ([(sb, .inr (15, [.ref va, .int (nI 0), .int 0, .int (nI k)])), (va, .inl (E.2.1 0, cap, .inl f)), (r9, .inr (10, [.ref tr, .ref tx, .int (nI sz9), .int (nI j), .int (nI 0), va_rf tq, .int (nI by9)])), (tx, .inl (E.2.1 0, 16000, .inl tray)), (tr, .inr (7, [.int p0]))]) H locs := ct_part0 h [3, 4, 0, 1, 2] rfl rfl
        have h : Hs E A s.heap ([(sb, .inr (15, [.ref va, .int (nI 0), .int 0, .int (nI k)])), (va, .inl (E.2.1 0, cap, .inl f))] ++ ([(r9, .inr (10, [.ref tr, .ref tx, .int (nI sz9), .int (nI j), .int (nI 0), va_rf tq, .int (nI by9)])), (tx, .inl (E.2.1 0, 16000, .inl tray)), (tr, .inr (7, [.int p0]))])) H locs := h
        refine ct_callQ (ct_runV (As := []) (rest := []) B (met_J12_toString l E sb va 0 k cap f H.size ⟨hkc.1, by omega⟩ (by omega) hf) (lw_V q971 q972 q973 q68 q974) (n := 0) ⟨by decide, by decide, by decide +kernel⟩ rfl ⟨rfl, rfl, (Nat.le_of_ble_eq_true rfl), (Nat.le_of_ble_eq_true rfl), (by first | omega | (dsimp only; omega)), (by first | omega | (dsimp only; omega))⟩ h.2.2 hA (ct_recv B h.1 kJ12 0 rfl) ⟨(ct_Pl h.1), (ct_Dl (ct_D0 h hA))⟩ hl.1 (Nat.le_of_ble_eq_true rfl) dX10_word_121) h.2.2 (ct_subL h hAn) (ct_subL h hAn) (fun v H locs hv hz hk hS => ?_)
        obtain ⟨s_1, q_1, g_1, rfl, hP1, hD1, hg2⟩ := hv
        have h : Hs E A s.heap ([(s_1, .inr (13, [.ref q_1, .int (nI 0), .int 0, .int 0])), (sb, .inr (15, [.ref va, .int (nI 0), .int 0, .int (nI k)])), (va, .inl (E.2.1 0, cap, .inl f)), (q_1, .inl (E.2.1 0, k, .inl g_1))] ++ ([(r9, .inr (10, [.ref tr, .ref tx, .int (nI sz9), .int (nI j), .int (nI 0), va_rf tq, .int (nI by9)])), (tx, .inl (E.2.1 0, 16000, .inl tray)), (tr, .inr (7, [.int p0]))])) H locs := ct_frL h hP1 hD1 hk hS hAn
        have h : Hs E A s.heap ([(s_1, .inr (13, [.ref q_1, .int (nI 0), .int 0, .int 0])), (sb, .inr (15, [.ref va, .int (nI 0), .int 0, .int (nI k)])), (va, .inl (E.2.1 0, cap, .inl f)), (q_1, .inl (E.2.1 0, k, .inl g_1)), (r9, .inr (10, [.ref tr, .ref tx, .int (nI sz9), .int (nI j), .int (nI 0), va_rf tq, .int (nI by9)])), (tx, .inl (E.2.1 0, 16000, .inl tray)), (tr, .inr (7, [.int p0]))]) H locs := h
        clear hP1 hD1 hS hz hk
        refine W.eq (g2 := F0 m 124 ls [.ref s_1]) rfl ?_
        have hwl := wL_i hwd
        subst hk
        have h : Hs E A s.heap ([(r9, .inr (10, [.ref tr, .ref tx, .int (nI sz9), .int (nI j), .int (nI (if (u, false).2 = true then 1 else 0)), va_rf tq, .int (nI by9)])), (tx, .inl (E.2.1 0, 16000, .inl tray)), (tr, .inr (7, [.int p0])), (s_1, .inr (13, [.ref q_1, .int (nI 0), .int 0, .int 0])), (q_1, .inl (E.2.1 0, (u, false).1.length, .inl g_1))]) H locs := ct_part0 h [4, 5, 6, 0, 3] rfl rfl
        refine W.widen (k := 4 + wL t i) (n := 60 + 5 * wL t i) (by first | omega | (dsimp only; omega)) (by first | omega | (dsimp only; omega)) ?_
        exact ct_toX (ct_aretQ (r := some (s_1)) B rfl (Or.inl ⟨_, rfl⟩) h.2.2 ⟨s_1, q_1, g_1, (u, false), j, rfl, h.1, h.2.1, hwd, fun x hx => by rw [hg2 x hx]; exact hu x hx, ⟨by omega, by omega, by show u.length ≤ _; omega⟩, fun x hx => by have := hr x hx; omega⟩ dX10_word_124)
      · refine lv_aload_n hx hb dX10_word_50 rfl (lv_at hl 1 rfl) ?_
        refine ct_get (v := .ref tx) B h.1 kX10 0 rfl 1 (Nat.le_of_ble_eq_true rfl) q1127 rfl dX10_word_51 ?_
        refine lv_aload_n hx hb dX10_word_54 rfl (lv_at hl 1 rfl) ?_
        refine ct_get (v := .int (nI j)) B h.1 kX10 0 rfl 3 (Nat.le_of_ble_eq_true rfl) q1129 rfl dX10_word_55 ?_
        refine ct_bald (f := tray) B h.1 1 rfl (by omega) (by omega) dX10_word_58 ?_
        refine lv_bipush (v := nI 126) hx hb dX10_word_59 (by decide) ?_
        refine lv_icmp_gt (tgt := 120) hx hb dX10_word_61 (by decide) (fun cc => ?_) (fun cc => ?_)
        · have hnj : ¬ (j < t.length ∧ okU (t.getD j 0)) := fun z9 => by obtain ⟨y0, y1, y2, y3, y4⟩ := z9; have := (tb_gt htx (show j < sz9 by omega)).mp cc; omega
          have hwd := word_u hq hpl hnj hju
          refine lv_aload_n hx hb dX10_word_120 rfl (lv_at hl 0 rfl) ?_
          have h : Hs E A s.heap ([(sb, .inr (15, [.ref va, .int (nI 0), .int 0, .int (nI k)])), (va, .inl (E.2.1 0, cap, .inl f)), (r9, .inr (10, [.ref tr, .ref tx, .int (nI sz9), .int (nI j), .int (nI 0), va_rf tq, .int (nI by9)])), (tx, .inl (E.2.1 0, 16000, .inl tray)), (tr, .inr (7, [.int p0]))]) H locs := ct_part0 h [3, 4, 0, 1, 2] rfl rfl
          have h : Hs E A s.heap ([(sb, .inr (15, [.ref va, .int (nI 0), .int 0, .int (nI k)])), (va, .inl (E.2.1 0, cap, .inl f))] ++ ([(r9, .inr (10, [.ref tr, .ref tx, .int (nI sz9), .int (nI j), .int (nI 0), va_rf tq, .int (nI by9)])), (tx, .inl (E.2.1 0, 16000, .inl tray)), (tr, .inr (7, [.int p0]))])) H locs := h
          refine ct_callQ (ct_runV (As := []) (rest := []) B (met_J12_toString l E sb va 0 k cap f H.size ⟨hkc.1, by omega⟩ (by omega) hf) (lw_V q971 q972 q973 q68 q974) (n := 0) ⟨by decide, by decide, by decide +kernel⟩ rfl ⟨rfl, rfl, (Nat.le_of_ble_eq_true rfl), (Nat.le_of_ble_eq_true rfl), (by first | omega | (dsimp only; omega)), (by first | omega | (dsimp only; omega))⟩ h.2.2 hA (ct_recv B h.1 kJ12 0 rfl) ⟨(ct_Pl h.1), (ct_Dl (ct_D0 h hA))⟩ hl.1 (Nat.le_of_ble_eq_true rfl) dX10_word_121) h.2.2 (ct_subL h hAn) (ct_subL h hAn) (fun v H locs hv hz hk hS => ?_)
          obtain ⟨s_1, q_1, g_1, rfl, hP1, hD1, hg2⟩ := hv
          have h : Hs E A s.heap ([(s_1, .inr (13, [.ref q_1, .int (nI 0), .int 0, .int 0])), (sb, .inr (15, [.ref va, .int (nI 0), .int 0, .int (nI k)])), (va, .inl (E.2.1 0, cap, .inl f)), (q_1, .inl (E.2.1 0, k, .inl g_1))] ++ ([(r9, .inr (10, [.ref tr, .ref tx, .int (nI sz9), .int (nI j), .int (nI 0), va_rf tq, .int (nI by9)])), (tx, .inl (E.2.1 0, 16000, .inl tray)), (tr, .inr (7, [.int p0]))])) H locs := ct_frL h hP1 hD1 hk hS hAn
          have h : Hs E A s.heap ([(s_1, .inr (13, [.ref q_1, .int (nI 0), .int 0, .int 0])), (sb, .inr (15, [.ref va, .int (nI 0), .int 0, .int (nI k)])), (va, .inl (E.2.1 0, cap, .inl f)), (q_1, .inl (E.2.1 0, k, .inl g_1)), (r9, .inr (10, [.ref tr, .ref tx, .int (nI sz9), .int (nI j), .int (nI 0), va_rf tq, .int (nI by9)])), (tx, .inl (E.2.1 0, 16000, .inl tray)), (tr, .inr (7, [.int p0]))]) H locs := h
          clear hP1 hD1 hS hz hk
          refine W.eq (g2 := F0 m 124 ls [.ref s_1]) rfl ?_
          have hwl := wL_i hwd
          subst hk
          have h : Hs E A s.heap ([(r9, .inr (10, [.ref tr, .ref tx, .int (nI sz9), .int (nI j), .int (nI (if (u, false).2 = true then 1 else 0)), va_rf tq, .int (nI by9)])), (tx, .inl (E.2.1 0, 16000, .inl tray)), (tr, .inr (7, [.int p0])), (s_1, .inr (13, [.ref q_1, .int (nI 0), .int 0, .int 0])), (q_1, .inl (E.2.1 0, (u, false).1.length, .inl g_1))]) H locs := ct_part0 h [4, 5, 6, 0, 3] rfl rfl
          refine W.widen (k := 4 + wL t i) (n := 60 + 5 * wL t i) (by first | omega | (dsimp only; omega)) (by first | omega | (dsimp only; omega)) ?_
          exact ct_toX (ct_aretQ (r := some (s_1)) B rfl (Or.inl ⟨_, rfl⟩) h.2.2 ⟨s_1, q_1, g_1, (u, false), j, rfl, h.1, h.2.1, hwd, fun x hx => by rw [hg2 x hx]; exact hu x hx, ⟨by omega, by omega, by show u.length ≤ _; omega⟩, fun x hx => by have := hr x hx; omega⟩ dX10_word_124)
        · refine lv_aload_n hx hb dX10_word_64 rfl (lv_at hl 1 rfl) ?_
          refine ct_get (v := .ref tx) B h.1 kX10 0 rfl 1 (Nat.le_of_ble_eq_true rfl) q1127 rfl dX10_word_65 ?_
          refine lv_aload_n hx hb dX10_word_68 rfl (lv_at hl 1 rfl) ?_
          refine ct_get (v := .int (nI j)) B h.1 kX10 0 rfl 3 (Nat.le_of_ble_eq_true rfl) q1129 rfl dX10_word_69 ?_
          refine ct_bald (f := tray) B h.1 1 rfl (by omega) (by omega) dX10_word_72 ?_
          refine lv_bipush (v := nI 34) hx hb dX10_word_73 (by decide) ?_
          refine lv_icmp_eq (tgt := 120) hx hb dX10_word_75 (by decide) (fun cd => ?_) (fun cd => ?_)
          · have hnj : ¬ (j < t.length ∧ okU (t.getD j 0)) := fun z9 => by obtain ⟨y0, y1, y2, y3, y4⟩ := z9; have := (tb_eq htx (show j < sz9 by omega) (show 34 < 128 by omega)).mp cd; omega
            have hwd := word_u hq hpl hnj hju
            refine lv_aload_n hx hb dX10_word_120 rfl (lv_at hl 0 rfl) ?_
            have h : Hs E A s.heap ([(sb, .inr (15, [.ref va, .int (nI 0), .int 0, .int (nI k)])), (va, .inl (E.2.1 0, cap, .inl f)), (r9, .inr (10, [.ref tr, .ref tx, .int (nI sz9), .int (nI j), .int (nI 0), va_rf tq, .int (nI by9)])), (tx, .inl (E.2.1 0, 16000, .inl tray)), (tr, .inr (7, [.int p0]))]) H locs := ct_part0 h [3, 4, 0, 1, 2] rfl rfl
            have h : Hs E A s.heap ([(sb, .inr (15, [.ref va, .int (nI 0), .int 0, .int (nI k)])), (va, .inl (E.2.1 0, cap, .inl f))] ++ ([(r9, .inr (10, [.ref tr, .ref tx, .int (nI sz9), .int (nI j), .int (nI 0), va_rf tq, .int (nI by9)])), (tx, .inl (E.2.1 0, 16000, .inl tray)), (tr, .inr (7, [.int p0]))])) H locs := h
            refine ct_callQ (ct_runV (As := []) (rest := []) B (met_J12_toString l E sb va 0 k cap f H.size ⟨hkc.1, by omega⟩ (by omega) hf) (lw_V q971 q972 q973 q68 q974) (n := 0) ⟨by decide, by decide, by decide +kernel⟩ rfl ⟨rfl, rfl, (Nat.le_of_ble_eq_true rfl), (Nat.le_of_ble_eq_true rfl), (by first | omega | (dsimp only; omega)), (by first | omega | (dsimp only; omega))⟩ h.2.2 hA (ct_recv B h.1 kJ12 0 rfl) ⟨(ct_Pl h.1), (ct_Dl (ct_D0 h hA))⟩ hl.1 (Nat.le_of_ble_eq_true rfl) dX10_word_121) h.2.2 (ct_subL h hAn) (ct_subL h hAn) (fun v H locs hv hz hk hS => ?_)
            obtain ⟨s_1, q_1, g_1, rfl, hP1, hD1, hg2⟩ := hv
            have h : Hs E A s.heap ([(s_1, .inr (13, [.ref q_1, .int (nI 0), .int 0, .int 0])), (sb, .inr (15, [.ref va, .int (nI 0), .int 0, .int (nI k)])), (va, .inl (E.2.1 0, cap, .inl f)), (q_1, .inl (E.2.1 0, k, .inl g_1))] ++ ([(r9, .inr (10, [.ref tr, .ref tx, .int (nI sz9), .int (nI j), .int (nI 0), va_rf tq, .int (nI by9)])), (tx, .inl (E.2.1 0, 16000, .inl tray)), (tr, .inr (7, [.int p0]))])) H locs := ct_frL h hP1 hD1 hk hS hAn
            have h : Hs E A s.heap ([(s_1, .inr (13, [.ref q_1, .int (nI 0), .int 0, .int 0])), (sb, .inr (15, [.ref va, .int (nI 0), .int 0, .int (nI k)])), (va, .inl (E.2.1 0, cap, .inl f)), (q_1, .inl (E.2.1 0, k, .inl g_1)), (r9, .inr (10, [.ref tr, .ref tx, .int (nI sz9), .int (nI j), .int (nI 0), va_rf tq, .int (nI by9)])), (tx, .inl (E.2.1 0, 16000, .inl tray)), (tr, .inr (7, [.int p0]))]) H locs := h
            clear hP1 hD1 hS hz hk
            refine W.eq (g2 := F0 m 124 ls [.ref s_1]) rfl ?_
            have hwl := wL_i hwd
            subst hk
            have h : Hs E A s.heap ([(r9, .inr (10, [.ref tr, .ref tx, .int (nI sz9), .int (nI j), .int (nI (if (u, false).2 = true then 1 else 0)), va_rf tq, .int (nI by9)])), (tx, .inl (E.2.1 0, 16000, .inl tray)), (tr, .inr (7, [.int p0])), (s_1, .inr (13, [.ref q_1, .int (nI 0), .int 0, .int 0])), (q_1, .inl (E.2.1 0, (u, false).1.length, .inl g_1))]) H locs := ct_part0 h [4, 5, 6, 0, 3] rfl rfl
            refine W.widen (k := 4 + wL t i) (n := 60 + 5 * wL t i) (by first | omega | (dsimp only; omega)) (by first | omega | (dsimp only; omega)) ?_
            exact ct_toX (ct_aretQ (r := some (s_1)) B rfl (Or.inl ⟨_, rfl⟩) h.2.2 ⟨s_1, q_1, g_1, (u, false), j, rfl, h.1, h.2.1, hwd, fun x hx => by rw [hg2 x hx]; exact hu x hx, ⟨by omega, by omega, by show u.length ≤ _; omega⟩, fun x hx => by have := hr x hx; omega⟩ dX10_word_124)
          · refine lv_aload_n hx hb dX10_word_78 rfl (lv_at hl 1 rfl) ?_
            refine ct_get (v := .ref tx) B h.1 kX10 0 rfl 1 (Nat.le_of_ble_eq_true rfl) q1127 rfl dX10_word_79 ?_
            refine lv_aload_n hx hb dX10_word_82 rfl (lv_at hl 1 rfl) ?_
            refine ct_get (v := .int (nI j)) B h.1 kX10 0 rfl 3 (Nat.le_of_ble_eq_true rfl) q1129 rfl dX10_word_83 ?_
            refine ct_bald (f := tray) B h.1 1 rfl (by omega) (by omega) dX10_word_86 ?_
            refine lv_bipush (v := nI 44) hx hb dX10_word_87 (by decide) ?_
            refine lv_icmp_eq (tgt := 120) hx hb dX10_word_89 (by decide) (fun ce => ?_) (fun ce => ?_)
            · have hnj : ¬ (j < t.length ∧ okU (t.getD j 0)) := fun z9 => by obtain ⟨y0, y1, y2, y3, y4⟩ := z9; have := (tb_eq htx (show j < sz9 by omega) (show 44 < 128 by omega)).mp ce; omega
              have hwd := word_u hq hpl hnj hju
              refine lv_aload_n hx hb dX10_word_120 rfl (lv_at hl 0 rfl) ?_
              have h : Hs E A s.heap ([(sb, .inr (15, [.ref va, .int (nI 0), .int 0, .int (nI k)])), (va, .inl (E.2.1 0, cap, .inl f)), (r9, .inr (10, [.ref tr, .ref tx, .int (nI sz9), .int (nI j), .int (nI 0), va_rf tq, .int (nI by9)])), (tx, .inl (E.2.1 0, 16000, .inl tray)), (tr, .inr (7, [.int p0]))]) H locs := ct_part0 h [3, 4, 0, 1, 2] rfl rfl
              have h : Hs E A s.heap ([(sb, .inr (15, [.ref va, .int (nI 0), .int 0, .int (nI k)])), (va, .inl (E.2.1 0, cap, .inl f))] ++ ([(r9, .inr (10, [.ref tr, .ref tx, .int (nI sz9), .int (nI j), .int (nI 0), va_rf tq, .int (nI by9)])), (tx, .inl (E.2.1 0, 16000, .inl tray)), (tr, .inr (7, [.int p0]))])) H locs := h
              refine ct_callQ (ct_runV (As := []) (rest := []) B (met_J12_toString l E sb va 0 k cap f H.size ⟨hkc.1, by omega⟩ (by omega) hf) (lw_V q971 q972 q973 q68 q974) (n := 0) ⟨by decide, by decide, by decide +kernel⟩ rfl ⟨rfl, rfl, (Nat.le_of_ble_eq_true rfl), (Nat.le_of_ble_eq_true rfl), (by first | omega | (dsimp only; omega)), (by first | omega | (dsimp only; omega))⟩ h.2.2 hA (ct_recv B h.1 kJ12 0 rfl) ⟨(ct_Pl h.1), (ct_Dl (ct_D0 h hA))⟩ hl.1 (Nat.le_of_ble_eq_true rfl) dX10_word_121) h.2.2 (ct_subL h hAn) (ct_subL h hAn) (fun v H locs hv hz hk hS => ?_)
              obtain ⟨s_1, q_1, g_1, rfl, hP1, hD1, hg2⟩ := hv
              have h : Hs E A s.heap ([(s_1, .inr (13, [.ref q_1, .int (nI 0), .int 0, .int 0])), (sb, .inr (15, [.ref va, .int (nI 0), .int 0, .int (nI k)])), (va, .inl (E.2.1 0, cap, .inl f)), (q_1, .inl (E.2.1 0, k, .inl g_1))] ++ ([(r9, .inr (10, [.ref tr, .ref tx, .int (nI sz9), .int (nI j), .int (nI 0), va_rf tq, .int (nI by9)])), (tx, .inl (E.2.1 0, 16000, .inl tray)), (tr, .inr (7, [.int p0]))])) H locs := ct_frL h hP1 hD1 hk hS hAn
              have h : Hs E A s.heap ([(s_1, .inr (13, [.ref q_1, .int (nI 0), .int 0, .int 0])), (sb, .inr (15, [.ref va, .int (nI 0), .int 0, .int (nI k)])), (va, .inl (E.2.1 0, cap, .inl f)), (q_1, .inl (E.2.1 0, k, .inl g_1)), (r9, .inr (10, [.ref tr, .ref tx, .int (nI sz9), .int (nI j), .int (nI 0), va_rf tq, .int (nI by9)])), (tx, .inl (E.2.1 0, 16000, .inl tray)), (tr, .inr (7, [.int p0]))]) H locs := h
              clear hP1 hD1 hS hz hk
              refine W.eq (g2 := F0 m 124 ls [.ref s_1]) rfl ?_
              have hwl := wL_i hwd
              subst hk
              have h : Hs E A s.heap ([(r9, .inr (10, [.ref tr, .ref tx, .int (nI sz9), .int (nI j), .int (nI (if (u, false).2 = true then 1 else 0)), va_rf tq, .int (nI by9)])), (tx, .inl (E.2.1 0, 16000, .inl tray)), (tr, .inr (7, [.int p0])), (s_1, .inr (13, [.ref q_1, .int (nI 0), .int 0, .int 0])), (q_1, .inl (E.2.1 0, (u, false).1.length, .inl g_1))]) H locs := ct_part0 h [4, 5, 6, 0, 3] rfl rfl
              refine W.widen (k := 4 + wL t i) (n := 60 + 5 * wL t i) (by first | omega | (dsimp only; omega)) (by first | omega | (dsimp only; omega)) ?_
              exact ct_toX (ct_aretQ (r := some (s_1)) B rfl (Or.inl ⟨_, rfl⟩) h.2.2 ⟨s_1, q_1, g_1, (u, false), j, rfl, h.1, h.2.1, hwd, fun x hx => by rw [hg2 x hx]; exact hu x hx, ⟨by omega, by omega, by show u.length ≤ _; omega⟩, fun x hx => by have := hr x hx; omega⟩ dX10_word_124)
            · have hok : okU (t.getD j 0) := by have h1 := (not_congr (tb_lt htx (show j < sz9 by omega))).mp cb; have h2 := (not_congr (tb_gt htx (show j < sz9 by omega))).mp cc; have h3 := (not_congr (tb_eq htx (show j < sz9 by omega) (show 34 < 128 by omega))).mp cd; have h4 := (not_congr (tb_eq htx (show j < sz9 by omega) (show 44 < 128 by omega))).mp ce; refine ⟨?_, ?_, ?_, ?_⟩ <;> omega
              obtain ⟨ho1, ho2, ho3, ho4⟩ := id hok
              refine lv_aload_n hx hb dX10_word_92 rfl (lv_at hl 0 rfl) ?_
              refine lv_aload_n hx hb dX10_word_93 rfl (lv_at hl 1 rfl) ?_
              refine ct_get (v := .ref tx) B h.1 kX10 0 rfl 1 (Nat.le_of_ble_eq_true rfl) q1127 rfl dX10_word_94 ?_
              refine lv_aload_n hx hb dX10_word_97 rfl (lv_at hl 1 rfl) ?_
              refine ct_get (v := .int (nI j)) B h.1 kX10 0 rfl 3 (Nat.le_of_ble_eq_true rfl) q1129 rfl dX10_word_98 ?_
              refine ct_bald (f := tray) B h.1 1 rfl (by omega) (by omega) dX10_word_101 ?_
              refine W.eq (g2 := F0 m 102 ls [.int (nI (t.getD j 0)), .ref sb]) (by rw [(txR_ok htx (show j < sz9 by omega) (by omega))]) ?_
              refine lv_i2c (v := (nI (t.getD j 0))) hx hb dX10_word_102 (c_chr _ (by omega)) ?_
              have hcb := capB_f hkc.1 hkc.2.1 hkc.2.2
              have h : Hs E A s.heap ([(sb, .inr (15, [.ref va, .int (nI 0), .int 0, .int (nI k)])), (va, .inl (E.2.1 0, cap, .inl f)), (r9, .inr (10, [.ref tr, .ref tx, .int (nI sz9), .int (nI j), .int (nI 0), va_rf tq, .int (nI by9)])), (tx, .inl (E.2.1 0, 16000, .inl tray)), (tr, .inr (7, [.int p0]))]) H locs := ct_part0 h [3, 4, 0, 1, 2] rfl rfl
              have h : Hs E A s.heap ([(sb, .inr (15, [.ref va, .int (nI 0), .int 0, .int (nI k)])), (va, .inl (E.2.1 0, cap, .inl f))] ++ ([(r9, .inr (10, [.ref tr, .ref tx, .int (nI sz9), .int (nI j), .int (nI 0), va_rf tq, .int (nI by9)])), (tx, .inl (E.2.1 0, 16000, .inl tray)), (tr, .inr (7, [.int p0]))])) H locs := h
              refine ct_callQ (ct_runV (As := [.int (nI (t.getD j 0))]) (rest := []) B (met_J12_appendA l E sb va 0 k cap f (t.getD j 0) H.size ⟨hkc.1, by omega⟩ (by omega) hf) (lw_V q898 q899 q900 q68 q901) (n := 1) ⟨by decide, by decide, by decide +kernel⟩ rfl ⟨rfl, rfl, (Nat.le_of_ble_eq_true rfl), (Nat.le_of_ble_eq_true rfl), (by first | omega | (dsimp only; omega)), (by first | omega | (dsimp only; omega))⟩ h.2.2 hA (ct_recv B h.1 kJ12 0 rfl) ⟨(ct_Pl h.1), (ct_Dl (ct_D0 h hA))⟩ hl.1 (Nat.le_of_ble_eq_true rfl) dX10_word_103) h.2.2 (ct_subL h hAn) (ct_subL h hAn) (fun v H locs hv hz hk hS => ?_)
              obtain ⟨v_a, f_a, rfl, hP1, hD1, hf1, hfc, hf2⟩ := hv
              have h : Hs E A s.heap ([(sb, .inr (15, [.ref v_a, .int (nI 0), .int 0, .int (nI (k + 1))])), (v_a, .inl (E.2.1 0, capB k cap, .inl f_a))] ++ ([(r9, .inr (10, [.ref tr, .ref tx, .int (nI sz9), .int (nI j), .int (nI 0), va_rf tq, .int (nI by9)])), (tx, .inl (E.2.1 0, 16000, .inl tray)), (tr, .inr (7, [.int p0]))])) H locs := ct_frL h hP1 hD1 hk hS hAn
              have h : Hs E A s.heap ([(sb, .inr (15, [.ref v_a, .int (nI 0), .int 0, .int (nI (k + 1))])), (v_a, .inl (E.2.1 0, capB k cap, .inl f_a)), (r9, .inr (10, [.ref tr, .ref tx, .int (nI sz9), .int (nI j), .int (nI 0), va_rf tq, .int (nI by9)])), (tx, .inl (E.2.1 0, 16000, .inl tray)), (tr, .inr (7, [.int p0]))]) H locs := h
              clear hP1 hD1 hS hz hk
              refine W.eq (g2 := F0 m 106 ls [.ref sb]) rfl ?_
              refine lv_pop hx hb dX10_word_106 rfl ?_
              refine lv_aload_n hx hb dX10_word_107 rfl (lv_at hl 1 rfl) ?_
              refine lv_dup hx hb dX10_word_108 rfl ?_
              refine ct_get (v := .int (nI j)) B h.1 kX10 2 rfl 3 (Nat.le_of_ble_eq_true rfl) q1129 rfl dX10_word_109 ?_
              refine lv_iconst (v := nI 1) hx hb dX10_word_112 (by decide) ?_
              refine n_iadd hx hb dX10_word_113 ?_
              refine ct_put (ws' := [(sb, .inr (15, [.ref v_a, .int (nI 0), .int 0, .int (nI (k + 1))])), (v_a, .inl (E.2.1 0, capB k cap, .inl f_a)), (r9, .inr (10, [.ref tr, .ref tx, .int (nI sz9), .int (nI (j + 1)), .int (nI 0), va_rf tq, .int (nI by9)])), (tx, .inl (E.2.1 0, 16000, .inl tray)), (tr, .inr (7, [.int p0]))]) B h kX10 2 rfl 3 (Nat.le_of_ble_eq_true rfl) q1129 rfl rfl rfl (Nat.le_of_ble_eq_true rfl) rfl dX10_word_114 (fun H locs h => ?_)
              refine lv_goto (tgt := 25) hx hb dX10_word_117 (by decide) ?_
              have h : Hs E A s.heap ([(r9, .inr (10, [.ref tr, .ref tx, .int (nI sz9), .int (nI (j + 1)), .int (nI 0), va_rf tq, .int (nI by9)])), (tx, .inl (E.2.1 0, 16000, .inl tray)), (tr, .inr (7, [.int p0])), (sb, .inr (15, [.ref v_a, .int (nI 0), .int 0, .int (nI (k + 1))])), (v_a, .inl (E.2.1 0, capB k cap, .inl f_a))]) H locs := ct_part0 h [2, 3, 4, 0, 1] rfl rfl
              refine W.widen (k := 1 + (capB k cap) / 16) (n := 4 + 2 * (capB k cap)) (by first | (have := hcb.2.2.2.1; dsimp only; omega) | omega | (dsimp only; omega)) (by first | (have := hcb.2.2.2.2; dsimp only; omega) | omega | (dsimp only; omega)) ?_
              exact ih_4 ((j + 1), (u ++ [t.getD j 0]), (k + 1), v_a, (capB k cap), f_a) H locs ls (by dsimp only; omega) ⟨lv_sub hl [0, 1] rfl, h, ⟨by omega, by omega⟩, by rw [List.length_append, List.length_singleton]; omega, by rw [hpl, plain_S (by omega) hok, List.append_assoc]; rfl, by rw [List.length_append, List.length_singleton, ← hk], ⟨hcb.1, hcb.2.1, hcb.2.2.1⟩, hf2, sb_snoc hk hu hf1 hfc, rg_snoc hr ⟨by omega, by omega⟩⟩
