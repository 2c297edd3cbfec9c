set_option maxHeartbeats 4000000 in
set_option maxRecDepth 100000 in
theorem met_X3_hasRoom (l : Launch) (E : CE) (ad : Nat → Nat) (F : XF) (O : XO) (S : XS) (made : Nat) (all : Nat → Option Nat) (wn : Nat) (wb : Nat → Int32) (P : XP) (R : XR) (n : Nat) (sz : Nat) (hn : n < 1000000) (hw : wn ≤ 65536) : Met l yX3_hasRoom (ws_ yX3_hasRoom cX3_hasRoom 2 (some .boolean)) { frames := 0, cells := 0, slots := 0, locals := 0 } (ctP E [.ref (ad 4), .int (nI n)] sz (fun H => va_P E.1 ct_cl (xw E ad F O S (made, all, wn, wb) P R) H)) (ctR (fun v => v = some (.int (if wn + n ≤ 65536 then 1 else 0)))) 0 0 (fun _ => False) := by
  refine ct_start (by decide) (Nat.le_of_ble_eq_true rfl) ?_
  intro p e s m below meth c ls B hsz hH hl
  have hP := hH
  have hx := B.1
  have hb := B.2.1
  have hl : lv_has ls 2 [(0, .ref (ad 4)), (1, .int (nI n))] := hl
  refine lv_aload_n hx hb dX3_hasRoom_0 rfl (lv_at hl 0 rfl) ?_
  refine ct_get (v := .int (nI wn)) B hP kX3 4 rfl 1 (Nat.le_of_ble_eq_true rfl) q184 rfl dX3_hasRoom_1 ?_
  refine lv_iload_n hx hb dX3_hasRoom_4 rfl (lv_at hl 1 rfl) ?_
  refine n_iadd hx hb dX3_hasRoom_5 ?_
  refine lv_ldc (v := nI 65536) hx hb B.2.2.1 (B.2.2.2.1 _ q181) dX3_hasRoom_6 ?_
  refine n_icmp_gt (tgt := 15) hx hb dX3_hasRoom_8 (by decide) (by omega) (by omega) (fun c_1 => ?_) (fun c_1 => ?_)
  · refine lv_iconst (v := nI 0) hx hb dX3_hasRoom_15 (by decide) ?_
    exact ct_iretR (ty := .boolean) (v := (nI 0)) B rfl rfl (by rw [if_neg (by first | exact c_1 | exact Int32.not_le.mp c_1 | exact Int32.not_lt.mp c_1 | exact Int32.not_le.mpr c_1 | exact Int32.not_lt.mpr c_1 | omega)] <;> rfl) dX3_hasRoom_16
  · refine lv_iconst (v := nI 1) hx hb dX3_hasRoom_11 (by decide) ?_
    refine lv_goto (tgt := 16) hx hb dX3_hasRoom_12 (by decide) ?_
    exact ct_iretR (ty := .boolean) (v := (nI 1)) B rfl rfl (by rw [if_pos (by first | exact c_1 | exact Int32.not_le.mp c_1 | exact Int32.not_lt.mp c_1 | exact Int32.not_le.mpr c_1 | exact Int32.not_lt.mpr c_1 | omega)] <;> rfl) dX3_hasRoom_16
set_option maxHeartbeats 4000000 in
set_option maxRecDepth 100000 in
theorem met_X1_at (l : Launch) (E : CE) (ad : Nat → Nat) (F : XF) (O : XO) (code : Int32) (splace : Int32) (T : XT) (P : XP) (R : XR) (a b : Int32) (sz : Nat)  : Met l yX1_at (ws_ yX1_at cX1_at 3 (some (.object "java/lang/IllegalStateException"))) { frames := 0, cells := 0, slots := 0, locals := 0 } (ctP E [.ref (ad 2), .int a, .int b] sz (fun H => va_P E.1 ct_cl (xw E ad F O (code, splace) T P R) H ∧ va_D (fun q => E.2.2.1 ≤ q) (xw E ad F O (code, splace) T P R))) (ctQ (fun v H => v = some (.ref (ad 20)) ∧ va_P E.1 ct_cl (xw E ad F O (a, b) T P R) H) (va_A (xw E ad F O (code, splace) T P R) sz)) 0 0 (va_A (xw E ad F O (code, splace) T P R) sz) := by
  refine ct_start (by decide) (Nat.le_of_ble_eq_true rfl) ?_
  intro p e s m below meth c ls B hsz hH hl
  obtain ⟨hP, hD⟩ := hH
  obtain ⟨A, hAe, h, hA, hAn⟩ := ct_enter B.2.2.2.2.2.2.2.2 hsz hP hD
  rw [hAe]
  refine ct_gen h (fun H locs h => ?_)
  have hx := B.1
  have hb := B.2.1
  have hl : lv_has ls 3 [(0, .ref (ad 2)), (1, .int a), (2, .int b)] := hl
  refine lv_aload_n hx hb dX1_at_0 rfl (lv_at hl 0 rfl) ?_
  refine lv_iload_n hx hb dX1_at_1 rfl (lv_at hl 1 rfl) ?_
  refine ct_put (ws' := xw E ad F O (a, splace) T P R) B h kX1 2 rfl 1 (Nat.le_of_ble_eq_true rfl) q158 rfl rfl rfl (Nat.le_of_ble_eq_true rfl) rfl dX1_at_2 (fun H locs h => ?_)
  refine lv_aload_n hx hb dX1_at_5 rfl (lv_at hl 0 rfl) ?_
  refine lv_iload_n hx hb dX1_at_6 rfl (lv_at hl 2 rfl) ?_
  refine ct_put (ws' := xw E ad F O (a, b) T P R) B h kX1 2 rfl 2 (Nat.le_of_ble_eq_true rfl) q160 rfl rfl rfl (Nat.le_of_ble_eq_true rfl) rfl dX1_at_7 (fun H locs h => ?_)
  refine lv_aload_n hx hb dX1_at_10 rfl (lv_at hl 0 rfl) ?_
  refine ct_get (v := .ref (ad 20)) B h.1 kX1 2 rfl 0 (Nat.le_of_ble_eq_true rfl) q157 rfl dX1_at_11 ?_
  exact ct_aretQ (r := some (ad 20)) B rfl (Or.inl ⟨_, rfl⟩) h.2.2 ⟨rfl, h.1⟩ dX1_at_14
set_option maxHeartbeats 4000000 in
set_option maxRecDepth 100000 in
theorem met_X1_with (l : Launch) (E : CE) (ad : Nat → Nat) (F : XF) (O : XO) (code : Int32) (splace : Int32) (T : XT) (P : XP) (R : XR) (a : Int32) (sz : Nat)  : Met l yX1_with (ws_ yX1_with cX1_with 2 (some (.object "java/lang/IllegalStateException"))) { frames := 1, cells := 0, slots := 0, locals := 22 } (ctP E [.ref (ad 2), .int a] sz (fun H => va_P E.1 ct_cl (xw E ad F O (code, splace) T P R) H ∧ va_D (fun q => E.2.2.1 ≤ q) (xw E ad F O (code, splace) T P R))) (ctQ (fun v H => v = some (.ref (ad 20)) ∧ va_P E.1 ct_cl (xw E ad F O (a, (-1)) T P R) H) (va_A (xw E ad F O (code, splace) T P R) sz)) 0 0 (va_A (xw E ad F O (code, splace) T P R) sz) := by
  refine ct_start (by decide) (Nat.le_of_ble_eq_true rfl) ?_
  intro p e s m below meth c ls B hsz hH hl
  obtain ⟨hP, hD⟩ := hH
  obtain ⟨A, hAe, h, hA, hAn⟩ := ct_enter B.2.2.2.2.2.2.2.2 hsz hP hD
  rw [hAe]
  refine ct_gen h (fun H locs h => ?_)
  have hx := B.1
  have hb := B.2.1
  have hl : lv_has ls 2 [(0, .ref (ad 2)), (1, .int a)] := hl
  refine lv_aload_n hx hb dX1_with_0 rfl (lv_at hl 0 rfl) ?_
  refine lv_iload_n hx hb dX1_with_1 rfl (lv_at hl 1 rfl) ?_
  refine lv_iconst (v := (-1)) hx hb dX1_with_2 (by decide) ?_
  refine ct_callQ (ct_runV (As := [.int a, .int (-1)]) (rest := []) B (met_X1_at l E ad F O code splace T P R a (-1) H.size) (lw_V q385 q346 q347 q45 q348) (n := 2) ⟨by decide, by decide, by decide +kernel⟩ rfl ⟨rfl, rfl, (Nat.le_of_ble_eq_true rfl), (Nat.le_of_ble_eq_true rfl), (Nat.le_of_ble_eq_true rfl), (Nat.le_of_ble_eq_true rfl)⟩ h.2.2 hA (ct_recv B h.1 kX1 2 rfl) ⟨h.1, (ct_D0 h hA)⟩ hl.1 (Nat.le_of_ble_eq_true rfl) dX1_with_3) h.2.2 (ct_sub h hAn) (ct_sub h hAn) (fun v H locs hv hz hk hS => ?_)
  obtain ⟨rfl, hP1⟩ := hv
  have h : Hs E A s.heap (xw E ad F O (a, (-1)) T P R) H locs := ct_again h hP1 rfl hS
  clear hP1 hS hz hk
  refine W.eq (g2 := F0 m 6 ls [.ref (ad 20)]) rfl ?_
  exact ct_aretQ (r := some (ad 20)) B rfl (Or.inl ⟨_, rfl⟩) h.2.2 ⟨rfl, h.1⟩ dX1_with_6
set_option maxHeartbeats 4000000 in
set_option maxRecDepth 100000 in
theorem met_X2_wrong (l : Launch) (E : CE) (ad : Nat → Nat) (F : XF) (O : XO) (code : Int32) (splace : Int32) (T : XT) (P : XP) (R : XR) (a : Int32) (sz : Nat)  : Met l yX2_wrong (ws_ yX2_wrong cX2_wrong 2 (some (.object "java/lang/IllegalStateException"))) { frames := 1, cells := 0, slots := 0, locals := 22 } (ctP E [.ref (ad 3), .int a] sz (fun H => va_P E.1 ct_cl (xw E ad F O (code, splace) T P R) H ∧ va_D (fun q => E.2.2.1 ≤ q) (xw E ad F O (code, splace) T P R))) (ctQ (fun v H => v = some (.ref (ad 20)) ∧ va_P E.1 ct_cl (xw E ad F O (20, a) T P R) H) (va_A (xw E ad F O (code, splace) T P R) sz)) 0 0 (va_A (xw E ad F O (code, splace) T P R) sz) := by
  refine ct_start (by decide) (Nat.le_of_ble_eq_true rfl) ?_
  intro p e s m below meth c ls B hsz hH hl
  obtain ⟨hP, hD⟩ := hH
  obtain ⟨A, hAe, h, hA, hAn⟩ := ct_enter B.2.2.2.2.2.2.2.2 hsz hP hD
  rw [hAe]
  refine ct_gen h (fun H locs h => ?_)
  have hx := B.1
  have hb := B.2.1
  have hl : lv_has ls 2 [(0, .ref (ad 3)), (1, .int a)] := hl
  refine lv_aload_n hx hb dX2_wrong_0 rfl (lv_at hl 0 rfl) ?_
  refine ct_get (v := .ref (ad 2)) B h.1 kX2 3 rfl 0 (Nat.le_of_ble_eq_true rfl) q215 rfl dX2_wrong_1 ?_
  refine lv_bipush (v := nI 20) hx hb dX2_wrong_4 (by decide) ?_
  refine lv_iload_n hx hb dX2_wrong_6 rfl (lv_at hl 1 rfl) ?_
  refine ct_callQ (ct_runV (As := [.int (nI 20), .int a]) (rest := []) B (met_X1_at l E ad F O code splace T P R (nI 20) a H.size) (lw_V q345 q346 q347 q45 q348) (n := 2) ⟨by decide, by decide, by decide +kernel⟩ rfl ⟨rfl, rfl, (Nat.le_of_ble_eq_true rfl), (Nat.le_of_ble_eq_true rfl), (Nat.le_of_ble_eq_true rfl), (Nat.le_of_ble_eq_true rfl)⟩ h.2.2 hA (ct_recv B h.1 kX1 2 rfl) ⟨h.1, (ct_D0 h hA)⟩ hl.1 (Nat.le_of_ble_eq_true rfl) dX2_wrong_7) h.2.2 (ct_sub h hAn) (ct_sub h hAn) (fun v H locs hv hz hk hS => ?_)
  obtain ⟨rfl, hP1⟩ := hv
  have h : Hs E A s.heap (xw E ad F O ((nI 20), a) T P R) H locs := ct_again h hP1 rfl hS
  clear hP1 hS hz hk
  refine W.eq (g2 := F0 m 10 ls [.ref (ad 20)]) rfl ?_
  exact ct_aretQ (r := some (ad 20)) B rfl (Or.inl ⟨_, rfl⟩) h.2.2 ⟨rfl, h.1⟩ dX2_wrong_10
set_option maxHeartbeats 4000000 in
set_option maxRecDepth 100000 in
theorem met_X2_look (l : Launch) (E : CE) (ad : Nat → Nat) (tray : Nat → Int32) (trayed : Nat) (fed : Nat) (place : Int32) (picked : Nat → Int64) (pcnt : Nat) (column : Nat → Int64) (O : XO) (S : XS) (T : XT) (size : Nat) (at_ : Nat) (means : Nat → Int32) (meant : Nat) (starts : Nat → Int32) (lens : Nat → Int32) (cnt : Nat) (cols : Nat) (R : XR)  (sz : Nat) (hs : size ≤ 16000) (ha : at_ < 2147483648) : Met l yX2_look (ws_ yX2_look cX2_look 1 (some .int)) { frames := 0, cells := 0, slots := 0, locals := 0 } (ctP E [.ref (ad 3)] sz (fun H => va_P E.1 ct_cl (xw E ad (tray, trayed, fed, place, picked, pcnt, column) O S T ((some (ad 1)), size, at_, means, meant, starts, lens, cnt, cols) R) H)) (ctR (fun v => v = some (.int (if at_ < size then tray at_ &&& 255 else (-1))))) 0 0 (fun _ => False) := by
  refine ct_start (by decide) (Nat.le_of_ble_eq_true rfl) ?_
  intro p e s m below meth c ls B hsz hH hl
  have hP := hH
  have hx := B.1
  have hb := B.2.1
  have hl : lv_has ls 1 [(0, .ref (ad 3))] := hl
  refine lv_aload_n hx hb dX2_look_0 rfl (lv_at hl 0 rfl) ?_
  refine ct_get (v := .int (nI at_)) B hP kX2 3 rfl 6 (Nat.le_of_ble_eq_true rfl) q221 rfl dX2_look_1 ?_
  refine lv_aload_n hx hb dX2_look_4 rfl (lv_at hl 0 rfl) ?_
  refine ct_get (v := .int (nI size)) B hP kX2 3 rfl 5 (Nat.le_of_ble_eq_true rfl) q220 rfl dX2_look_5 ?_
  refine n_icmp_ge (tgt := 27) hx hb dX2_look_8 (by decide) (by omega) (by omega) (fun c_1 => ?_) (fun c_1 => ?_)
  · refine lv_iconst (v := (-1)) hx hb dX2_look_27 (by decide) ?_
    exact ct_iretR (ty := .int) (v := (-1)) B rfl rfl (by rw [if_neg (by first | exact c_1 | exact Int32.not_le.mp c_1 | exact Int32.not_lt.mp c_1 | exact Int32.not_le.mpr c_1 | exact Int32.not_lt.mpr c_1 | omega)] <;> rfl) dX2_look_28
  · refine lv_aload_n hx hb dX2_look_11 rfl (lv_at hl 0 rfl) ?_
    refine ct_get (v := .ref (ad 1)) B hP kX2 3 rfl 4 (Nat.le_of_ble_eq_true rfl) q219 rfl dX2_look_12 ?_
    refine lv_aload_n hx hb dX2_look_15 rfl (lv_at hl 0 rfl) ?_
    refine ct_get (v := .int (nI at_)) B hP kX2 3 rfl 6 (Nat.le_of_ble_eq_true rfl) q221 rfl dX2_look_16 ?_
    refine ct_bald (f := tray) B hP 1 rfl (by omega) (by omega) dX2_look_19 ?_
    refine lv_sipush (v := nI 255) hx hb dX2_look_20 (by decide) ?_
    refine lv_iand hx hb dX2_look_23 ?_
    refine lv_goto (tgt := 28) hx hb dX2_look_24 (by decide) ?_
    exact ct_iretR (ty := .int) (v := ((tray at_) &&& (nI 255))) B rfl rfl (by rw [if_pos (by first | exact c_1 | exact Int32.not_le.mp c_1 | exact Int32.not_lt.mp c_1 | exact Int32.not_le.mpr c_1 | exact Int32.not_lt.mpr c_1 | omega)] <;> rfl) dX2_look_28
