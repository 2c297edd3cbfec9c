set_option maxHeartbeats 4000000 in
set_option maxRecDepth 100000 in
theorem met_X2_read (l : Launch) (E : CE) (ad : Nat → Nat) (tray : Nat → Int32) (trayed : Nat) (fed : Nat) (place : Int32) (picked : Nat → Int64) (pcnt : Nat) (column : Nat → Int64) (O : XO) (code : Int32) (splace : Int32) (made : Nat) (all : Nat → Option Nat) (wn : Nat) (wb : Nat → Int32) (txt : Option Nat) (size : Nat) (at_ : Nat) (means : Nat → Int32) (meant : Nat) (starts : Nat → Int32) (lens : Nat → Int32) (cnt : Nat) (cols : Nat) (R : XR) (n : Nat) (t : List Nat) (sz : Nat) (htx : txR tray n t) (hsz_ : n ≤ 16000) (hm : made ≤ 40) (hwn : wn ≤ 65536) : MetX l yX2_read (ws_ yX2_read cX2_read 4 (some .int)) { frames := 12, cells := 6, slots := 16023, locals := 285 } (ctP E [.ref (ad 3), .ref (ad 1), .int (nI n)] sz (fun H => va_P E.1 ct_cl (xw E ad (tray, trayed, fed, place, picked, pcnt, column) O (code, splace) (made, all, wn, wb) (txt, size, at_, means, meant, starts, lens, cnt, cols) R) H ∧ va_D (fun q => E.2.2.1 ≤ q) (xw E ad (tray, trayed, fed, place, picked, pcnt, column) O (code, splace) (made, all, wn, wb) (txt, size, at_, means, meant, starts, lens, cnt, cols) R))) (ctX (fun v H => ∃ tb2 : Tab, ∃ q2 : Nat → Nat, ∃ f2 : Nat → Nat → Int32, ∃ wb2 : Nat → Int32, ∃ P2 : XP, v = some (.int (nI (made + 1))) ∧ va_P E.1 ct_cl (xw E ad (tray, trayed, fed, place, picked, pcnt, column) O (code, splace) (made + 1, va_up all (made + 1) (some (q2 0)), wn + (tot tb2.1 + tot tb2.2), wb2) (P2.1, P2.2.1, P2.2.2.1, P2.2.2.2.1, P2.2.2.2.2.1, P2.2.2.2.2.2.1, P2.2.2.2.2.2.2.1, P2.2.2.2.2.2.2.2.1, P2.2.2.2.2.2.2.2.2) R) H ∧ parseT t = .inr tb2 ∧ (made < 40 ∧ wn + (tot tb2.1 + tot tb2.2) ≤ 65536) ∧ va_P E.1 ct_cl (tw E q2 (tCols tb2) (tRows tb2) f2) H ∧ (∀ j, j < 6 → sz ≤ q2 j) ∧ (∀ a t, tAt wb a t → a + t.length ≤ wn → tAt wb2 a t) ∧ tNum tb2 wb2 (wn + (tot tb2.1 + tot tb2.2)) f2) (fun x H => ∃ cd : Int32, ∃ sp : Int32, ∃ P2 : XP, x = ad 20 ∧ va_P E.1 ct_cl (xw E ad (tray, trayed, fed, place, picked, pcnt, column) O (cd, sp) (made, all, wn, wb) (P2.1, P2.2.1, P2.2.2.1, P2.2.2.2.1, P2.2.2.2.2.1, P2.2.2.2.2.2.1, P2.2.2.2.2.2.2.1, P2.2.2.2.2.2.2.2.1, P2.2.2.2.2.2.2.2.2) R) H ∧ ((∃ pl, parseT t = .inl pl ∧ cd = 20 ∧ sp = nI pl) ∨ (∃ tb : Tab, parseT t = .inr tb ∧ (made = 40 ∨ 65536 < wn + (tot tb.1 + tot tb.2)) ∧ cd = nI 12 ∧ sp = -1))) (va_A (xw E ad (tray, trayed, fed, place, picked, pcnt, column) O (code, splace) (made, all, wn, wb) (txt, size, at_, means, meant, starts, lens, cnt, cols) R) sz)) 6 16023 (va_A (xw E ad (tray, trayed, fed, place, picked, pcnt, column) O (code, splace) (made, all, wn, wb) (txt, size, at_, means, meant, starts, lens, cnt, cols) R) sz) := by
  refine ct_startX (by decide) (Nat.le_of_ble_eq_true rfl) ?_
  intro p e s m below meth c ls B hno hsz hH hl
  obtain ⟨hP, hD⟩ := hH
  obtain ⟨A, hAe, h, hA, hAn⟩ := ct_enter B.2.2.2.2.2.2.2.2 hsz hP hD
  rw [hAe]
  refine ct_gen h (fun H locs h => ?_)
  have hx := B.1
  have hb := B.2.1
  have hl : lv_has ls 4 [(0, .ref (ad 3)), (1, .ref (ad 1)), (2, .int (nI n))] := hl
  have htb := txR_lt htx
  have htl := htx.1
  refine lv_aload_n hx hb dX2_read_0 rfl (lv_at hl 0 rfl) ?_
  refine lv_aload_n hx hb dX2_read_1 rfl (lv_at hl 1 rfl) ?_
  refine ct_put (ws' := xw E ad (tray, trayed, fed, place, picked, pcnt, column) O (code, splace) (made, all, wn, wb) ((some (ad 1)), size, at_, means, meant, starts, lens, cnt, cols) R) B h kX2 3 rfl 4 (Nat.le_of_ble_eq_true rfl) q219 rfl rfl rfl (Nat.le_of_ble_eq_true rfl) rfl dX2_read_2 (fun H locs h => ?_)
  refine lv_aload_n hx hb dX2_read_5 rfl (lv_at hl 0 rfl) ?_
  refine lv_iload_n hx hb dX2_read_6 rfl (lv_at hl 2 rfl) ?_
  refine ct_put (ws' := xw E ad (tray, trayed, fed, place, picked, pcnt, column) O (code, splace) (made, all, wn, wb) ((some (ad 1)), n, at_, means, meant, starts, lens, cnt, cols) R) B h kX2 3 rfl 5 (Nat.le_of_ble_eq_true rfl) q220 rfl rfl rfl (Nat.le_of_ble_eq_true rfl) rfl dX2_read_7 (fun H locs h => ?_)
  refine lv_aload_n hx hb dX2_read_10 rfl (lv_at hl 0 rfl) ?_
  refine lv_iconst (v := nI 0) hx hb dX2_read_11 (by decide) ?_
  refine ct_put (ws' := xw E ad (tray, trayed, fed, place, picked, pcnt, column) O (code, splace) (made, all, wn, wb) ((some (ad 1)), n, 0, means, meant, starts, lens, cnt, cols) R) B h kX2 3 rfl 6 (Nat.le_of_ble_eq_true rfl) q221 rfl rfl rfl (Nat.le_of_ble_eq_true rfl) rfl dX2_read_12 (fun H locs h => ?_)
  refine lv_aload_n hx hb dX2_read_15 rfl (lv_at hl 0 rfl) ?_
  refine lv_iconst (v := nI 0) hx hb dX2_read_16 (by decide) ?_
  refine ct_put (ws' := xw E ad (tray, trayed, fed, place, picked, pcnt, column) O (code, splace) (made, all, wn, wb) ((some (ad 1)), n, 0, means, 0, starts, lens, cnt, cols) R) B h kX2 3 rfl 8 (Nat.le_of_ble_eq_true rfl) q223 rfl rfl rfl (Nat.le_of_ble_eq_true rfl) rfl dX2_read_17 (fun H locs h => ?_)
  refine lv_aload_n hx hb dX2_read_20 rfl (lv_at hl 0 rfl) ?_
  refine lv_iconst (v := nI 0) hx hb dX2_read_21 (by decide) ?_
  refine ct_put (ws' := xw E ad (tray, trayed, fed, place, picked, pcnt, column) O (code, splace) (made, all, wn, wb) ((some (ad 1)), n, 0, means, 0, starts, lens, 0, cols) R) B h kX2 3 rfl 11 (Nat.le_of_ble_eq_true rfl) q226 rfl rfl rfl (Nat.le_of_ble_eq_true rfl) rfl dX2_read_22 (fun H locs h => ?_)
  refine lv_aload_n hx hb dX2_read_25 rfl (lv_at hl 0 rfl) ?_
  refine lv_bipush (v := nI 16) hx hb dX2_read_26 (by decide) ?_
  refine ct_put (ws' := xw E ad (tray, trayed, fed, place, picked, pcnt, column) O (code, splace) (made, all, wn, wb) ((some (ad 1)), n, 0, means, 0, starts, lens, 0, 16) R) B h kX2 3 rfl 12 (Nat.le_of_ble_eq_true rfl) q227 rfl rfl rfl (Nat.le_of_ble_eq_true rfl) rfl dX2_read_28 (fun H locs h => ?_)
  refine lv_aload_n hx hb dX2_read_31 rfl (lv_at hl 0 rfl) ?_
  refine lv_iconst (v := nI 1) hx hb dX2_read_32 (by decide) ?_
  refine ct_callX B hno (ct_runXV (As := [.int (nI 1)]) (rest := []) B (met_X2_line_1 l E ad tray trayed fed place picked pcnt column O code splace (made, all, wn, wb) n 0 means 0 starts lens 0 R t H.size htx hsz_ (by omega) (by omega) (by omega) (by omega)) (lw_V q337 q339 qs3 q50 q340) (n := 1) ⟨by decide, by decide, by decide +kernel⟩ rfl ⟨rfl, rfl, (Nat.le_of_ble_eq_true rfl), (Nat.le_of_ble_eq_true rfl), (by dsimp only; omega), (by dsimp only; omega)⟩ h.2.2 hA (ct_recv B h.1 kX2 3 rfl) ⟨h.1, (ct_D0 h hA)⟩ hl.1 (Nat.le_of_ble_eq_true rfl) dX2_read_33) h.2.2 (ct_sub h hAn) (ct_sub h hAn) (Nat.le_of_ble_eq_true rfl) (Nat.le_of_ble_eq_true rfl) (fun x H locs hv hz hk hS => ?_) (fun v H locs hv hz hk hS => ?_)
  · obtain ⟨pl_1, P2_2, rfl, hP1, hth⟩ := hv
    exact ⟨20, (nI pl_1), (P2_2.1, P2_2.2.1, P2_2.2.2.1, P2_2.2.2.2.1, P2_2.2.2.2.2.1, P2_2.2.2.2.2.2.1, P2_2.2.2.2.2.2.2.1, P2_2.2.2.2.2.2.2.2.1, P2_2.2.2.2.2.2.2.2.2), rfl, hP1, Or.inl ⟨_, parseT_e hth, rfl, rfl⟩⟩
  obtain ⟨ns, j_l, cn_l, mt_l, me_l, st_l, le_l, rfl, hP1, hln, hcn2, hmt2, hpw2, hj2, hwl2⟩ := hv
  have h : Hs E A s.heap (xw E ad (tray, trayed, fed, place, picked, pcnt, column) O (code, splace) (made, all, wn, wb) ((some (ad 1)), n, j_l, me_l, mt_l, st_l, le_l, cn_l, 16) R) H locs := ct_again h hP1 rfl hS
  clear hP1 hS hz hk
  refine W.eq (g2 := F0 m 36 ls []) rfl ?_
  refine lv_aload_n hx hb dX2_read_36 rfl (lv_at hl 0 rfl) ?_
  refine lv_aload_n hx hb dX2_read_37 rfl (lv_at hl 0 rfl) ?_
  refine ct_get (v := .int (nI cn_l)) B h.1 kX2 3 rfl 11 (Nat.le_of_ble_eq_true rfl) q226 rfl dX2_read_38 ?_
  refine ct_put (ws' := xw E ad (tray, trayed, fed, place, picked, pcnt, column) O (code, splace) (made, all, wn, wb) ((some (ad 1)), n, j_l, me_l, mt_l, st_l, le_l, cn_l, cn_l) R) B h kX2 3 rfl 12 (Nat.le_of_ble_eq_true rfl) q227 rfl rfl rfl (Nat.le_of_ble_eq_true rfl) rfl dX2_read_41 (fun H locs h => ?_)
  refine lv_iconst (v := nI 1) hx hb dX2_read_44 (by decide) ?_
  refine lv_istore_n (lv' := [(3, .int (nI 1)), (0, .ref (ad 3)), (1, .ref (ad 1)), (2, .int (nI n))]) hx hb dX2_read_45 rfl hl (by decide) rfl (fun ls hl => ?_)
  refine ct_loopH (σ := Nat × Nat × Nat × Nat × List Wd × (Nat → Int32) × (Nat → Int32) × (Nat → Int32)) (fun (li, i, cn, mt, cs, me, st, le) H locs ls => lv_has ls 4 [(3, .int (nI li)), (0, .ref (ad 3)), (1, .ref (ad 1)), (2, .int (nI n))] ∧ Hs E A s.heap (xw E ad (tray, trayed, fed, place, picked, pcnt, column) O (code, splace) (made, all, wn, wb) ((some (ad 1)), n, i, me, mt, st, le, cn, cn_l) R) H locs ∧ (1 ≤ li ∧ li ≤ 500) ∧ (cn = (ns ++ cs).length) ∧ (mt = tot (ns ++ cs)) ∧ (pWs me st le (ns ++ cs)) ∧ (cs.length = cn_l * (li - 1)) ∧ (mt ≤ i ∧ i ≤ n) ∧ (linesOf t cn_l 499 j_l [] = linesOf t cn_l (500 - li) i cs)) (fun (li, i, cn, mt, cs, me, st, le) => 501 - li) (fun _ => 0) (fun _ => 0) (g := fun (li, i, cn, mt, cs, me, st, le) ls => F0 m 46 ls []) (x0 := (1, j_l, cn_l, mt_l, [], me_l, st_l, le_l)) (ls0 := ls) ?_ ⟨lv_sub hl [0, 1, 2, 3] rfl, h, by omega, by rw [List.append_nil]; exact hcn2, by rw [List.append_nil]; exact hmt2, by rw [List.append_nil]; exact hpw2, rfl, hj2, rfl⟩
  clear hl h
  intro x9 H locs ls hI ih_3
  obtain ⟨li, i, cn, mt, cs, me, st, le⟩ := x9
  obtain ⟨hl, h, hli, hcn_, hmt_, hpw_, hcl, hi, hlo⟩ := hI
  refine W.eq (g2 := F0 m 46 ls []) rfl ?_
  refine lv_aload_n hx hb dX2_read_46 rfl (lv_at hl 1 rfl) ?_
  refine ct_get (v := .int (nI i)) B h.1 kX2 3 rfl 6 (Nat.le_of_ble_eq_true rfl) q221 rfl dX2_read_47 ?_
  refine lv_aload_n hx hb dX2_read_50 rfl (lv_at hl 1 rfl) ?_
  refine ct_get (v := .int (nI n)) B h.1 kX2 3 rfl 5 (Nat.le_of_ble_eq_true rfl) q220 rfl dX2_read_51 ?_
  refine n_icmp_ge (tgt := 84) hx hb dX2_read_54 (by decide) (by omega) (by omega) (fun c_4 => ?_) (fun c_4 => ?_)
  · have hml := mul_cs (show cn_l ≤ 16 by omega) (show li - 1 ≤ 499 by omega)
    have hH0 := h.2.2.1
    refine lv_aload_n hx hb dX2_read_84 rfl (lv_at hl 1 rfl) ?_
    refine lv_iload_n hx hb dX2_read_85 rfl (lv_at hl 0 rfl) ?_
    refine lv_iconst (v := nI 1) hx hb dX2_read_86 (by decide) ?_
    refine n_isub hx hb (by omega) dX2_read_87 ?_
    refine ct_callX B hno (ct_runXV (As := [.int (nI (li - 1))]) (rest := []) B (met_X2_make l E ad (tray, trayed, fed, place, picked, pcnt, column) O code splace made all wn wb (some (ad 1)) n i me mt st le cn cn_l R (li - 1) (ns ++ cs) H.size (by omega) (by omega) (by rw [List.length_append, hcl, hcn2]) hmt_ hpw_ (by omega) hm hwn) (lw_V q373 q375 qs11 q50 q376) (n := 1) ⟨by decide, by decide, by decide +kernel⟩ rfl ⟨rfl, rfl, (Nat.le_of_ble_eq_true rfl), (Nat.le_of_ble_eq_true rfl), (by dsimp only; omega), (by dsimp only; omega)⟩ h.2.2 hA (ct_recv B h.1 kX2 3 rfl) ⟨h.1, (ct_D0 h hA)⟩ hl.1 (Nat.le_of_ble_eq_true rfl) dX2_read_88) h.2.2 (ct_sub h hAn) (ct_sub h hAn) (Nat.le_of_ble_eq_true rfl) (by omega) (fun x H locs hv hz hk hS => ?_) (fun v H locs hv hz hk hS => ?_)
    · obtain ⟨rfl, hP1, hfull⟩ := hv
      exact ⟨(nI 12), (-1), ((some (ad 1)), n, i, me, mt, st, le, cn, cn_l), rfl, hP1, Or.inr ⟨(ns, cs), parseT_i hln (by rw [← hcn2]; exact hlo.trans (linesOf_e (by omega))), by rw [hmt_, tot_app] at hfull; exact hfull, rfl, rfl⟩⟩
    obtain ⟨q_m, f_m, wb_m, rfl, hP1, hfit, hwb2, hT2, hqf2, hTDn, hTDc, hlm2⟩ := hv
    have h : Hs E A s.heap (xw E ad (tray, trayed, fed, place, picked, pcnt, column) O (code, splace) (made + 1, va_up all (made + 1) (some (q_m 0)), wn + mt, wb_m) ((some (ad 1)), n, i, me, mt, st, le, cn, cn_l) R) H locs := ct_again h hP1 rfl hS
    clear hP1 hS hz hk
    refine W.eq (g2 := F0 m 91 ls [.int (nI (made + 1))]) rfl ?_
    obtain ⟨e1, e2, e3⟩ := tNum_of hcn2 (by omega) hcl hTDn hTDc hlm2
    rw [hmt_, tot_app] at hfit h e3 hwb2
    refine W.widen (k := 6) (n := 16023) (by omega) (by omega) ?_
    exact ct_toX (ct_iret (ty := .int) (v := (nI (made + 1))) B rfl rfl h.2.2 ⟨(ns, cs), q_m, f_m, wb_m, ((some (ad 1)), n, i, me, tot ns + tot cs, st, le, cn, cn_l), rfl, h.1, parseT_i hln (by rw [← hcn2]; exact hlo.trans (linesOf_e (by omega))), hfit, (by rw [e1, e2]; exact hT2), (fun j hj => Nat.le_trans (by rw [← hsz]; exact hH0) (hqf2 j hj)), (fun a9 t9 h9 h8 => by rw [hwb2]; exact tAt_old h9 h8), e3⟩ dX2_read_91)
  · refine lv_iload_n hx hb dX2_read_57 rfl (lv_at hl 0 rfl) ?_
    refine lv_sipush (v := nI 500) hx hb dX2_read_58 (by decide) ?_
    refine n_icmp_ne (tgt := 73) hx hb dX2_read_61 (by decide) (by omega) (by omega) (fun c500 => ?_) (fun c500 => ?_)
    · have hml : cn_l * (li - 1) ≤ 16 * 498 := Nat.mul_le_mul (by omega) (by omega)
      have hcl2 : cn = cn_l + cn_l * (li - 1) := by rw [hcn_, List.length_append, hcl, hcn2]
      refine lv_aload_n hx hb dX2_read_73 rfl (lv_at hl 1 rfl) ?_
      refine lv_iconst (v := nI 0) hx hb dX2_read_74 (by decide) ?_
      refine ct_callX B hno (ct_runXV (As := [.int (nI 0)]) (rest := []) B (met_X2_line_0 l E ad tray trayed fed place picked pcnt column O code splace (made, all, wn, wb) n i me mt st le cn cn_l R t (ns ++ cs) H.size htx hsz_ (by omega) (by omega) hcn_ hmt_ (by omega) (by omega) hpw_) (lw_V q337 q339 qs3 q50 q340) (n := 1) ⟨by decide, by decide, by decide +kernel⟩ rfl ⟨rfl, rfl, (Nat.le_of_ble_eq_true rfl), (Nat.le_of_ble_eq_true rfl), (by dsimp only; omega), (by dsimp only; omega)⟩ h.2.2 hA (ct_recv B h.1 kX2 3 rfl) ⟨h.1, (ct_D0 h hA)⟩ hl.1 (Nat.le_of_ble_eq_true rfl) dX2_read_75) h.2.2 (ct_sub h hAn) (ct_sub h hAn) (Nat.le_of_ble_eq_true rfl) (Nat.le_of_ble_eq_true rfl) (fun x H locs hv hz hk hS => ?_) (fun v H locs hv hz hk hS => ?_)
      · obtain ⟨pl_5, P2_6, rfl, hP1, hth⟩ := hv
        exact ⟨20, (nI pl_5), (P2_6.1, P2_6.2.1, P2_6.2.2.1, P2_6.2.2.2.1, P2_6.2.2.2.2.1, P2_6.2.2.2.2.2.1, P2_6.2.2.2.2.2.2.1, P2_6.2.2.2.2.2.2.2.1, P2_6.2.2.2.2.2.2.2.2), rfl, hP1, Or.inl ⟨_, parseT_e2 hln (by rw [← hcn2]; exact hlo.trans (linesOf_E (by omega) (by omega) hth)), rfl, rfl⟩⟩
      obtain ⟨ws_c, j_c, cn_c, mt_c, me_c, st_c, le_c, rfl, hP1, hln3, hcn3, hmt3, hpw3, hj3, hwl3⟩ := hv
      have h : Hs E A s.heap (xw E ad (tray, trayed, fed, place, picked, pcnt, column) O (code, splace) (made, all, wn, wb) ((some (ad 1)), n, j_c, me_c, mt_c, st_c, le_c, cn_c, cn_l) R) H locs := ct_again h hP1 rfl hS
      clear hP1 hS hz hk
      refine W.eq (g2 := F0 m 78 ls []) rfl ?_
      refine n_iinc (n := 1) (lv' := [(3, .int (nI (li + 1))), (0, .ref (ad 3)), (1, .ref (ad 1)), (2, .int (nI n))]) hx hb dX2_read_78 hl (k := 0) rfl rfl (by decide) (by decide) rfl (fun ls hl => ?_)
      refine lv_goto (tgt := 46) hx hb dX2_read_81 (by decide) ?_
      exact ih_3 ((li + 1), j_c, cn_c, mt_c, (cs ++ ws_c), me_c, st_c, le_c) H locs ls (by dsimp only; omega) ⟨lv_sub hl [0, 1, 2, 3] rfl, h, by omega, by rw [← List.append_assoc]; exact hcn3, by rw [← List.append_assoc]; exact hmt3, by rw [← List.append_assoc]; exact hpw3, by rw [List.length_append, hcl, hwl3, Nat.add_sub_cancel]; exact mul_pred hli.1, hj3, hlo.trans ((linesOf_S (by omega) (by omega) hln3).trans (by rw [Nat.sub_sub]))⟩
    · refine lv_aload_n hx hb dX2_read_64 rfl (lv_at hl 1 rfl) ?_
      refine lv_aload_n hx hb dX2_read_65 rfl (lv_at hl 1 rfl) ?_
      refine ct_get (v := .int (nI i)) B h.1 kX2 3 rfl 6 (Nat.le_of_ble_eq_true rfl) q221 rfl dX2_read_66 ?_
      refine ct_callQ (ct_runV (As := [.int (nI i)]) (rest := []) B (met_X2_wrong l E ad (tray, trayed, fed, place, picked, pcnt, column) O code splace (made, all, wn, wb) ((some (ad 1)), n, i, me, mt, st, le, cn, cn_l) R (nI i) H.size) (lw_V q341 q343 qs4 q50 q344) (n := 1) ⟨by decide, by decide, by decide +kernel⟩ rfl ⟨rfl, rfl, (Nat.le_of_ble_eq_true rfl), (Nat.le_of_ble_eq_true rfl), (by dsimp only; omega), (by dsimp only; omega)⟩ h.2.2 hA (ct_recv B h.1 kX2 3 rfl) ⟨h.1, (ct_D0 h hA)⟩ hl.1 (Nat.le_of_ble_eq_true rfl) dX2_read_69) h.2.2 (ct_sub h hAn) (ct_sub h hAn) (fun v H locs hv hz hk hS => ?_)
      obtain ⟨rfl, hP1⟩ := hv
      have h : Hs E A s.heap (xw E ad (tray, trayed, fed, place, picked, pcnt, column) O (20, (nI i)) (made, all, wn, wb) ((some (ad 1)), n, i, me, mt, st, le, cn, cn_l) R) H locs := ct_again h hP1 rfl hS
      clear hP1 hS hz hk
      refine W.eq (g2 := F0 m 72 ls [.ref (ad 20)]) rfl ?_
      refine W.widen (k := 6) (n := 16023) (by omega) (by omega) ?_
      exact ct_athrow B hno h.2.2 ⟨20, (nI i), ((some (ad 1)), n, i, me, mt, st, le, cn, cn_l), rfl, h.1, Or.inl ⟨_, parseT_e2 hln (by rw [← hcn2]; exact hlo.trans (linesOf_0 (by omega) (by omega))), rfl, rfl⟩⟩ dX2_read_72
