set_option maxHeartbeats 4000000 in
set_option maxRecDepth 100000 in
theorem met_X3_addNM (l : Launch) (E : CE) (ad : Nat → Nat) (F : XF) (O : XO) (S : XS) (made : Nat) (all : Nat → Option Nat) (wn : Nat) (wb : Nat → Int32) (txt : Option Nat) (size : Nat) (at_ : Nat) (means : Nat → Int32) (meant : Nat) (starts : Nat → Int32) (lens : Nat → Int32) (cnt : Nat) (cols : Nat) (R : XR) (a n : Nat) (sz : Nat) (hf : ∀ j, j < n → vp_nar .byte (means (a + j)) = means (a + j)) (hn : wn + n ≤ 65536) (ha : a + n ≤ 16000) : Met l yX3_add (ws_ yX3_add cX3_add 5 (some .int)) { frames := 0, cells := 0, slots := 0, locals := 0 } (ctP E [.ref (ad 4), .ref (ad 7), .int (nI a), .int (nI n)] sz (fun H => va_P E.1 ct_cl (xw E ad F O S (made, all, wn, wb) (txt, size, at_, means, meant, starts, lens, cnt, cols) R) H ∧ va_D (fun q => E.2.2.1 ≤ q) (xw E ad F O S (made, all, wn, wb) (txt, size, at_, means, meant, starts, lens, cnt, cols) R))) (ctQ (fun v H => v = some (.int (nI wn)) ∧ va_P E.1 ct_cl (xw E ad F O S (made, all, wn + n, va_cpy means wb a wn n) (txt, size, at_, means, meant, starts, lens, cnt, cols) R) H) (va_A (xw E ad F O S (made, all, wn, wb) (txt, size, at_, means, meant, starts, lens, cnt, cols) R) sz)) 0 0 (va_A (xw E ad F O S (made, all, wn, wb) (txt, size, at_, means, meant, starts, lens, cnt, cols) R) sz) := by
  refine ct_start (by decide) (Nat.le_of_ble_eq_true rfl) ?_
  intro p e s m below meth c ls B hsz hH hl
  obtain ⟨hP, hD⟩ := hH
  obtain ⟨A, hAe, h, hA, hAn⟩ := ct_enter B.2.2.2.2.2.2.2.2 hsz hP hD
  rw [hAe]
  refine ct_gen h (fun H locs h => ?_)
  have hx := B.1
  have hb := B.2.1
  have hl : lv_has ls 5 [(0, .ref (ad 4)), (1, .ref (ad 7)), (2, .int (nI a)), (3, .int (nI n))] := hl
  refine lv_iconst (v := nI 0) hx hb dX3_add_0 (by decide) ?_
  refine lv_istore (lv' := [(4, .int (nI 0)), (0, .ref (ad 4)), (1, .ref (ad 7)), (2, .int (nI a)), (3, .int (nI n))]) hx hb dX3_add_1 hl (by decide) rfl (fun ls hl => ?_)
  refine ct_loopH (σ := Nat) (fun k H locs ls => lv_has ls 5 [(4, .int (nI k)), (0, .ref (ad 4)), (1, .ref (ad 7)), (2, .int (nI a)), (3, .int (nI n))] ∧ Hs E A s.heap (xw E ad F O S (made, all, wn, (va_cpy means wb a wn k)) (txt, size, at_, means, meant, starts, lens, cnt, cols) R) H locs ∧ (k ≤ n)) (fun k => n - k) (fun _ => 0) (fun _ => 0) (g := fun k ls => F0 m 3 ls []) (x0 := 0) (ls0 := ls) ?_ ⟨lv_sub hl [0, 1, 2, 3, 4] rfl, (by rw [cpy_0]; exact h), Nat.zero_le _⟩
  clear hl h
  intro k H locs ls hI ih_1
  obtain ⟨hl, h, hk⟩ := hI
  refine W.eq (g2 := F0 m 3 ls []) rfl ?_
  refine lv_iload hx hb dX3_add_3 (lv_at hl 0 rfl) ?_
  refine lv_iload_n hx hb dX3_add_5 rfl (lv_at hl 4 rfl) ?_
  refine n_icmp_ge (tgt := 33) hx hb dX3_add_6 (by decide) (by omega) (by omega) (fun c_2 => ?_) (fun c_2 => ?_)
  · have ek : k = n := by omega
    rw [ek] at h
    refine lv_aload_n hx hb dX3_add_33 rfl (lv_at hl 1 rfl) ?_
    refine lv_dup hx hb dX3_add_34 rfl ?_
    refine ct_get (v := .int (nI wn)) B h.1 kX3 4 rfl 1 (Nat.le_of_ble_eq_true rfl) q184 rfl dX3_add_35 ?_
    refine lv_iload_n hx hb dX3_add_38 rfl (lv_at hl 4 rfl) ?_
    refine n_iadd hx hb dX3_add_39 ?_
    refine ct_put (ws' := xw E ad F O S (made, all, wn + n, (va_cpy means wb a wn n)) (txt, size, at_, means, meant, starts, lens, cnt, cols) R) B h kX3 4 rfl 1 (Nat.le_of_ble_eq_true rfl) q184 rfl rfl rfl (Nat.le_of_ble_eq_true rfl) rfl dX3_add_40 (fun H locs h => ?_)
    refine lv_aload_n hx hb dX3_add_43 rfl (lv_at hl 1 rfl) ?_
    refine ct_get (v := .int (nI (wn + n))) B h.1 kX3 4 rfl 1 (Nat.le_of_ble_eq_true rfl) q184 rfl dX3_add_44 ?_
    refine lv_iload_n hx hb dX3_add_47 rfl (lv_at hl 4 rfl) ?_
    refine n_isub hx hb (by omega) dX3_add_48 ?_
    refine W.eq (g2 := F0 m 49 ls [.int (nI wn)]) (by rw [Nat.add_sub_cancel]) ?_
    exact ct_iret (ty := .int) (v := (nI wn)) B rfl rfl h.2.2 ⟨rfl, h.1⟩ dX3_add_49
  · refine lv_aload_n hx hb dX3_add_9 rfl (lv_at hl 1 rfl) ?_
    refine ct_get (v := .ref (ad 5)) B h.1 kX3 4 rfl 0 (Nat.le_of_ble_eq_true rfl) q182 rfl dX3_add_10 ?_
    refine lv_aload_n hx hb dX3_add_13 rfl (lv_at hl 1 rfl) ?_
    refine ct_get (v := .int (nI wn)) B h.1 kX3 4 rfl 1 (Nat.le_of_ble_eq_true rfl) q184 rfl dX3_add_14 ?_
    refine lv_iload hx hb dX3_add_17 (lv_at hl 0 rfl) ?_
    refine n_iadd hx hb dX3_add_19 ?_
    refine lv_aload_n hx hb dX3_add_20 rfl (lv_at hl 2 rfl) ?_
    refine lv_iload_n hx hb dX3_add_21 rfl (lv_at hl 3 rfl) ?_
    refine lv_iload hx hb dX3_add_22 (lv_at hl 0 rfl) ?_
    refine n_iadd hx hb dX3_add_24 ?_
    refine ct_bald (f := means) B h.1 7 rfl (by omega) (by omega) dX3_add_25 ?_
    refine ct_bast (ws' := xw E ad F O S (made, all, wn, (va_cpy means wb a wn (k + 1))) (txt, size, at_, means, meant, starts, lens, cnt, cols) R) B h 5 rfl (by omega) (by omega) (congrArg (fun z9 => (xw E ad F O S (made, all, wn, z9) (txt, size, at_, means, meant, starts, lens, cnt, cols) R : va_W)) ((by rw [hf k (by omega)]; exact cpy_S means wb a wn k : upd (va_cpy means wb a wn k) (wn + k) (vp_nar .byte (means (a + k))) = va_cpy means wb a wn (k + 1)))) dX3_add_26 (fun H locs h => ?_)
    refine n_iinc (n := 1) (lv' := [(4, .int (nI (k + 1))), (0, .ref (ad 4)), (1, .ref (ad 7)), (2, .int (nI a)), (3, .int (nI n))]) hx hb dX3_add_27 hl (k := 0) rfl rfl (by decide) (by decide) rfl (fun ls hl => ?_)
    refine lv_goto (tgt := 3) hx hb dX3_add_30 (by decide) ?_
    exact ih_1 (k + 1) H locs ls (by omega) ⟨lv_sub hl [0, 1, 2, 3, 4] rfl, h, by omega⟩
set_option maxHeartbeats 4000000 in
set_option maxRecDepth 100000 in
theorem met_X3_addNW (l : Launch) (E : CE) (ad : Nat → Nat) (F : XF) (O : XO) (S : XS) (made : Nat) (all : Nat → Option Nat) (wn : Nat) (wb : Nat → Int32) (txt : Option Nat) (size : Nat) (at_ : Nat) (means : Nat → Int32) (meant : Nat) (starts : Nat → Int32) (lens : Nat → Int32) (cnt : Nat) (cols : Nat) (R : XR) (a n : Nat) (sz : Nat) (hf : ∀ j, j < n → vp_nar .byte (wb (a + j)) = wb (a + j)) (hn : wn + n ≤ 65536) (ha : a + n ≤ wn) : Met l yX3_add (ws_ yX3_add cX3_add 5 (some .int)) { frames := 0, cells := 0, slots := 0, locals := 0 } (ctP E [.ref (ad 4), .ref (ad 5), .int (nI a), .int (nI n)] sz (fun H => va_P E.1 ct_cl (xw E ad F O S (made, all, wn, wb) (txt, size, at_, means, meant, starts, lens, cnt, cols) R) H ∧ va_D (fun q => E.2.2.1 ≤ q) (xw E ad F O S (made, all, wn, wb) (txt, size, at_, means, meant, starts, lens, cnt, cols) R))) (ctQ (fun v H => v = some (.int (nI wn)) ∧ va_P E.1 ct_cl (xw E ad F O S (made, all, wn + n, va_cpy wb wb a wn n) (txt, size, at_, means, meant, starts, lens, cnt, cols) R) H) (va_A (xw E ad F O S (made, all, wn, wb) (txt, size, at_, means, meant, starts, lens, cnt, cols) R) sz)) 0 0 (va_A (xw E ad F O S (made, all, wn, wb) (txt, size, at_, means, meant, starts, lens, cnt, cols) R) sz) := by
  refine ct_start (by decide) (Nat.le_of_ble_eq_true rfl) ?_
  intro p e s m below meth c ls B hsz hH hl
  obtain ⟨hP, hD⟩ := hH
  obtain ⟨A, hAe, h, hA, hAn⟩ := ct_enter B.2.2.2.2.2.2.2.2 hsz hP hD
  rw [hAe]
  refine ct_gen h (fun H locs h => ?_)
  have hx := B.1
  have hb := B.2.1
  have hl : lv_has ls 5 [(0, .ref (ad 4)), (1, .ref (ad 5)), (2, .int (nI a)), (3, .int (nI n))] := hl
  refine lv_iconst (v := nI 0) hx hb dX3_add_0 (by decide) ?_
  refine lv_istore (lv' := [(4, .int (nI 0)), (0, .ref (ad 4)), (1, .ref (ad 5)), (2, .int (nI a)), (3, .int (nI n))]) hx hb dX3_add_1 hl (by decide) rfl (fun ls hl => ?_)
  refine ct_loopH (σ := Nat) (fun k H locs ls => lv_has ls 5 [(4, .int (nI k)), (0, .ref (ad 4)), (1, .ref (ad 5)), (2, .int (nI a)), (3, .int (nI n))] ∧ Hs E A s.heap (xw E ad F O S (made, all, wn, (va_cpy wb wb a wn k)) (txt, size, at_, means, meant, starts, lens, cnt, cols) R) H locs ∧ (k ≤ n)) (fun k => n - k) (fun _ => 0) (fun _ => 0) (g := fun k ls => F0 m 3 ls []) (x0 := 0) (ls0 := ls) ?_ ⟨lv_sub hl [0, 1, 2, 3, 4] rfl, (by rw [cpy_0]; exact h), Nat.zero_le _⟩
  clear hl h
  intro k H locs ls hI ih_1
  obtain ⟨hl, h, hk⟩ := hI
  refine W.eq (g2 := F0 m 3 ls []) rfl ?_
  refine lv_iload hx hb dX3_add_3 (lv_at hl 0 rfl) ?_
  refine lv_iload_n hx hb dX3_add_5 rfl (lv_at hl 4 rfl) ?_
  refine n_icmp_ge (tgt := 33) hx hb dX3_add_6 (by decide) (by omega) (by omega) (fun c_2 => ?_) (fun c_2 => ?_)
  · have ek : k = n := by omega
    rw [ek] at h
    refine lv_aload_n hx hb dX3_add_33 rfl (lv_at hl 1 rfl) ?_
    refine lv_dup hx hb dX3_add_34 rfl ?_
    refine ct_get (v := .int (nI wn)) B h.1 kX3 4 rfl 1 (Nat.le_of_ble_eq_true rfl) q184 rfl dX3_add_35 ?_
    refine lv_iload_n hx hb dX3_add_38 rfl (lv_at hl 4 rfl) ?_
    refine n_iadd hx hb dX3_add_39 ?_
    refine ct_put (ws' := xw E ad F O S (made, all, wn + n, (va_cpy wb wb a wn n)) (txt, size, at_, means, meant, starts, lens, cnt, cols) R) B h kX3 4 rfl 1 (Nat.le_of_ble_eq_true rfl) q184 rfl rfl rfl (Nat.le_of_ble_eq_true rfl) rfl dX3_add_40 (fun H locs h => ?_)
    refine lv_aload_n hx hb dX3_add_43 rfl (lv_at hl 1 rfl) ?_
    refine ct_get (v := .int (nI (wn + n))) B h.1 kX3 4 rfl 1 (Nat.le_of_ble_eq_true rfl) q184 rfl dX3_add_44 ?_
    refine lv_iload_n hx hb dX3_add_47 rfl (lv_at hl 4 rfl) ?_
    refine n_isub hx hb (by omega) dX3_add_48 ?_
    refine W.eq (g2 := F0 m 49 ls [.int (nI wn)]) (by rw [Nat.add_sub_cancel]) ?_
    exact ct_iret (ty := .int) (v := (nI wn)) B rfl rfl h.2.2 ⟨rfl, h.1⟩ dX3_add_49
  · refine lv_aload_n hx hb dX3_add_9 rfl (lv_at hl 1 rfl) ?_
    refine ct_get (v := .ref (ad 5)) B h.1 kX3 4 rfl 0 (Nat.le_of_ble_eq_true rfl) q182 rfl dX3_add_10 ?_
    refine lv_aload_n hx hb dX3_add_13 rfl (lv_at hl 1 rfl) ?_
    refine ct_get (v := .int (nI wn)) B h.1 kX3 4 rfl 1 (Nat.le_of_ble_eq_true rfl) q184 rfl dX3_add_14 ?_
    refine lv_iload hx hb dX3_add_17 (lv_at hl 0 rfl) ?_
    refine n_iadd hx hb dX3_add_19 ?_
    refine lv_aload_n hx hb dX3_add_20 rfl (lv_at hl 2 rfl) ?_
    refine lv_iload_n hx hb dX3_add_21 rfl (lv_at hl 3 rfl) ?_
    refine lv_iload hx hb dX3_add_22 (lv_at hl 0 rfl) ?_
    refine n_iadd hx hb dX3_add_24 ?_
    refine ct_bald (f := (va_cpy wb wb a wn k)) B h.1 5 rfl (by omega) (by omega) dX3_add_25 ?_
    refine ct_bast (ws' := xw E ad F O S (made, all, wn, (va_cpy wb wb a wn (k + 1))) (txt, size, at_, means, meant, starts, lens, cnt, cols) R) B h 5 rfl (by omega) (by omega) (congrArg (fun z9 => (xw E ad F O S (made, all, wn, z9) (txt, size, at_, means, meant, starts, lens, cnt, cols) R : va_W)) ((by rw [show va_cpy wb wb a wn k (a + k) = wb (a + k) from if_neg (by omega), hf k (by omega)]; exact cpy_S wb wb a wn k : upd (va_cpy wb wb a wn k) (wn + k) (vp_nar .byte (va_cpy wb wb a wn k (a + k))) = va_cpy wb wb a wn (k + 1)))) dX3_add_26 (fun H locs h => ?_)
    refine n_iinc (n := 1) (lv' := [(4, .int (nI (k + 1))), (0, .ref (ad 4)), (1, .ref (ad 5)), (2, .int (nI a)), (3, .int (nI n))]) hx hb dX3_add_27 hl (k := 0) rfl rfl (by decide) (by decide) rfl (fun ls hl => ?_)
    refine lv_goto (tgt := 3) hx hb dX3_add_30 (by decide) ?_
    exact ih_1 (k + 1) H locs ls (by omega) ⟨lv_sub hl [0, 1, 2, 3, 4] rfl, h, by omega⟩
set_option maxHeartbeats 4000000 in
set_option maxRecDepth 100000 in
theorem met_X2_make (l : Launch) (E : CE) (ad : Nat → Nat) (F : XF) (O : XO) (code : Int32) (splace : Int32) (made : Nat) (all : Nat → Option Nat) (wn : Nat) (wb : Nat → Int32) (txt : Option Nat) (size : Nat) (at_ : Nat) (means : Nat → Int32) (meant : Nat) (starts : Nat → Int32) (lens : Nat → Int32) (cnt : Nat) (cols : Nat) (R : XR) (rw_ : Nat) (W_ : List Wd) (sz : Nat) (hcs : 1 ≤ cols ∧ cols ≤ 16) (hrw : rw_ ≤ 499) (hW : W_.length = cols + cols * rw_) (hmt : meant = tot W_) (hpw : pWs means starts lens W_) (hmm : meant ≤ 16000) (hm : made ≤ 40) (hwn : wn ≤ 65536) : MetX l yX2_make (ws_ yX2_make cX2_make 5 (some .int)) { frames := 11, cells := 6, slots := 7 + (3 * cols + 2 * (cols * rw_)), locals := 261 } (ctP E [.ref (ad 3), .int (nI rw_)] sz (fun H => va_P E.1 ct_cl (xw E ad F O (code, splace) (made, all, wn, wb) (txt, size, at_, means, meant, starts, lens, cnt, cols) R) H ∧ va_D (fun q => E.2.2.1 ≤ q) (xw E ad F O (code, splace) (made, all, wn, wb) (txt, size, at_, means, meant, starts, lens, cnt, cols) R))) (ctX (fun v H => ∃ q2 : Nat → Nat, ∃ f2 : Nat → Nat → Int32, ∃ wb2 : Nat → Int32, v = some (.int (nI (made + 1))) ∧ va_P E.1 ct_cl (xw E ad F O (code, splace) (made + 1, va_up all (made + 1) (some (q2 0)), wn + meant, wb2) (txt, size, at_, means, meant, starts, lens, cnt, cols) R) H ∧ (made < 40 ∧ wn + meant ≤ 65536) ∧ wb2 = va_cpy means wb 0 wn meant ∧ va_P E.1 ct_cl (tw E q2 cols rw_ f2) H ∧ (∀ j, j < 6 → sz ≤ q2 j) ∧ TD wb2 (wn + meant) cols (f2 0) (f2 1) (fun k => W_.getD (0 + k) ([], false)) ∧ TD wb2 (wn + meant) (cols * rw_) (f2 2) (f2 3) (fun k => W_.getD (cols + k) ([], false)) ∧ (∀ j, j < cols → f2 4 j = nI (laneT cols rw_ (fun k => W_.getD (cols + k) ([], false)) j))) (fun x H => x = ad 20 ∧ va_P E.1 ct_cl (xw E ad F O ((nI 12), (-1)) (made, all, wn, wb) (txt, size, at_, means, meant, starts, lens, cnt, cols) R) H ∧ (made = 40 ∨ 65536 < wn + meant)) (va_A (xw E ad F O (code, splace) (made, all, wn, wb) (txt, size, at_, means, meant, starts, lens, cnt, cols) R) sz)) 6 (7 + (3 * cols + 2 * (cols * rw_))) (va_A (xw E ad F O (code, splace) (made, all, wn, wb) (txt, size, at_, means, meant, starts, lens, cnt, cols) R) sz) := by
  refine ct_startX (by decide) (Nat.le_of_ble_eq_true rfl) ?_
  intro p e s m below meth c ls B hno hsz hH hl
  obtain ⟨hP, hD⟩ := hH
  obtain ⟨A, hAe, h, hA, hAn⟩ := ct_enter B.2.2.2.2.2.2.2.2 hsz hP hD
  rw [hAe]
  refine ct_gen h (fun H locs h => ?_)
  have hx := B.1
  have hb := B.2.1
  have hl : lv_has ls 5 [(0, .ref (ad 3)), (1, .int (nI rw_))] := hl
  have hmul := mul_cs hcs.2 hrw
  refine lv_aload_n hx hb dX2_make_0 rfl (lv_at hl 0 rfl) ?_
  refine ct_get (v := .int (nI made)) B h.1 kX2 3 rfl 3 (Nat.le_of_ble_eq_true rfl) q218 rfl dX2_make_1 ?_
  refine lv_bipush (v := nI 40) hx hb dX2_make_4 (by decide) ?_
  refine n_icmp_eq (tgt := 23) hx hb dX2_make_6 (by decide) (by omega) (by omega) (fun c40 => ?_) (fun c40 => ?_)
  · refine lv_aload_n hx hb dX2_make_23 rfl (lv_at hl 0 rfl) ?_
    refine ct_get (v := .ref (ad 2)) B h.1 kX2 3 rfl 0 (Nat.le_of_ble_eq_true rfl) q215 rfl dX2_make_24 ?_
    refine lv_bipush (v := nI 12) hx hb dX2_make_27 (by decide) ?_
    refine ct_callQ (ct_runV (As := [.int (nI 12)]) (rest := []) B (met_X1_with l E ad F O code splace (made, all, wn, wb) (txt, size, at_, means, meant, starts, lens, cnt, cols) R (nI 12) H.size) (lw_V q381 q382 q383 q45 q384) (n := 1) ⟨by decide, by decide, by decide +kernel⟩ rfl ⟨rfl, rfl, (Nat.le_of_ble_eq_true rfl), (Nat.le_of_ble_eq_true rfl), (by dsimp only; omega), (by dsimp only; omega)⟩ h.2.2 hA (ct_recv B h.1 kX1 2 rfl) ⟨h.1, (ct_D0 h hA)⟩ hl.1 (Nat.le_of_ble_eq_true rfl) dX2_make_29) h.2.2 (ct_sub h hAn) (ct_sub h hAn) (fun v H locs hv hz hk hS => ?_)
    obtain ⟨rfl, hP1⟩ := hv
    have h : Hs E A s.heap (xw E ad F O ((nI 12), (-1)) (made, all, wn, wb) (txt, size, at_, means, meant, starts, lens, cnt, cols) R) H locs := ct_again h hP1 rfl hS
    clear hP1 hS hz hk
    refine W.eq (g2 := F0 m 32 ls [.ref (ad 20)]) rfl ?_
    refine W.widen (k := 6) (n := 7 + (3 * cols + 2 * (cols * rw_))) (by omega) (by omega) ?_
    exact ct_athrow B hno h.2.2 ⟨rfl, h.1, by omega⟩ dX2_make_32
  · refine lv_aload_n hx hb dX2_make_9 rfl (lv_at hl 0 rfl) ?_
    refine ct_get (v := .ref (ad 4)) B h.1 kX2 3 rfl 1 (Nat.le_of_ble_eq_true rfl) q216 rfl dX2_make_10 ?_
    refine lv_aload_n hx hb dX2_make_13 rfl (lv_at hl 0 rfl) ?_
    refine ct_get (v := .int (nI meant)) B h.1 kX2 3 rfl 8 (Nat.le_of_ble_eq_true rfl) q223 rfl dX2_make_14 ?_
    refine ct_callR (ct_runV (As := [.int (nI meant)]) (rest := []) B (met_X3_hasRoom l E ad F O (code, splace) made all wn wb (txt, size, at_, means, meant, starts, lens, cnt, cols) R meant H.size (by omega) hwn) (lw_V q377 q378 q379 q51 q380) (n := 1) ⟨by decide, by decide, by decide +kernel⟩ rfl ⟨rfl, rfl, (Nat.le_of_ble_eq_true rfl), (Nat.le_of_ble_eq_true rfl), (by dsimp only; omega), (by dsimp only; omega)⟩ h.2.2 hA (ct_recv B h.1 kX3 4 rfl) h.1 hl.1 (Nat.le_of_ble_eq_true rfl) dX2_make_17) (fun v hv => ?_)
    subst hv
    refine W.eq (g2 := F0 m 20 ls [.int (if wn + meant ≤ 65536 then 1 else 0)]) rfl ?_
    refine b_if_ne (tgt := 33) hx hb dX2_make_20 (by decide) (fun croom => ?_) (fun croom => ?_)
    · refine ct_new (fs := [.int 0, .int 0, .null, .null, .null, .null, .null]) B h hAn kX9 q190 q386 q57 (by intro j9 hj9; rcases j9 with _ | _ | _ | _ | _ | _ | _ | j9 <;> first | rfl | omega) (by dsimp only; omega) (by dsimp only; omega) dX2_make_33 (fun tn H h htn => ?_)
      refine lv_dup hx hb dX2_make_36 rfl ?_
      refine lv_aload_n hx hb dX2_make_37 rfl (lv_at hl 0 rfl) ?_
      refine ct_get (v := .int (nI cols)) B h.1 kX2 3 rfl 12 (Nat.le_of_ble_eq_true rfl) q227 rfl dX2_make_38 ?_
      refine lv_iload_n hx hb dX2_make_41 rfl (lv_at hl 1 rfl) ?_
      refine ct_callQ (ct_runI (b := tn) (As := [.int (nI cols), .int (nI rw_)]) (rest := [.ref tn]) B (met_X9_init l E tn cols rw_ H.size (by omega) (by omega)) q389 q57 q387 q388 rfl (n := 2) ⟨by decide, by decide, by decide +kernel⟩ rfl ⟨rfl, rfl, (Nat.le_of_ble_eq_true rfl), (Nat.le_of_ble_eq_true rfl), (by dsimp only; omega), (by dsimp only; omega)⟩ h.2.2 hA ⟨ct_Pr h.1, ct_Dr (ct_D0 h hA)⟩ hl.1 (Nat.le_of_ble_eq_true rfl) dX2_make_42) h.2.2 (ct_subR h hAn) (ct_subR h hAn) (fun v H locs hv hz hk hS => ?_)
      obtain ⟨rfl, q, hq0, hP1, hD1⟩ := hv
      have hqf := twm_fresh h.2.2.1 htn hD1
      have h : Hs E A s.heap (xw E ad F O (code, splace) (made, all, wn, wb) (txt, size, at_, means, meant, starts, lens, cnt, cols) R ++ twm E q cols rw_ (fun _ => 0) (fun _ => 0) (fun _ => 0) (fun _ => 0) (fun _ => 0)) H locs := ct_frR h hP1 hD1 hk hS hAn
      clear hP1 hS hz hk hD1
      refine W.eq (g2 := F0 m 45 ls [.ref (q 0)]) (by rw [hq0] <;> rfl) ?_
      refine lv_astore_n (lv' := [(2, .ref (q 0)), (0, .ref (ad 3)), (1, .int (nI rw_))]) hx hb dX2_make_45 rfl hl (by decide) rfl (fun ls hl => ?_)
      refine lv_aload_n hx hb dX2_make_46 rfl (lv_at hl 1 rfl) ?_
      refine ct_get (v := .ref (ad 4)) B h.1 kX2 3 rfl 1 (Nat.le_of_ble_eq_true rfl) q216 rfl dX2_make_47 ?_
      refine lv_aload_n hx hb dX2_make_50 rfl (lv_at hl 1 rfl) ?_
      refine ct_get (v := .ref (ad 7)) B h.1 kX2 3 rfl 7 (Nat.le_of_ble_eq_true rfl) q222 rfl dX2_make_51 ?_
      refine lv_iconst (v := nI 0) hx hb dX2_make_54 (by decide) ?_
      refine lv_aload_n hx hb dX2_make_55 rfl (lv_at hl 1 rfl) ?_
      refine ct_get (v := .int (nI meant)) B h.1 kX2 3 rfl 8 (Nat.le_of_ble_eq_true rfl) q223 rfl dX2_make_56 ?_
      refine ct_callQ (ct_runV (As := [.ref (ad 7), .int (nI 0), .int (nI meant)]) (rest := []) B (met_X3_addNM l E ad F O (code, splace) made all wn wb txt size at_ means meant starts lens cnt cols R 0 meant H.size (by intro j hj; rw [Nat.zero_add]; exact pWs_byte hpw j (by omega)) croom (by omega)) (lw_V q424 q425 q426 q51 q427) (n := 3) ⟨by decide, by decide, by decide +kernel⟩ rfl ⟨rfl, rfl, (Nat.le_of_ble_eq_true rfl), (Nat.le_of_ble_eq_true rfl), (by dsimp only; omega), (by dsimp only; omega)⟩ h.2.2 hA (ct_recv B h.1 kX3 4 rfl) ⟨(ct_Pl h.1), (ct_Dl (ct_D0 h hA))⟩ hl.1 (Nat.le_of_ble_eq_true rfl) dX2_make_59) h.2.2 (ct_subL h hAn) (ct_subL h hAn) (fun v H locs hv hz hk hS => ?_)
      obtain ⟨rfl, hP1⟩ := hv
      have h : Hs E A s.heap (xw E ad F O (code, splace) (made, all, wn + meant, va_cpy means wb 0 wn meant) (txt, size, at_, means, meant, starts, lens, cnt, cols) R ++ twm E q cols rw_ (fun _ => 0) (fun _ => 0) (fun _ => 0) (fun _ => 0) (fun _ => 0)) H locs := ct_frLs h hP1 rfl hk hS hAn
      clear hP1 hS hz hk
      refine W.eq (g2 := F0 m 62 ls [.int (nI wn)]) rfl ?_
      refine lv_istore_n (lv' := [(3, .int (nI wn)), (2, .ref (q 0)), (0, .ref (ad 3)), (1, .int (nI rw_))]) hx hb dX2_make_62 rfl hl (by decide) rfl (fun ls hl => ?_)
      refine W.widen (k := 6) (n := 7 + (3 * cols + 2 * (cols * rw_))) (by omega) (by omega) ?_
      refine lv_iconst (v := nI 0) hx hb dX2_make_63 (by decide) ?_
      refine lv_istore (lv' := [(4, .int (nI 0)), (3, .int (nI wn)), (2, .ref (q 0)), (0, .ref (ad 3)), (1, .int (nI rw_))]) hx hb dX2_make_64 hl (by decide) rfl (fun ls hl => ?_)
      refine ct_loopH (σ := Nat × (Nat → Int32) × (Nat → Int32)) (fun (c_, g0, g1) H locs ls => lv_has ls 5 [(4, .int (nI c_)), (3, .int (nI wn)), (2, .ref (q 0)), (0, .ref (ad 3)), (1, .int (nI rw_))] ∧ Hs E A s.heap (xw E ad F O (code, splace) (made, all, wn + meant, (va_cpy means wb 0 wn meant)) (txt, size, at_, means, meant, starts, lens, cnt, cols) R ++ twm E q cols rw_ g0 g1 (fun _ => 0) (fun _ => 0) (fun _ => 0)) H locs ∧ (c_ ≤ cols) ∧ (∀ j, j < c_ → g0 j = nI (wn + tot (W_.take j))) ∧ (∀ j, j < c_ → g1 j = encL (W_.getD j ([], false)))) (fun (c_, g0, g1) => cols - c_) (fun _ => 6) (fun _ => 7 + (3 * cols + 2 * (cols * rw_))) (g := fun (c_, g0, g1) ls => F0 m 66 ls []) (x0 := (0, (fun _ => 0), (fun _ => 0))) (ls0 := ls) ?_ ⟨lv_sub hl [0, 1, 2, 3, 4] rfl, h, Nat.zero_le _, fun j hj => absurd hj (Nat.not_lt_zero j), fun j hj => absurd hj (Nat.not_lt_zero j)⟩
      clear hl h
      intro x9 H locs ls hI ih_1
      obtain ⟨c_, g0, g1⟩ := x9
      obtain ⟨hl, h, hc_, h0_, h1_⟩ := hI
      refine W.eq (g2 := F0 m 66 ls []) rfl ?_
      refine lv_iload hx hb dX2_make_66 (lv_at hl 0 rfl) ?_
      refine lv_aload_n hx hb dX2_make_68 rfl (lv_at hl 3 rfl) ?_
      refine ct_get (v := .int (nI cols)) B h.1 kX2 3 rfl 12 (Nat.le_of_ble_eq_true rfl) q227 rfl dX2_make_69 ?_
      refine n_icmp_ge (tgt := 111) hx hb dX2_make_72 (by decide) (by omega) (by omega) (fun c_2 => ?_) (fun c_2 => ?_)
      · refine lv_iconst (v := nI 0) hx hb dX2_make_111 (by decide) ?_
        refine lv_istore (lv' := [(4, .int (nI 0)), (3, .int (nI wn)), (2, .ref (q 0)), (0, .ref (ad 3)), (1, .int (nI rw_))]) hx hb dX2_make_112 hl (by decide) rfl (fun ls hl => ?_)
        refine ct_loopH (σ := Nat × (Nat → Int32) × (Nat → Int32)) (fun (k, g2, g3) H locs ls => lv_has ls 5 [(4, .int (nI k)), (3, .int (nI wn)), (2, .ref (q 0)), (0, .ref (ad 3)), (1, .int (nI rw_))] ∧ Hs E A s.heap (xw E ad F O (code, splace) (made, all, wn + meant, (va_cpy means wb 0 wn meant)) (txt, size, at_, means, meant, starts, lens, cnt, cols) R ++ twm E q cols rw_ g0 g1 g2 g3 (fun _ => 0)) H locs ∧ (k ≤ cols * rw_) ∧ (∀ j, j < k → g2 j = nI (wn + tot (W_.take (cols + j)))) ∧ (∀ j, j < k → g3 j = encL (W_.getD (cols + j) ([], false)))) (fun (k, g2, g3) => cols * rw_ - k) (fun _ => 6) (fun _ => 7 + (3 * cols + 2 * (cols * rw_))) (g := fun (k, g2, g3) ls => F0 m 114 ls []) (x0 := (0, (fun _ => 0), (fun _ => 0))) (ls0 := ls) ?_ ⟨lv_sub hl [0, 1, 2, 3, 4] rfl, h, Nat.zero_le _, fun j hj => absurd hj (Nat.not_lt_zero j), fun j hj => absurd hj (Nat.not_lt_zero j)⟩
        clear hl h
        intro x9 H locs ls hI ih_3
        obtain ⟨k, g2, g3⟩ := x9
        obtain ⟨hl, h, hk_, h2_, h3_⟩ := hI
        refine W.eq (g2 := F0 m 114 ls []) rfl ?_
        refine lv_iload hx hb dX2_make_114 (lv_at hl 0 rfl) ?_
        refine lv_aload_n hx hb dX2_make_116 rfl (lv_at hl 3 rfl) ?_
        refine ct_get (v := .int (nI cols)) B h.1 kX2 3 rfl 12 (Nat.le_of_ble_eq_true rfl) q227 rfl dX2_make_117 ?_
        refine lv_iload_n hx hb dX2_make_120 rfl (lv_at hl 4 rfl) ?_
        refine n_imul hx hb dX2_make_121 ?_
        refine n_icmp_ge (tgt := 171) hx hb dX2_make_122 (by decide) (by omega) (by omega) (fun c_4 => ?_) (fun c_4 => ?_)
        · have hTD2 : TD (va_cpy means wb 0 wn meant) (wn + meant) (cols * rw_) g2 g3 (fun k => W_.getD (cols + k) ([], false)) := by rw [hmt]; exact TD_of hpw (by omega) (by omega) (fun k hk => h2_ k (by omega)) (fun k hk => h3_ k (by omega))
          have hTD0 : TD (va_cpy means wb 0 wn meant) (wn + meant) cols g0 g1 (fun k => W_.getD (0 + k) ([], false)) := by rw [hmt]; exact TD_of hpw (by omega) (by omega) (fun k hk => by rw [Nat.zero_add]; exact h0_ k (by omega)) (fun k hk => by rw [Nat.zero_add]; exact h1_ k (by omega))
          refine lv_aload_n hx hb dX2_make_171 rfl (lv_at hl 3 rfl) ?_
          refine lv_aload_n hx hb dX2_make_172 rfl (lv_at hl 2 rfl) ?_
          refine ct_callQ (ct_runV (As := [.ref (q 0)]) (rest := []) B (met_X2_finish l E ad q cols rw_ F O (code, splace) made all (wn + meant) (va_cpy means wb 0 wn meant) (txt, size, at_, means, meant, starts, lens, cnt, cols) R g0 g1 g2 g3 (fun _ => 0) (fun k => W_.getD (cols + k) ([], false)) H.size (by omega) (by omega) (by omega) hcs.2 hTD2) (lw_V q428 q430 qs12 q50 q431) (n := 1) ⟨by decide, by decide, by decide +kernel⟩ rfl ⟨rfl, rfl, (Nat.le_of_ble_eq_true rfl), (Nat.le_of_ble_eq_true rfl), (by dsimp only; omega), (by dsimp only; omega)⟩ h.2.2 hA (ct_recv B h.1 kX2 3 rfl) ⟨h.1, (ct_D0 h hA)⟩ hl.1 (Nat.le_of_ble_eq_true rfl) dX2_make_173) h.2.2 (ct_sub h hAn) (ct_sub h hAn) (fun v H locs hv hz hk hS => ?_)
          obtain ⟨ln_m, rfl, hP1, hlm⟩ := hv
          have h : Hs E A s.heap (xw E ad F O (code, splace) (made + 1, va_up all (made + 1) (some (q 0)), wn + meant, (va_cpy means wb 0 wn meant)) (txt, size, at_, means, meant, starts, lens, cnt, cols) R ++ twm E q cols rw_ g0 g1 g2 g3 ln_m) H locs := ct_again h hP1 rfl hS
          clear hP1 hS hz hk
          refine W.eq (g2 := F0 m 176 ls [.int (nI (made + 1))]) rfl ?_
          refine W.widen (k := 6) (n := 7 + (3 * cols + 2 * (cols * rw_))) (by omega) (by omega) ?_
          exact ct_toX (ct_iret (ty := .int) (v := (nI (made + 1))) B rfl rfl h.2.2 ⟨q, (tf g0 g1 g2 g3 ln_m), _, rfl, (ct_Pl h.1), ⟨by omega, by omega⟩, rfl, ct_Pr h.1, (by rw [← hsz]; exact hqf), hTD0, hTD2, hlm⟩ dX2_make_176)
        · refine lv_aload_n hx hb dX2_make_125 rfl (lv_at hl 2 rfl) ?_
          refine ct_get (v := .ref (q 3)) B h.1 kX9 20 rfl 4 (Nat.le_of_ble_eq_true rfl) q402 rfl dX2_make_126 ?_
          refine lv_iload hx hb dX2_make_129 (lv_at hl 0 rfl) ?_
          refine lv_iload_n hx hb dX2_make_131 rfl (lv_at hl 1 rfl) ?_
          refine lv_aload_n hx hb dX2_make_132 rfl (lv_at hl 3 rfl) ?_
          refine ct_get (v := .ref (ad 8)) B h.1 kX2 3 rfl 9 (Nat.le_of_ble_eq_true rfl) q224 rfl dX2_make_133 ?_
          refine lv_aload_n hx hb dX2_make_136 rfl (lv_at hl 3 rfl) ?_
          refine ct_get (v := .int (nI cols)) B h.1 kX2 3 rfl 12 (Nat.le_of_ble_eq_true rfl) q227 rfl dX2_make_137 ?_
          refine lv_iload hx hb dX2_make_140 (lv_at hl 0 rfl) ?_
          refine n_iadd hx hb dX2_make_142 ?_
          refine ct_iald (f := starts) B h.1 8 rfl (by omega) (by omega) dX2_make_143 ?_
          refine W.eq (g2 := F0 m 144 ls [.int (nI (tot (W_.take (cols + k)))), .int (nI wn), .int (nI k), .ref (q 3)]) (by rw [(hpw (cols + k) (by omega)).1]) ?_
          refine n_iadd hx hb dX2_make_144 ?_
          refine ct_iast (ws' := xw E ad F O (code, splace) (made, all, wn + meant, (va_cpy means wb 0 wn meant)) (txt, size, at_, means, meant, starts, lens, cnt, cols) R ++ twm E q cols rw_ g0 g1 (upd g2 k (nI (wn + (tot (W_.take (cols + k)))))) g3 (fun _ => 0)) B h 23 rfl (by omega) (by omega) rfl dX2_make_145 (fun H locs h => ?_)
          refine lv_aload_n hx hb dX2_make_146 rfl (lv_at hl 2 rfl) ?_
          refine ct_get (v := .ref (q 4)) B h.1 kX9 20 rfl 5 (Nat.le_of_ble_eq_true rfl) q405 rfl dX2_make_147 ?_
          refine lv_iload hx hb dX2_make_150 (lv_at hl 0 rfl) ?_
          refine lv_aload_n hx hb dX2_make_152 rfl (lv_at hl 3 rfl) ?_
          refine ct_get (v := .ref (ad 9)) B h.1 kX2 3 rfl 10 (Nat.le_of_ble_eq_true rfl) q225 rfl dX2_make_153 ?_
          refine lv_aload_n hx hb dX2_make_156 rfl (lv_at hl 3 rfl) ?_
          refine ct_get (v := .int (nI cols)) B h.1 kX2 3 rfl 12 (Nat.le_of_ble_eq_true rfl) q227 rfl dX2_make_157 ?_
          refine lv_iload hx hb dX2_make_160 (lv_at hl 0 rfl) ?_
          refine n_iadd hx hb dX2_make_162 ?_
          refine ct_bald (f := lens) B h.1 9 rfl (by omega) (by omega) dX2_make_163 ?_
          refine W.eq (g2 := F0 m 164 ls [.int (encL (W_.getD (cols + k) ([], false))), .int (nI k), .ref (q 4)]) (by rw [(hpw (cols + k) (by omega)).2.1]) ?_
          refine ct_bast (ws' := xw E ad F O (code, splace) (made, all, wn + meant, (va_cpy means wb 0 wn meant)) (txt, size, at_, means, meant, starts, lens, cnt, cols) R ++ twm E q cols rw_ g0 g1 (upd g2 k (nI (wn + (tot (W_.take (cols + k)))))) (upd g3 k (encL (W_.getD (cols + k) ([], false)))) (fun _ => 0)) B h 24 rfl (by omega) (by omega) (congrArg (fun z9 => (xw E ad F O (code, splace) (made, all, wn + meant, (va_cpy means wb 0 wn meant)) (txt, size, at_, means, meant, starts, lens, cnt, cols) R ++ twm E q cols rw_ g0 g1 (upd g2 k (nI (wn + (tot (W_.take (cols + k)))))) z9 (fun _ => 0) : va_W)) ((by rw [enc_b (hpw (cols + k) (by omega)).2.2.2.2.2] : upd g3 k (vp_nar .byte (encL (W_.getD (cols + k) ([], false)))) = upd g3 k (encL (W_.getD (cols + k) ([], false)))))) dX2_make_164 (fun H locs h => ?_)
          refine n_iinc (n := 1) (lv' := [(4, .int (nI (k + 1))), (3, .int (nI wn)), (2, .ref (q 0)), (0, .ref (ad 3)), (1, .int (nI rw_))]) hx hb dX2_make_165 hl (k := 0) rfl rfl (by decide) (by decide) rfl (fun ls hl => ?_)
          refine lv_goto (tgt := 114) hx hb dX2_make_168 (by decide) ?_
          exact ih_3 ((k + 1), (upd g2 k (nI (wn + (tot (W_.take (cols + k)))))), (upd g3 k (encL (W_.getD (cols + k) ([], false))))) H locs ls (by dsimp only; omega) ⟨lv_sub hl [0, 1, 2, 3, 4] rfl, h, by omega, fun j hj => by by_cases q9 : j = k; rw [q9, upd_s]; rw [upd_n q9]; exact h2_ j (by omega), fun j hj => by by_cases q9 : j = k; rw [q9, upd_s]; rw [upd_n q9]; exact h3_ j (by omega)⟩
      · refine lv_aload_n hx hb dX2_make_75 rfl (lv_at hl 2 rfl) ?_
        refine ct_get (v := .ref (q 1)) B h.1 kX9 20 rfl 2 (Nat.le_of_ble_eq_true rfl) q398 rfl dX2_make_76 ?_
        refine lv_iload hx hb dX2_make_79 (lv_at hl 0 rfl) ?_
        refine lv_iload_n hx hb dX2_make_81 rfl (lv_at hl 1 rfl) ?_
        refine lv_aload_n hx hb dX2_make_82 rfl (lv_at hl 3 rfl) ?_
        refine ct_get (v := .ref (ad 8)) B h.1 kX2 3 rfl 9 (Nat.le_of_ble_eq_true rfl) q224 rfl dX2_make_83 ?_
        refine lv_iload hx hb dX2_make_86 (lv_at hl 0 rfl) ?_
        refine ct_iald (f := starts) B h.1 8 rfl (by omega) (by omega) dX2_make_88 ?_
        refine W.eq (g2 := F0 m 89 ls [.int (nI (tot (W_.take c_))), .int (nI wn), .int (nI c_), .ref (q 1)]) (by rw [(hpw c_ (by omega)).1]) ?_
        refine n_iadd hx hb dX2_make_89 ?_
        refine ct_iast (ws' := xw E ad F O (code, splace) (made, all, wn + meant, (va_cpy means wb 0 wn meant)) (txt, size, at_, means, meant, starts, lens, cnt, cols) R ++ twm E q cols rw_ (upd g0 c_ (nI (wn + (tot (W_.take c_))))) g1 (fun _ => 0) (fun _ => 0) (fun _ => 0)) B h 21 rfl (by omega) (by omega) rfl dX2_make_90 (fun H locs h => ?_)
        refine lv_aload_n hx hb dX2_make_91 rfl (lv_at hl 2 rfl) ?_
        refine ct_get (v := .ref (q 2)) B h.1 kX9 20 rfl 3 (Nat.le_of_ble_eq_true rfl) q400 rfl dX2_make_92 ?_
        refine lv_iload hx hb dX2_make_95 (lv_at hl 0 rfl) ?_
        refine lv_aload_n hx hb dX2_make_97 rfl (lv_at hl 3 rfl) ?_
        refine ct_get (v := .ref (ad 9)) B h.1 kX2 3 rfl 10 (Nat.le_of_ble_eq_true rfl) q225 rfl dX2_make_98 ?_
        refine lv_iload hx hb dX2_make_101 (lv_at hl 0 rfl) ?_
        refine ct_bald (f := lens) B h.1 9 rfl (by omega) (by omega) dX2_make_103 ?_
        refine W.eq (g2 := F0 m 104 ls [.int (encL (W_.getD c_ ([], false))), .int (nI c_), .ref (q 2)]) (by rw [(hpw c_ (by omega)).2.1]) ?_
        refine ct_bast (ws' := xw E ad F O (code, splace) (made, all, wn + meant, (va_cpy means wb 0 wn meant)) (txt, size, at_, means, meant, starts, lens, cnt, cols) R ++ twm E q cols rw_ (upd g0 c_ (nI (wn + (tot (W_.take c_))))) (upd g1 c_ (encL (W_.getD c_ ([], false)))) (fun _ => 0) (fun _ => 0) (fun _ => 0)) B h 22 rfl (by omega) (by omega) (congrArg (fun z9 => (xw E ad F O (code, splace) (made, all, wn + meant, (va_cpy means wb 0 wn meant)) (txt, size, at_, means, meant, starts, lens, cnt, cols) R ++ twm E q cols rw_ (upd g0 c_ (nI (wn + (tot (W_.take c_))))) z9 (fun _ => 0) (fun _ => 0) (fun _ => 0) : va_W)) ((by rw [enc_b (hpw c_ (by omega)).2.2.2.2.2] : upd g1 c_ (vp_nar .byte (encL (W_.getD c_ ([], false)))) = upd g1 c_ (encL (W_.getD c_ ([], false)))))) dX2_make_104 (fun H locs h => ?_)
        refine n_iinc (n := 1) (lv' := [(4, .int (nI (c_ + 1))), (3, .int (nI wn)), (2, .ref (q 0)), (0, .ref (ad 3)), (1, .int (nI rw_))]) hx hb dX2_make_105 hl (k := 0) rfl rfl (by decide) (by decide) rfl (fun ls hl => ?_)
        refine lv_goto (tgt := 66) hx hb dX2_make_108 (by decide) ?_
        exact ih_1 ((c_ + 1), (upd g0 c_ (nI (wn + (tot (W_.take c_))))), (upd g1 c_ (encL (W_.getD c_ ([], false))))) H locs ls (by dsimp only; omega) ⟨lv_sub hl [0, 1, 2, 3, 4] rfl, h, by omega, fun j hj => by by_cases q9 : j = c_; rw [q9, upd_s]; rw [upd_n q9]; exact h0_ j (by omega), fun j hj => by by_cases q9 : j = c_; rw [q9, upd_s]; rw [upd_n q9]; exact h1_ j (by omega)⟩
    · refine lv_aload_n hx hb dX2_make_23 rfl (lv_at hl 0 rfl) ?_
      refine ct_get (v := .ref (ad 2)) B h.1 kX2 3 rfl 0 (Nat.le_of_ble_eq_true rfl) q215 rfl dX2_make_24 ?_
      refine lv_bipush (v := nI 12) hx hb dX2_make_27 (by decide) ?_
      refine ct_callQ (ct_runV (As := [.int (nI 12)]) (rest := []) B (met_X1_with l E ad F O code splace (made, all, wn, wb) (txt, size, at_, means, meant, starts, lens, cnt, cols) R (nI 12) H.size) (lw_V q381 q382 q383 q45 q384) (n := 1) ⟨by decide, by decide, by decide +kernel⟩ rfl ⟨rfl, rfl, (Nat.le_of_ble_eq_true rfl), (Nat.le_of_ble_eq_true rfl), (by dsimp only; omega), (by dsimp only; omega)⟩ h.2.2 hA (ct_recv B h.1 kX1 2 rfl) ⟨h.1, (ct_D0 h hA)⟩ hl.1 (Nat.le_of_ble_eq_true rfl) dX2_make_29) h.2.2 (ct_sub h hAn) (ct_sub h hAn) (fun v H locs hv hz hk hS => ?_)
      obtain ⟨rfl, hP1⟩ := hv
      have h : Hs E A s.heap (xw E ad F O ((nI 12), (-1)) (made, all, wn, wb) (txt, size, at_, means, meant, starts, lens, cnt, cols) R) H locs := ct_again h hP1 rfl hS
      clear hP1 hS hz hk
      refine W.eq (g2 := F0 m 32 ls [.ref (ad 20)]) rfl ?_
      refine W.widen (k := 6) (n := 7 + (3 * cols + 2 * (cols * rw_))) (by omega) (by omega) ?_
      exact ct_athrow B hno h.2.2 ⟨rfl, h.1, by omega⟩ dX2_make_32
