set_option maxHeartbeats 4000000 in
set_option maxRecDepth 100000 in
theorem met_X3_addM (l : Launch) (E : CE) (ad : Nat → Nat) (F : XF) (O : XO) (S : XS) (made : Nat) (all : Nat → Option Nat) (wn : Nat) (wb : Nat → Int32) (txt : Option Nat) (size : Nat) (at_ : Nat) (means : Nat → Int32) (meant : Nat) (starts : Nat → Int32) (lens : Nat → Int32) (cnt : Nat) (cols : Nat) (R : XR) (a n : Nat) (sz : Nat) (hf : bF means) (hn : wn + n ≤ 65536) (ha : a + n ≤ 16000) : Met l yX3_add (ws_ yX3_add cX3_add 5 (some .int)) { frames := 0, cells := 0, slots := 0, locals := 0 } (ctP E [.ref (ad 4), .ref (ad 7), .int (nI a), .int (nI n)] sz (fun H => va_P E.1 ct_cl (xw E ad F O S (made, all, wn, wb) (txt, size, at_, means, meant, starts, lens, cnt, cols) R) H ∧ va_D (fun q => E.2.2.1 ≤ q) (xw E ad F O S (made, all, wn, wb) (txt, size, at_, means, meant, starts, lens, cnt, cols) R))) (ctQ (fun v H => v = some (.int (nI wn)) ∧ va_P E.1 ct_cl (xw E ad F O S (made, all, wn + n, va_cpy means wb a wn n) (txt, size, at_, means, meant, starts, lens, cnt, cols) R) H) (va_A (xw E ad F O S (made, all, wn, wb) (txt, size, at_, means, meant, starts, lens, cnt, cols) R) sz)) 0 0 (va_A (xw E ad F O S (made, all, wn, wb) (txt, size, at_, means, meant, starts, lens, cnt, cols) R) sz) := by
  refine ct_start (by decide) (Nat.le_of_ble_eq_true rfl) ?_
  intro p e s m below meth c ls B hsz hH hl
  obtain ⟨hP, hD⟩ := hH
  obtain ⟨A, hAe, h, hA, hAn⟩ := ct_enter B.2.2.2.2.2.2.2.2 hsz hP hD
  rw [hAe]
  refine ct_gen h (fun H locs h => ?_)
  have hx := B.1
  have hb := B.2.1
  have hl : lv_has ls 5 [(0, .ref (ad 4)), (1, .ref (ad 7)), (2, .int (nI a)), (3, .int (nI n))] := hl
  refine lv_iconst (v := nI 0) hx hb dX3_add_0 (by decide) ?_
  refine lv_istore (lv' := [(4, .int (nI 0)), (0, .ref (ad 4)), (1, .ref (ad 7)), (2, .int (nI a)), (3, .int (nI n))]) hx hb dX3_add_1 hl (by decide) rfl (fun ls hl => ?_)
  refine ct_loopH (σ := Nat) (fun k H locs ls => lv_has ls 5 [(4, .int (nI k)), (0, .ref (ad 4)), (1, .ref (ad 7)), (2, .int (nI a)), (3, .int (nI n))] ∧ Hs E A s.heap (xw E ad F O S (made, all, wn, (va_cpy means wb a wn k)) (txt, size, at_, means, meant, starts, lens, cnt, cols) R) H locs ∧ (k ≤ n)) (fun k => n - k) (fun _ => 0) (fun _ => 0) (g := fun k ls => F0 m 3 ls []) (x0 := 0) (ls0 := ls) ?_ ⟨lv_sub hl [0, 1, 2, 3, 4] rfl, (by rw [cpy_0]; exact h), Nat.zero_le _⟩
  clear hl h
  intro k H locs ls hI ih_1
  obtain ⟨hl, h, hk⟩ := hI
  refine W.eq (g2 := F0 m 3 ls []) rfl ?_
  refine lv_iload hx hb dX3_add_3 (lv_at hl 0 rfl) ?_
  refine lv_iload_n hx hb dX3_add_5 rfl (lv_at hl 4 rfl) ?_
  refine n_icmp_ge (tgt := 33) hx hb dX3_add_6 (by decide) (by omega) (by omega) (fun c_2 => ?_) (fun c_2 => ?_)
  · have ek : k = n := by omega
    rw [ek] at h
    refine lv_aload_n hx hb dX3_add_33 rfl (lv_at hl 1 rfl) ?_
    refine lv_dup hx hb dX3_add_34 rfl ?_
    refine ct_get (v := .int (nI wn)) B h.1 kX3 4 rfl 1 (Nat.le_of_ble_eq_true rfl) q184 rfl dX3_add_35 ?_
    refine lv_iload_n hx hb dX3_add_38 rfl (lv_at hl 4 rfl) ?_
    refine n_iadd hx hb dX3_add_39 ?_
    refine ct_put (ws' := xw E ad F O S (made, all, wn + n, (va_cpy means wb a wn n)) (txt, size, at_, means, meant, starts, lens, cnt, cols) R) B h kX3 4 rfl 1 (Nat.le_of_ble_eq_true rfl) q184 rfl rfl rfl (Nat.le_of_ble_eq_true rfl) rfl dX3_add_40 (fun H locs h => ?_)
    refine lv_aload_n hx hb dX3_add_43 rfl (lv_at hl 1 rfl) ?_
    refine ct_get (v := .int (nI (wn + n))) B h.1 kX3 4 rfl 1 (Nat.le_of_ble_eq_true rfl) q184 rfl dX3_add_44 ?_
    refine lv_iload_n hx hb dX3_add_47 rfl (lv_at hl 4 rfl) ?_
    refine n_isub hx hb (by omega) dX3_add_48 ?_
    refine W.eq (g2 := F0 m 49 ls [.int (nI wn)]) (by rw [Nat.add_sub_cancel]) ?_
    exact ct_iret (ty := .int) (v := (nI wn)) B rfl rfl h.2.2 ⟨rfl, h.1⟩ dX3_add_49
  · refine lv_aload_n hx hb dX3_add_9 rfl (lv_at hl 1 rfl) ?_
    refine ct_get (v := .ref (ad 5)) B h.1 kX3 4 rfl 0 (Nat.le_of_ble_eq_true rfl) q182 rfl dX3_add_10 ?_
    refine lv_aload_n hx hb dX3_add_13 rfl (lv_at hl 1 rfl) ?_
    refine ct_get (v := .int (nI wn)) B h.1 kX3 4 rfl 1 (Nat.le_of_ble_eq_true rfl) q184 rfl dX3_add_14 ?_
    refine lv_iload hx hb dX3_add_17 (lv_at hl 0 rfl) ?_
    refine n_iadd hx hb dX3_add_19 ?_
    refine lv_aload_n hx hb dX3_add_20 rfl (lv_at hl 2 rfl) ?_
    refine lv_iload_n hx hb dX3_add_21 rfl (lv_at hl 3 rfl) ?_
    refine lv_iload hx hb dX3_add_22 (lv_at hl 0 rfl) ?_
    refine n_iadd hx hb dX3_add_24 ?_
    refine ct_bald (f := means) B h.1 7 rfl (by omega) (by omega) dX3_add_25 ?_
    refine ct_bast (ws' := xw E ad F O S (made, all, wn, (va_cpy means wb a wn (k + 1))) (txt, size, at_, means, meant, starts, lens, cnt, cols) R) B h 5 rfl (by omega) (by omega) (congrArg (fun z9 => (xw E ad F O S (made, all, wn, z9) (txt, size, at_, means, meant, starts, lens, cnt, cols) R : va_W)) (cpy_Sn hf a wn k)) dX3_add_26 (fun H locs h => ?_)
    refine n_iinc (n := 1) (lv' := [(4, .int (nI (k + 1))), (0, .ref (ad 4)), (1, .ref (ad 7)), (2, .int (nI a)), (3, .int (nI n))]) hx hb dX3_add_27 hl (k := 0) rfl rfl (by decide) (by decide) rfl (fun ls hl => ?_)
    refine lv_goto (tgt := 3) hx hb dX3_add_30 (by decide) ?_
    exact ih_1 (k + 1) H locs ls (by omega) ⟨lv_sub hl [0, 1, 2, 3, 4] rfl, h, by omega⟩
set_option maxHeartbeats 4000000 in
set_option maxRecDepth 100000 in
theorem met_X3_addW (l : Launch) (E : CE) (ad : Nat → Nat) (F : XF) (O : XO) (S : XS) (made : Nat) (all : Nat → Option Nat) (wn : Nat) (wb : Nat → Int32) (txt : Option Nat) (size : Nat) (at_ : Nat) (means : Nat → Int32) (meant : Nat) (starts : Nat → Int32) (lens : Nat → Int32) (cnt : Nat) (cols : Nat) (R : XR) (a n : Nat) (sz : Nat) (hf : bF wb) (hn : wn + n ≤ 65536) (ha : a + n ≤ wn) : Met l yX3_add (ws_ yX3_add cX3_add 5 (some .int)) { frames := 0, cells := 0, slots := 0, locals := 0 } (ctP E [.ref (ad 4), .ref (ad 5), .int (nI a), .int (nI n)] sz (fun H => va_P E.1 ct_cl (xw E ad F O S (made, all, wn, wb) (txt, size, at_, means, meant, starts, lens, cnt, cols) R) H ∧ va_D (fun q => E.2.2.1 ≤ q) (xw E ad F O S (made, all, wn, wb) (txt, size, at_, means, meant, starts, lens, cnt, cols) R))) (ctQ (fun v H => v = some (.int (nI wn)) ∧ va_P E.1 ct_cl (xw E ad F O S (made, all, wn + n, va_cpy wb wb a wn n) (txt, size, at_, means, meant, starts, lens, cnt, cols) R) H) (va_A (xw E ad F O S (made, all, wn, wb) (txt, size, at_, means, meant, starts, lens, cnt, cols) R) sz)) 0 0 (va_A (xw E ad F O S (made, all, wn, wb) (txt, size, at_, means, meant, starts, lens, cnt, cols) R) sz) := by
  refine ct_start (by decide) (Nat.le_of_ble_eq_true rfl) ?_
  intro p e s m below meth c ls B hsz hH hl
  obtain ⟨hP, hD⟩ := hH
  obtain ⟨A, hAe, h, hA, hAn⟩ := ct_enter B.2.2.2.2.2.2.2.2 hsz hP hD
  rw [hAe]
  refine ct_gen h (fun H locs h => ?_)
  have hx := B.1
  have hb := B.2.1
  have hl : lv_has ls 5 [(0, .ref (ad 4)), (1, .ref (ad 5)), (2, .int (nI a)), (3, .int (nI n))] := hl
  refine lv_iconst (v := nI 0) hx hb dX3_add_0 (by decide) ?_
  refine lv_istore (lv' := [(4, .int (nI 0)), (0, .ref (ad 4)), (1, .ref (ad 5)), (2, .int (nI a)), (3, .int (nI n))]) hx hb dX3_add_1 hl (by decide) rfl (fun ls hl => ?_)
  refine ct_loopH (σ := Nat) (fun k H locs ls => lv_has ls 5 [(4, .int (nI k)), (0, .ref (ad 4)), (1, .ref (ad 5)), (2, .int (nI a)), (3, .int (nI n))] ∧ Hs E A s.heap (xw E ad F O S (made, all, wn, (va_cpy wb wb a wn k)) (txt, size, at_, means, meant, starts, lens, cnt, cols) R) H locs ∧ (k ≤ n)) (fun k => n - k) (fun _ => 0) (fun _ => 0) (g := fun k ls => F0 m 3 ls []) (x0 := 0) (ls0 := ls) ?_ ⟨lv_sub hl [0, 1, 2, 3, 4] rfl, (by rw [cpy_0]; exact h), Nat.zero_le _⟩
  clear hl h
  intro k H locs ls hI ih_1
  obtain ⟨hl, h, hk⟩ := hI
  refine W.eq (g2 := F0 m 3 ls []) rfl ?_
  refine lv_iload hx hb dX3_add_3 (lv_at hl 0 rfl) ?_
  refine lv_iload_n hx hb dX3_add_5 rfl (lv_at hl 4 rfl) ?_
  refine n_icmp_ge (tgt := 33) hx hb dX3_add_6 (by decide) (by omega) (by omega) (fun c_2 => ?_) (fun c_2 => ?_)
  · have ek : k = n := by omega
    rw [ek] at h
    refine lv_aload_n hx hb dX3_add_33 rfl (lv_at hl 1 rfl) ?_
    refine lv_dup hx hb dX3_add_34 rfl ?_
    refine ct_get (v := .int (nI wn)) B h.1 kX3 4 rfl 1 (Nat.le_of_ble_eq_true rfl) q184 rfl dX3_add_35 ?_
    refine lv_iload_n hx hb dX3_add_38 rfl (lv_at hl 4 rfl) ?_
    refine n_iadd hx hb dX3_add_39 ?_
    refine ct_put (ws' := xw E ad F O S (made, all, wn + n, (va_cpy wb wb a wn n)) (txt, size, at_, means, meant, starts, lens, cnt, cols) R) B h kX3 4 rfl 1 (Nat.le_of_ble_eq_true rfl) q184 rfl rfl rfl (Nat.le_of_ble_eq_true rfl) rfl dX3_add_40 (fun H locs h => ?_)
    refine lv_aload_n hx hb dX3_add_43 rfl (lv_at hl 1 rfl) ?_
    refine ct_get (v := .int (nI (wn + n))) B h.1 kX3 4 rfl 1 (Nat.le_of_ble_eq_true rfl) q184 rfl dX3_add_44 ?_
    refine lv_iload_n hx hb dX3_add_47 rfl (lv_at hl 4 rfl) ?_
    refine n_isub hx hb (by omega) dX3_add_48 ?_
    refine W.eq (g2 := F0 m 49 ls [.int (nI wn)]) (by rw [Nat.add_sub_cancel]) ?_
    exact ct_iret (ty := .int) (v := (nI wn)) B rfl rfl h.2.2 ⟨rfl, h.1⟩ dX3_add_49
  · refine lv_aload_n hx hb dX3_add_9 rfl (lv_at hl 1 rfl) ?_
    refine ct_get (v := .ref (ad 5)) B h.1 kX3 4 rfl 0 (Nat.le_of_ble_eq_true rfl) q182 rfl dX3_add_10 ?_
    refine lv_aload_n hx hb dX3_add_13 rfl (lv_at hl 1 rfl) ?_
    refine ct_get (v := .int (nI wn)) B h.1 kX3 4 rfl 1 (Nat.le_of_ble_eq_true rfl) q184 rfl dX3_add_14 ?_
    refine lv_iload hx hb dX3_add_17 (lv_at hl 0 rfl) ?_
    refine n_iadd hx hb dX3_add_19 ?_
    refine lv_aload_n hx hb dX3_add_20 rfl (lv_at hl 2 rfl) ?_
    refine lv_iload_n hx hb dX3_add_21 rfl (lv_at hl 3 rfl) ?_
    refine lv_iload hx hb dX3_add_22 (lv_at hl 0 rfl) ?_
    refine n_iadd hx hb dX3_add_24 ?_
    refine ct_bald (f := (va_cpy wb wb a wn k)) B h.1 5 rfl (by omega) (by omega) dX3_add_25 ?_
    refine ct_bast (ws' := xw E ad F O S (made, all, wn, (va_cpy wb wb a wn (k + 1))) (txt, size, at_, means, meant, starts, lens, cnt, cols) R) B h 5 rfl (by omega) (by omega) (congrArg (fun z9 => (xw E ad F O S (made, all, wn, z9) (txt, size, at_, means, meant, starts, lens, cnt, cols) R : va_W)) ((by rw [show va_cpy wb wb a wn k (a + k) = wb (a + k) from if_neg (by omega)]; exact cpy_Sn hf a wn k : upd (va_cpy wb wb a wn k) (wn + k) (vp_nar .byte (va_cpy wb wb a wn k (a + k))) = va_cpy wb wb a wn (k + 1)))) dX3_add_26 (fun H locs h => ?_)
    refine n_iinc (n := 1) (lv' := [(4, .int (nI (k + 1))), (0, .ref (ad 4)), (1, .ref (ad 5)), (2, .int (nI a)), (3, .int (nI n))]) hx hb dX3_add_27 hl (k := 0) rfl rfl (by decide) (by decide) rfl (fun ls hl => ?_)
    refine lv_goto (tgt := 3) hx hb dX3_add_30 (by decide) ?_
    exact ih_1 (k + 1) H locs ls (by omega) ⟨lv_sub hl [0, 1, 2, 3, 4] rfl, h, by omega⟩
