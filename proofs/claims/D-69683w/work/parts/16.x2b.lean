set_option maxHeartbeats 4000000 in
set_option maxRecDepth 100000 in
theorem met_X9_isMissing (l : Launch) (E : CE)  (q : Nat → Nat) (cols rows k : Nat) (f : Nat → Nat → Int32) (w : Wd) (sz : Nat) (hk : k < cols * rows) (hn : cols * rows < 2147483648) (hw : f 3 k = encL w) (hwl : w.1.length ≤ 40) : Met l yX9_isMissing (ws_ yX9_isMissing cX9_isMissing 2 (some .boolean)) { frames := 0, cells := 0, slots := 0, locals := 0 } (ctP E [.ref (q 0), .int (nI k)] sz (fun H => va_P E.1 ct_cl (tw E q cols rows f) H)) (ctR (fun v => v = some (.int (if w.1 = [] ∧ w.2 = false then 1 else 0)))) 0 0 (fun _ => False) := by
  refine ct_start (by decide) (Nat.le_of_ble_eq_true rfl) ?_
  intro p e s m below meth c ls B hsz hH hl
  have hT0 := hH
  have hx := B.1
  have hb := B.2.1
  have hl : lv_has ls 2 [(0, .ref (q 0)), (1, .int (nI k))] := hl
  refine lv_aload_n hx hb dX9_isMissing_0 rfl (lv_at hl 0 rfl) ?_
  refine ct_get (v := .ref (q 4)) B hT0 kX9 0 rfl 5 (Nat.le_of_ble_eq_true rfl) q404 rfl dX9_isMissing_1 ?_
  refine lv_iload_n hx hb dX9_isMissing_4 rfl (lv_at hl 1 rfl) ?_
  refine ct_bald (f := f 3) B hT0 4 rfl (by omega) (by omega) dX9_isMissing_5 ?_
  refine W.eq (g2 := F0 m 6 ls [.int (encL w)]) (by rw [hw]) ?_
  refine lv_if_ge (tgt := 13) hx hb dX9_isMissing_6 (by decide) (fun c_1 => ?_) (fun c_1 => ?_)
  · refine lv_iconst (v := nI 0) hx hb dX9_isMissing_13 (by decide) ?_
    exact ct_iretR (ty := .boolean) (v := (nI 0)) B rfl rfl (by rw [if_neg] <;> first | rfl | exact (encL_neg hwl).mp (Int32.not_le.mp c_1) | exact fun q => Int32.not_lt.mpr c_1 ((encL_neg hwl).mpr q)) dX9_isMissing_14
  · refine lv_iconst (v := nI 1) hx hb dX9_isMissing_9 (by decide) ?_
    refine lv_goto (tgt := 14) hx hb dX9_isMissing_10 (by decide) ?_
    exact ct_iretR (ty := .boolean) (v := (nI 1)) B rfl rfl (by rw [if_pos] <;> first | rfl | exact (encL_neg hwl).mp (Int32.not_le.mp c_1) | exact fun q => Int32.not_lt.mpr c_1 ((encL_neg hwl).mpr q)) dX9_isMissing_14
set_option maxHeartbeats 4000000 in
set_option maxRecDepth 100000 in
theorem met_X9_isQuoted (l : Launch) (E : CE)  (q : Nat → Nat) (cols rows k : Nat) (f : Nat → Nat → Int32) (w : Wd) (sz : Nat) (hk : k < cols * rows) (hn : cols * rows < 2147483648) (hw : f 3 k = encL w) (hwl : w.1.length ≤ 40) : Met l yX9_isQuoted (ws_ yX9_isQuoted cX9_isQuoted 2 (some .boolean)) { frames := 0, cells := 0, slots := 0, locals := 0 } (ctP E [.ref (q 0), .int (nI k)] sz (fun H => va_P E.1 ct_cl (tw E q cols rows f) H)) (ctR (fun v => v = some (.int (if w.2 = true then 1 else 0)))) 0 0 (fun _ => False) := by
  refine ct_start (by decide) (Nat.le_of_ble_eq_true rfl) ?_
  intro p e s m below meth c ls B hsz hH hl
  have hT0 := hH
  have hx := B.1
  have hb := B.2.1
  have hl : lv_has ls 2 [(0, .ref (q 0)), (1, .int (nI k))] := hl
  refine lv_aload_n hx hb dX9_isQuoted_0 rfl (lv_at hl 0 rfl) ?_
  refine ct_get (v := .ref (q 4)) B hT0 kX9 0 rfl 5 (Nat.le_of_ble_eq_true rfl) q404 rfl dX9_isQuoted_1 ?_
  refine lv_iload_n hx hb dX9_isQuoted_4 rfl (lv_at hl 1 rfl) ?_
  refine ct_bald (f := f 3) B hT0 4 rfl (by omega) (by omega) dX9_isQuoted_5 ?_
  refine W.eq (g2 := F0 m 6 ls [.int (encL w)]) (by rw [hw]) ?_
  refine lv_bipush (v := nI 64) hx hb dX9_isQuoted_6 (by decide) ?_
  refine lv_icmp_lt (tgt := 15) hx hb dX9_isQuoted_8 (by decide) (fun c_1 => ?_) (fun c_1 => ?_)
  · refine lv_iconst (v := nI 0) hx hb dX9_isQuoted_15 (by decide) ?_
    exact ct_iretR (ty := .boolean) (v := (nI 0)) B rfl rfl (by rw [if_neg] <;> first | rfl | exact (encL_quo hwl).mp (Int32.not_lt.mp c_1) | exact fun q => Int32.not_le.mpr c_1 ((encL_quo hwl).mpr q)) dX9_isQuoted_16
  · refine lv_iconst (v := nI 1) hx hb dX9_isQuoted_11 (by decide) ?_
    refine lv_goto (tgt := 16) hx hb dX9_isQuoted_12 (by decide) ?_
    exact ct_iretR (ty := .boolean) (v := (nI 1)) B rfl rfl (by rw [if_pos] <;> first | rfl | exact (encL_quo hwl).mp (Int32.not_lt.mp c_1) | exact fun q => Int32.not_le.mpr c_1 ((encL_quo hwl).mpr q)) dX9_isQuoted_16
set_option maxHeartbeats 4000000 in
set_option maxRecDepth 100000 in
theorem met_X9_length (l : Launch) (E : CE)  (q : Nat → Nat) (cols rows k : Nat) (f : Nat → Nat → Int32) (w : Wd) (sz : Nat) (hk : k < cols * rows) (hn : cols * rows < 2147483648) (hw : f 3 k = encL w) (hwl : w.1.length ≤ 40) : Met l yX9_length (ws_ yX9_length cX9_length 2 (some .int)) { frames := 0, cells := 0, slots := 0, locals := 0 } (ctP E [.ref (q 0), .int (nI k)] sz (fun H => va_P E.1 ct_cl (tw E q cols rows f) H)) (ctR (fun v => v = some (.int (nI w.1.length)))) 0 0 (fun _ => False) := by
  refine ct_start (by decide) (Nat.le_of_ble_eq_true rfl) ?_
  intro p e s m below meth c ls B hsz hH hl
  have hT0 := hH
  have hx := B.1
  have hb := B.2.1
  have hl : lv_has ls 2 [(0, .ref (q 0)), (1, .int (nI k))] := hl
  refine lv_aload_n hx hb dX9_length_0 rfl (lv_at hl 0 rfl) ?_
  refine ct_get (v := .ref (q 4)) B hT0 kX9 0 rfl 5 (Nat.le_of_ble_eq_true rfl) q404 rfl dX9_length_1 ?_
  refine lv_iload_n hx hb dX9_length_4 rfl (lv_at hl 1 rfl) ?_
  refine ct_bald (f := f 3) B hT0 4 rfl (by omega) (by omega) dX9_length_5 ?_
  refine W.eq (g2 := F0 m 6 ls [.int (encL w)]) (by rw [hw]) ?_
  refine lv_if_ge (tgt := 13) hx hb dX9_length_6 (by decide) (fun c_1 => ?_) (fun c_1 => ?_)
  · refine lv_aload_n hx hb dX9_length_13 rfl (lv_at hl 0 rfl) ?_
    refine ct_get (v := .ref (q 4)) B hT0 kX9 0 rfl 5 (Nat.le_of_ble_eq_true rfl) q404 rfl dX9_length_14 ?_
    refine lv_iload_n hx hb dX9_length_17 rfl (lv_at hl 1 rfl) ?_
    refine ct_bald (f := f 3) B hT0 4 rfl (by omega) (by omega) dX9_length_18 ?_
    refine W.eq (g2 := F0 m 19 ls [.int (encL w)]) (by rw [hw]) ?_
    refine lv_bipush (v := nI 63) hx hb dX9_length_19 (by decide) ?_
    refine lv_iand hx hb dX9_length_21 ?_
    exact ct_iretR (ty := .int) (v := ((encL w) &&& (nI 63))) B rfl rfl (by rw [encL_len hwl (Int32.not_lt.mpr c_1)]) dX9_length_22
  · refine lv_iconst (v := nI 0) hx hb dX9_length_9 (by decide) ?_
    refine lv_goto (tgt := 22) hx hb dX9_length_10 (by decide) ?_
    exact ct_iretR (ty := .int) (v := (nI 0)) B rfl rfl (by rw [encL_len0 hwl (Int32.not_le.mp c_1)]) dX9_length_22
set_option maxHeartbeats 4000000 in
set_option maxRecDepth 100000 in
theorem met_X2_length (l : Launch) (E : CE) (ad : Nat → Nat) (F : XF) (O : XO) (S : XS) (T : XT) (txt : Option Nat) (size : Nat) (at_ : Nat) (means : Nat → Int32) (meant : Nat) (starts : Nat → Int32) (lens : Nat → Int32) (cnt : Nat) (cols : Nat) (R : XR) (k : Nat) (w : Wd) (sz : Nat) (hk : k < 8000) (hw : lens k = encL w) (hwl : w.1.length ≤ 40) : Met l yX2_length (ws_ yX2_length cX2_length 2 (some .int)) { frames := 0, cells := 0, slots := 0, locals := 0 } (ctP E [.ref (ad 3), .int (nI k)] sz (fun H => va_P E.1 ct_cl (xw E ad F O S T (txt, size, at_, means, meant, starts, lens, cnt, cols) R) H)) (ctR (fun v => v = some (.int (nI w.1.length)))) 0 0 (fun _ => False) := by
  refine ct_start (by decide) (Nat.le_of_ble_eq_true rfl) ?_
  intro p e s m below meth c ls B hsz hH hl
  have hP := hH
  have hx := B.1
  have hb := B.2.1
  have hl : lv_has ls 2 [(0, .ref (ad 3)), (1, .int (nI k))] := hl
  refine lv_aload_n hx hb dX2_length_0 rfl (lv_at hl 0 rfl) ?_
  refine ct_get (v := .ref (ad 9)) B hP kX2 3 rfl 10 (Nat.le_of_ble_eq_true rfl) q225 rfl dX2_length_1 ?_
  refine lv_iload_n hx hb dX2_length_4 rfl (lv_at hl 1 rfl) ?_
  refine ct_bald (f := lens) B hP 9 rfl (by omega) (by omega) dX2_length_5 ?_
  refine W.eq (g2 := F0 m 6 ls [.int (encL w)]) (by rw [hw]) ?_
  refine lv_if_ge (tgt := 13) hx hb dX2_length_6 (by decide) (fun c_1 => ?_) (fun c_1 => ?_)
  · refine lv_aload_n hx hb dX2_length_13 rfl (lv_at hl 0 rfl) ?_
    refine ct_get (v := .ref (ad 9)) B hP kX2 3 rfl 10 (Nat.le_of_ble_eq_true rfl) q225 rfl dX2_length_14 ?_
    refine lv_iload_n hx hb dX2_length_17 rfl (lv_at hl 1 rfl) ?_
    refine ct_bald (f := lens) B hP 9 rfl (by omega) (by omega) dX2_length_18 ?_
    refine W.eq (g2 := F0 m 19 ls [.int (encL w)]) (by rw [hw]) ?_
    refine lv_bipush (v := nI 63) hx hb dX2_length_19 (by decide) ?_
    refine lv_iand hx hb dX2_length_21 ?_
    exact ct_iretR (ty := .int) (v := ((encL w) &&& (nI 63))) B rfl rfl (by rw [encL_len hwl (Int32.not_lt.mpr c_1)]) dX2_length_22
  · refine lv_iconst (v := nI 0) hx hb dX2_length_9 (by decide) ?_
    refine lv_goto (tgt := 22) hx hb dX2_length_10 (by decide) ?_
    exact ct_iretR (ty := .int) (v := (nI 0)) B rfl rfl (by rw [encL_len0 hwl (Int32.not_le.mp c_1)]) dX2_length_22
set_option maxHeartbeats 4000000 in
set_option maxRecDepth 100000 in
theorem met_X3_compare (l : Launch) (E : CE) (ad : Nat → Nat) (F : XF) (O : XO) (S : XS) (made : Nat) (all : Nat → Option Nat) (wn : Nat) (wb : Nat → Int32) (P : XP) (R : XR) (a b : Nat) (t u : List Nat) (sz : Nat) (ht : tAt wb a t) (hu : tAt wb b u) : Met l yX3_compare (ws_ yX3_compare cX3_compare 6 (some .int)) { frames := 1, cells := 0, slots := 0, locals := 25 } (ctP E [.ref (ad 4), .int (nI a), .int (nI t.length), .int (nI b), .int (nI u.length)] sz (fun H => va_P E.1 ct_cl (xw E ad F O S (made, all, wn, wb) P R) H)) (ctR (fun v => v = some (.int (cmpI t u)))) 0 0 (fun _ => False) := by
  refine ct_start (by decide) (Nat.le_of_ble_eq_true rfl) ?_
  intro p e s m below meth c ls B hsz hH hl
  have hP := hH
  have hx := B.1
  have hb := B.2.1
  have hl : lv_has ls 6 [(0, .ref (ad 4)), (1, .int (nI a)), (2, .int (nI t.length)), (3, .int (nI b)), (4, .int (nI u.length))] := hl
  have hta := ht.2.2
  have hua := hu.2.2
  refine lv_iconst (v := nI 0) hx hb dX3_compare_0 (by decide) ?_
  refine lv_istore (lv' := [(5, .int (nI 0)), (0, .ref (ad 4)), (1, .int (nI a)), (2, .int (nI t.length)), (3, .int (nI b)), (4, .int (nI u.length))]) hx hb dX3_compare_1 hl (by decide) rfl (fun ls hl => ?_)
  refine ct_loop (σ := Nat) (fun k ls => lv_has ls 6 [(5, .int (nI k)), (0, .ref (ad 4)), (1, .int (nI a)), (2, .int (nI t.length)), (3, .int (nI b)), (4, .int (nI u.length))] ∧ (k ≤ t.length) ∧ (k ≤ u.length) ∧ (cmpI t u = cmpI (t.drop k) (u.drop k))) (fun k => t.length - k) (g := fun k ls => F0 m 3 ls []) (x0 := 0) (ls0 := ls) ?_ ⟨lv_sub hl [0, 1, 2, 3, 4, 5] rfl, Nat.zero_le _, Nat.zero_le _, rfl⟩
  clear hl
  intro k ls hI ih_1
  obtain ⟨hl, hk1, hk2, hc⟩ := hI
  refine W.eq (g2 := F0 m 3 ls []) rfl ?_
  refine lv_iload hx hb dX3_compare_3 (lv_at hl 0 rfl) ?_
  refine lv_iload_n hx hb dX3_compare_5 rfl (lv_at hl 3 rfl) ?_
  refine lv_iload hx hb dX3_compare_6 (lv_at hl 5 rfl) ?_
  refine n_min B q589 q590 q70 q591 hl.1 (Nat.le_of_ble_eq_true rfl) (Nat.le_of_ble_eq_true rfl) (Nat.le_of_ble_eq_true rfl) (Nat.le_of_ble_eq_true rfl) (by omega) (by omega) dX3_compare_8 ?_
  refine W.eq (g2 := F0 m 11 ls [.int (nI (min t.length u.length)), .int (nI k)]) rfl ?_
  refine n_icmp_ge (tgt := 68) hx hb dX3_compare_11 (by decide) (by omega) (by omega) (fun c_2 => ?_) (fun c_2 => ?_)
  · refine lv_iload_n hx hb dX3_compare_68 rfl (lv_at hl 3 rfl) ?_
    refine lv_iload hx hb dX3_compare_69 (lv_at hl 5 rfl) ?_
    refine ct_callR (ct_runS (As := [.int (nI t.length), .int (nI u.length)]) (rest := []) B (met_J17_compare l E  t.length u.length s.heap.size (by omega) (by omega)) (lw_S q592 q593 q78 q594) (n := 2) ⟨by decide, by decide, by decide +kernel⟩ rfl ⟨rfl, rfl, (Nat.le_of_ble_eq_true rfl), (Nat.le_of_ble_eq_true rfl), (Nat.le_of_ble_eq_true rfl), (Nat.le_of_ble_eq_true rfl)⟩ (va_S.rf (A := fun _ => False)) (fun _ h => h.elim) trivial hl.1 (Nat.le_of_ble_eq_true rfl) dX3_compare_71) (fun v hv => ?_)
    subst hv
    refine W.eq (g2 := F0 m 74 ls [.int (if t.length < u.length then (-1) else if t.length = u.length then 0 else 1)]) rfl ?_
    exact ct_iretR (ty := .int) (v := (if t.length < u.length then (-1) else if t.length = u.length then 0 else 1)) B rfl rfl (by rw [hc, cmp_end (by omega) (by omega) (by omega)]) dX3_compare_74
  · refine lv_aload_n hx hb dX3_compare_14 rfl (lv_at hl 1 rfl) ?_
    refine ct_get (v := .ref (ad 5)) B hP kX3 4 rfl 0 (Nat.le_of_ble_eq_true rfl) q182 rfl dX3_compare_15 ?_
    refine lv_iload_n hx hb dX3_compare_18 rfl (lv_at hl 2 rfl) ?_
    refine lv_iload hx hb dX3_compare_19 (lv_at hl 0 rfl) ?_
    refine n_iadd hx hb dX3_compare_21 ?_
    refine ct_bald (f := wb) B hP 5 rfl (by omega) (by omega) dX3_compare_22 ?_
    refine W.eq (g2 := F0 m 23 ls [.int (nI (t.getD k 0))]) (by rw [ht.1 k (by omega)]) ?_
    refine lv_aload_n hx hb dX3_compare_23 rfl (lv_at hl 1 rfl) ?_
    refine ct_get (v := .ref (ad 5)) B hP kX3 4 rfl 0 (Nat.le_of_ble_eq_true rfl) q182 rfl dX3_compare_24 ?_
    refine lv_iload_n hx hb dX3_compare_27 rfl (lv_at hl 4 rfl) ?_
    refine lv_iload hx hb dX3_compare_28 (lv_at hl 0 rfl) ?_
    refine n_iadd hx hb dX3_compare_30 ?_
    refine ct_bald (f := wb) B hP 5 rfl (by omega) (by omega) dX3_compare_31 ?_
    refine W.eq (g2 := F0 m 32 ls [.int (nI (u.getD k 0)), .int (nI (t.getD k 0))]) (by rw [hu.1 k (by omega)]) ?_
    refine n_icmp_eq (tgt := 62) hx hb dX3_compare_32 (by decide) (by have := tAt_rg ht (j := k) (by omega); omega) (by have := tAt_rg hu (j := k) (by omega); omega) (fun ceq => ?_) (fun ceq => ?_)
    · refine n_iinc (n := 1) (lv' := [(5, .int (nI (k + 1))), (0, .ref (ad 4)), (1, .int (nI a)), (2, .int (nI t.length)), (3, .int (nI b)), (4, .int (nI u.length))]) hx hb dX3_compare_62 hl (k := 0) rfl rfl (by decide) (by decide) rfl (fun ls hl => ?_)
      refine lv_goto (tgt := 3) hx hb dX3_compare_65 (by decide) ?_
      exact ih_1 (k + 1) ls (by omega) ⟨lv_sub hl [0, 1, 2, 3, 4, 5] rfl, by omega, by omega, hc.trans (cmp_eq (by omega) (by omega) ceq)⟩
    · refine lv_aload_n hx hb dX3_compare_35 rfl (lv_at hl 1 rfl) ?_
      refine ct_get (v := .ref (ad 5)) B hP kX3 4 rfl 0 (Nat.le_of_ble_eq_true rfl) q182 rfl dX3_compare_36 ?_
      refine lv_iload_n hx hb dX3_compare_39 rfl (lv_at hl 2 rfl) ?_
      refine lv_iload hx hb dX3_compare_40 (lv_at hl 0 rfl) ?_
      refine n_iadd hx hb dX3_compare_42 ?_
      refine ct_bald (f := wb) B hP 5 rfl (by omega) (by omega) dX3_compare_43 ?_
      refine W.eq (g2 := F0 m 44 ls [.int (nI (t.getD k 0))]) (by rw [ht.1 k (by omega)]) ?_
      refine lv_aload_n hx hb dX3_compare_44 rfl (lv_at hl 1 rfl) ?_
      refine ct_get (v := .ref (ad 5)) B hP kX3 4 rfl 0 (Nat.le_of_ble_eq_true rfl) q182 rfl dX3_compare_45 ?_
      refine lv_iload_n hx hb dX3_compare_48 rfl (lv_at hl 4 rfl) ?_
      refine lv_iload hx hb dX3_compare_49 (lv_at hl 0 rfl) ?_
      refine n_iadd hx hb dX3_compare_51 ?_
      refine ct_bald (f := wb) B hP 5 rfl (by omega) (by omega) dX3_compare_52 ?_
      refine W.eq (g2 := F0 m 53 ls [.int (nI (u.getD k 0)), .int (nI (t.getD k 0))]) (by rw [hu.1 k (by omega)]) ?_
      refine n_icmp_ge (tgt := 60) hx hb dX3_compare_53 (by decide) (by have := tAt_rg ht (j := k) (by omega); omega) (by have := tAt_rg hu (j := k) (by omega); omega) (fun c_3 => ?_) (fun c_3 => ?_)
      · refine lv_iconst (v := nI 1) hx hb dX3_compare_60 (by decide) ?_
        exact ct_iretR (ty := .int) (v := (nI 1)) B rfl rfl (by rw [hc, cmp_ne (by omega) (by omega) ceq, if_neg (by omega)] <;> rfl) dX3_compare_61
      · refine lv_iconst (v := (-1)) hx hb dX3_compare_56 (by decide) ?_
        refine lv_goto (tgt := 61) hx hb dX3_compare_57 (by decide) ?_
        exact ct_iretR (ty := .int) (v := (-1)) B rfl rfl (by rw [hc, cmp_ne (by omega) (by omega) ceq, if_pos (by omega)] <;> rfl) dX3_compare_61
set_option maxHeartbeats 4000000 in
set_option maxRecDepth 100000 in
theorem met_X2_isSame (l : Launch) (E : CE) (ad : Nat → Nat) (F : XF) (O : XO) (S : XS) (T : XT) (txt : Option Nat) (size : Nat) (at_ : Nat) (means : Nat → Int32) (meant : Nat) (starts : Nat → Int32) (lens : Nat → Int32) (cnt : Nat) (cols : Nat) (R : XR) (a b o o' : Nat) (w w' : Wd) (sz : Nat) (ha : a < 8000) (hb : b < 8000) (hw : pAt means starts lens a o w) (hw' : pAt means starts lens b o' w') : Met l yX2_isSame (ws_ yX2_isSame cX2_isSame 4 (some .boolean)) { frames := 1, cells := 0, slots := 0, locals := 21 } (ctP E [.ref (ad 3), .int (nI a), .int (nI b)] sz (fun H => va_P E.1 ct_cl (xw E ad F O S T (txt, size, at_, means, meant, starts, lens, cnt, cols) R) H)) (ctR (fun v => v = some (.int (if w.1 = w'.1 then 1 else 0)))) 0 0 (fun _ => False) := by
  refine ct_start (by decide) (Nat.le_of_ble_eq_true rfl) ?_
  intro p e s m below meth c ls B hsz hH hl
  have hP := hH
  have hx := B.1
  have hb := B.2.1
  have hl : lv_has ls 4 [(0, .ref (ad 3)), (1, .int (nI a)), (2, .int (nI b))] := hl
  have h1 := hw.2.2.2.2
  have h2 := hw'.2.2.2.2
  refine lv_aload_n hx hb dX2_isSame_0 rfl (lv_at hl 0 rfl) ?_
  refine lv_iload_n hx hb dX2_isSame_1 rfl (lv_at hl 1 rfl) ?_
  refine ct_callR (ct_runV (As := [.int (nI a)]) (rest := []) B (met_X2_length l E ad F O S T txt size at_ means meant starts lens cnt cols R a w s.heap.size (by omega) hw.2.1 (by omega)) (lw_V q369 q371 qs10 q50 q372) (n := 1) ⟨by decide, by decide, by decide +kernel⟩ rfl ⟨rfl, rfl, (Nat.le_of_ble_eq_true rfl), (Nat.le_of_ble_eq_true rfl), (Nat.le_of_ble_eq_true rfl), (Nat.le_of_ble_eq_true rfl)⟩ (va_S.rf (A := fun _ => False)) (fun _ h => h.elim) (ct_recv B hP kX2 3 rfl) hP hl.1 (Nat.le_of_ble_eq_true rfl) dX2_isSame_2) (fun v hv => ?_)
  subst hv
  refine W.eq (g2 := F0 m 5 ls [.int (nI w.1.length)]) rfl ?_
  refine lv_aload_n hx hb dX2_isSame_5 rfl (lv_at hl 0 rfl) ?_
  refine lv_iload_n hx hb dX2_isSame_6 rfl (lv_at hl 2 rfl) ?_
  refine ct_callR (ct_runV (As := [.int (nI b)]) (rest := [.int (nI w.1.length)]) B (met_X2_length l E ad F O S T txt size at_ means meant starts lens cnt cols R b w' s.heap.size (by omega) hw'.2.1 (by omega)) (lw_V q369 q371 qs10 q50 q372) (n := 1) ⟨by decide, by decide, by decide +kernel⟩ rfl ⟨rfl, rfl, (Nat.le_of_ble_eq_true rfl), (Nat.le_of_ble_eq_true rfl), (Nat.le_of_ble_eq_true rfl), (Nat.le_of_ble_eq_true rfl)⟩ (va_S.rf (A := fun _ => False)) (fun _ h => h.elim) (ct_recv B hP kX2 3 rfl) hP hl.1 (Nat.le_of_ble_eq_true rfl) dX2_isSame_7) (fun v hv => ?_)
  subst hv
  refine W.eq (g2 := F0 m 10 ls [.int (nI w'.1.length), .int (nI w.1.length)]) rfl ?_
  refine n_icmp_eq (tgt := 15) hx hb dX2_isSame_10 (by decide) (by omega) (by omega) (fun cl => ?_) (fun cl => ?_)
  · refine lv_iconst (v := nI 0) hx hb dX2_isSame_15 (by decide) ?_
    refine lv_istore_n (lv' := [(3, .int (nI 0)), (0, .ref (ad 3)), (1, .int (nI a)), (2, .int (nI b))]) hx hb dX2_isSame_16 rfl hl (by decide) rfl (fun ls hl => ?_)
    refine ct_loop (σ := Nat) (fun k ls => lv_has ls 4 [(3, .int (nI k)), (0, .ref (ad 3)), (1, .int (nI a)), (2, .int (nI b))] ∧ (k ≤ w.1.length) ∧ (∀ j, j < k → w.1.getD j 0 = w'.1.getD j 0)) (fun k => w.1.length - k) (g := fun k ls => F0 m 17 ls []) (x0 := 0) (ls0 := ls) ?_ ⟨lv_sub hl [0, 1, 2, 3] rfl, Nat.zero_le _, fun j hj => absurd hj (Nat.not_lt_zero j)⟩
    clear hl
    intro k ls hI ih_1
    obtain ⟨hl, hk, he⟩ := hI
    refine W.eq (g2 := F0 m 17 ls []) rfl ?_
    refine lv_iload_n hx hb dX2_isSame_17 rfl (lv_at hl 0 rfl) ?_
    refine lv_aload_n hx hb dX2_isSame_18 rfl (lv_at hl 1 rfl) ?_
    refine lv_iload_n hx hb dX2_isSame_19 rfl (lv_at hl 2 rfl) ?_
    refine ct_callR (ct_runV (As := [.int (nI a)]) (rest := [.int (nI k)]) B (met_X2_length l E ad F O S T txt size at_ means meant starts lens cnt cols R a w s.heap.size (by omega) hw.2.1 (by omega)) (lw_V q369 q371 qs10 q50 q372) (n := 1) ⟨by decide, by decide, by decide +kernel⟩ rfl ⟨rfl, rfl, (Nat.le_of_ble_eq_true rfl), (Nat.le_of_ble_eq_true rfl), (Nat.le_of_ble_eq_true rfl), (Nat.le_of_ble_eq_true rfl)⟩ (va_S.rf (A := fun _ => False)) (fun _ h => h.elim) (ct_recv B hP kX2 3 rfl) hP hl.1 (Nat.le_of_ble_eq_true rfl) dX2_isSame_20) (fun v hv => ?_)
    subst hv
    refine W.eq (g2 := F0 m 23 ls [.int (nI w.1.length), .int (nI k)]) rfl ?_
    refine n_icmp_ge (tgt := 63) hx hb dX2_isSame_23 (by decide) (by omega) (by omega) (fun c_2 => ?_) (fun c_2 => ?_)
    · refine lv_iconst (v := nI 1) hx hb dX2_isSame_63 (by decide) ?_
      exact ct_iretR (ty := .boolean) (v := (nI 1)) B rfl rfl (by rw [if_pos (list_ext cl (fun j hj => he j (by omega)))] <;> rfl) dX2_isSame_64
    · refine lv_aload_n hx hb dX2_isSame_26 rfl (lv_at hl 1 rfl) ?_
      refine ct_get (v := .ref (ad 7)) B hP kX2 3 rfl 7 (Nat.le_of_ble_eq_true rfl) q222 rfl dX2_isSame_27 ?_
      refine lv_aload_n hx hb dX2_isSame_30 rfl (lv_at hl 1 rfl) ?_
      refine ct_get (v := .ref (ad 8)) B hP kX2 3 rfl 9 (Nat.le_of_ble_eq_true rfl) q224 rfl dX2_isSame_31 ?_
      refine lv_iload_n hx hb dX2_isSame_34 rfl (lv_at hl 2 rfl) ?_
      refine ct_iald (f := starts) B hP 8 rfl (by omega) (by omega) dX2_isSame_35 ?_
      refine W.eq (g2 := F0 m 36 ls [.int (nI o), .ref (ad 7)]) (by rw [hw.1]) ?_
      refine lv_iload_n hx hb dX2_isSame_36 rfl (lv_at hl 0 rfl) ?_
      refine n_iadd hx hb dX2_isSame_37 ?_
      refine ct_bald (f := means) B hP 7 rfl (by omega) (by omega) dX2_isSame_38 ?_
      refine W.eq (g2 := F0 m 39 ls [.int (nI (w.1.getD k 0))]) (by rw [hw.2.2.1 k (by omega)]) ?_
      refine lv_aload_n hx hb dX2_isSame_39 rfl (lv_at hl 1 rfl) ?_
      refine ct_get (v := .ref (ad 7)) B hP kX2 3 rfl 7 (Nat.le_of_ble_eq_true rfl) q222 rfl dX2_isSame_40 ?_
      refine lv_aload_n hx hb dX2_isSame_43 rfl (lv_at hl 1 rfl) ?_
      refine ct_get (v := .ref (ad 8)) B hP kX2 3 rfl 9 (Nat.le_of_ble_eq_true rfl) q224 rfl dX2_isSame_44 ?_
      refine lv_iload_n hx hb dX2_isSame_47 rfl (lv_at hl 3 rfl) ?_
      refine ct_iald (f := starts) B hP 8 rfl (by omega) (by omega) dX2_isSame_48 ?_
      refine W.eq (g2 := F0 m 49 ls [.int (nI o'), .ref (ad 7), .int (nI (w.1.getD k 0))]) (by rw [hw'.1]) ?_
      refine lv_iload_n hx hb dX2_isSame_49 rfl (lv_at hl 0 rfl) ?_
      refine n_iadd hx hb dX2_isSame_50 ?_
      refine ct_bald (f := means) B hP 7 rfl (by omega) (by omega) dX2_isSame_51 ?_
      refine W.eq (g2 := F0 m 52 ls [.int (nI (w'.1.getD k 0)), .int (nI (w.1.getD k 0))]) (by rw [hw'.2.2.1 k (by omega)]) ?_
      refine n_icmp_eq (tgt := 57) hx hb dX2_isSame_52 (by decide) (by have := rgD hw.2.2.2.1 (j := k) (by omega); omega) (by have := rgD hw'.2.2.2.1 (j := k) (by omega); omega) (fun ceq => ?_) (fun ceq => ?_)
      · refine n_iinc (n := 1) (lv' := [(3, .int (nI (k + 1))), (0, .ref (ad 3)), (1, .int (nI a)), (2, .int (nI b))]) hx hb dX2_isSame_57 hl (k := 0) rfl rfl (by decide) (by decide) rfl (fun ls hl => ?_)
        refine lv_goto (tgt := 17) hx hb dX2_isSame_60 (by decide) ?_
        exact ih_1 (k + 1) ls (by omega) ⟨lv_sub hl [0, 1, 2, 3] rfl, by omega, fun j hj => by rcases Nat.lt_succ_iff_lt_or_eq.mp hj with q | q; exact he j q; rw [q]; exact ceq⟩
      · refine lv_iconst (v := nI 0) hx hb dX2_isSame_55 (by decide) ?_
        exact ct_iretR (ty := .boolean) (v := (nI 0)) B rfl rfl (by rw [if_neg (fun q => ceq (by rw [q]))] <;> rfl) dX2_isSame_56
  · refine lv_iconst (v := nI 0) hx hb dX2_isSame_13 (by decide) ?_
    exact ct_iretR (ty := .boolean) (v := (nI 0)) B rfl rfl (by rw [if_neg (fun q => cl (by rw [q]))] <;> rfl) dX2_isSame_14
set_option maxHeartbeats 4000000 in
set_option maxRecDepth 100000 in
theorem met_X2_mean (l : Launch) (E : CE) (ad : Nat → Nat) (tray : Nat → Int32) (trayed : Nat) (fed : Nat) (place : Int32) (picked : Nat → Int64) (pcnt : Nat) (column : Nat → Int64) (O : XO) (S : XS) (T : XT) (size : Nat) (at_ : Nat) (means : Nat → Int32) (meant : Nat) (starts : Nat → Int32) (lens : Nat → Int32) (cnt : Nat) (cols : Nat) (R : XR)  (sz : Nat) (ha : at_ < 16000) (hm : meant < 16000) : Met l yX2_mean (ws_ yX2_mean cX2_mean 1 none) { frames := 0, cells := 0, slots := 0, locals := 0 } (ctP E [.ref (ad 3)] sz (fun H => va_P E.1 ct_cl (xw E ad (tray, trayed, fed, place, picked, pcnt, column) O S T ((some (ad 1)), size, at_, means, meant, starts, lens, cnt, cols) R) H ∧ va_D (fun q => E.2.2.1 ≤ q) (xw E ad (tray, trayed, fed, place, picked, pcnt, column) O S T ((some (ad 1)), size, at_, means, meant, starts, lens, cnt, cols) R))) (ctQ (fun v H => v = none ∧ va_P E.1 ct_cl (xw E ad (tray, trayed, fed, place, picked, pcnt, column) O S T ((some (ad 1)), size, at_ + 1, upd means meant (vp_nar .byte (tray at_)), meant + 1, starts, lens, cnt, cols) R) H) (va_A (xw E ad (tray, trayed, fed, place, picked, pcnt, column) O S T ((some (ad 1)), size, at_, means, meant, starts, lens, cnt, cols) R) sz)) 0 0 (va_A (xw E ad (tray, trayed, fed, place, picked, pcnt, column) O S T ((some (ad 1)), size, at_, means, meant, starts, lens, cnt, cols) R) sz) := by
  refine ct_start (by decide) (Nat.le_of_ble_eq_true rfl) ?_
  intro p e s m below meth c ls B hsz hH hl
  obtain ⟨hP, hD⟩ := hH
  obtain ⟨A, hAe, h, hA, hAn⟩ := ct_enter B.2.2.2.2.2.2.2.2 hsz hP hD
  rw [hAe]
  refine ct_gen h (fun H locs h => ?_)
  have hx := B.1
  have hb := B.2.1
  have hl : lv_has ls 1 [(0, .ref (ad 3))] := hl
  refine lv_aload_n hx hb dX2_mean_0 rfl (lv_at hl 0 rfl) ?_
  refine ct_get (v := .ref (ad 7)) B h.1 kX2 3 rfl 7 (Nat.le_of_ble_eq_true rfl) q222 rfl dX2_mean_1 ?_
  refine lv_aload_n hx hb dX2_mean_4 rfl (lv_at hl 0 rfl) ?_
  refine ct_get (v := .int (nI meant)) B h.1 kX2 3 rfl 8 (Nat.le_of_ble_eq_true rfl) q223 rfl dX2_mean_5 ?_
  refine lv_aload_n hx hb dX2_mean_8 rfl (lv_at hl 0 rfl) ?_
  refine ct_get (v := .ref (ad 1)) B h.1 kX2 3 rfl 4 (Nat.le_of_ble_eq_true rfl) q219 rfl dX2_mean_9 ?_
  refine lv_aload_n hx hb dX2_mean_12 rfl (lv_at hl 0 rfl) ?_
  refine ct_get (v := .int (nI at_)) B h.1 kX2 3 rfl 6 (Nat.le_of_ble_eq_true rfl) q221 rfl dX2_mean_13 ?_
  refine ct_bald (f := tray) B h.1 1 rfl (by omega) (by omega) dX2_mean_16 ?_
  refine ct_bast (ws' := xw E ad (tray, trayed, fed, place, picked, pcnt, column) O S T ((some (ad 1)), size, at_, (upd means meant (vp_nar .byte (tray at_))), meant, starts, lens, cnt, cols) R) B h 7 rfl (by omega) (by omega) rfl dX2_mean_17 (fun H locs h => ?_)
  refine lv_aload_n hx hb dX2_mean_18 rfl (lv_at hl 0 rfl) ?_
  refine lv_dup hx hb dX2_mean_19 rfl ?_
  refine ct_get (v := .int (nI meant)) B h.1 kX2 3 rfl 8 (Nat.le_of_ble_eq_true rfl) q223 rfl dX2_mean_20 ?_
  refine lv_iconst (v := nI 1) hx hb dX2_mean_23 (by decide) ?_
  refine n_iadd hx hb dX2_mean_24 ?_
  refine ct_put (ws' := xw E ad (tray, trayed, fed, place, picked, pcnt, column) O S T ((some (ad 1)), size, at_, (upd means meant (vp_nar .byte (tray at_))), meant + 1, starts, lens, cnt, cols) R) B h kX2 3 rfl 8 (Nat.le_of_ble_eq_true rfl) q223 rfl rfl rfl (Nat.le_of_ble_eq_true rfl) rfl dX2_mean_25 (fun H locs h => ?_)
  refine lv_aload_n hx hb dX2_mean_28 rfl (lv_at hl 0 rfl) ?_
  refine lv_dup hx hb dX2_mean_29 rfl ?_
  refine ct_get (v := .int (nI at_)) B h.1 kX2 3 rfl 6 (Nat.le_of_ble_eq_true rfl) q221 rfl dX2_mean_30 ?_
  refine lv_iconst (v := nI 1) hx hb dX2_mean_33 (by decide) ?_
  refine n_iadd hx hb dX2_mean_34 ?_
  refine ct_put (ws' := xw E ad (tray, trayed, fed, place, picked, pcnt, column) O S T ((some (ad 1)), size, at_ + 1, (upd means meant (vp_nar .byte (tray at_))), meant + 1, starts, lens, cnt, cols) R) B h kX2 3 rfl 6 (Nat.le_of_ble_eq_true rfl) q221 rfl rfl rfl (Nat.le_of_ble_eq_true rfl) rfl dX2_mean_35 (fun H locs h => ?_)
  exact ct_vret B h.2.2 ⟨rfl, h.1⟩ dX2_mean_38
set_option maxHeartbeats 4000000 in
set_option maxRecDepth 100000 in
theorem met_X5_put (l : Launch) (E : CE) (ad : Nat → Nat) (F : XF) (ob : Nat → Int32) (on : Nat) (db : Nat → Int32) (dn : Nat) (S : XS) (T : XT) (P : XP) (R : XR) (ch : Nat) (o : List Nat) (sz : Nat) (hc : ch < 128) (ho0 : outR db dn o) : Met l yX5_put (ws_ yX5_put cX5_put 2 (some .boolean)) { frames := 0, cells := 0, slots := 0, locals := 0 } (ctP E [.ref (ad 18), .int (nI ch)] sz (fun H => va_P E.1 ct_cl (xw E ad F (ob, on, db, dn) S T P R) H ∧ va_D (fun q => E.2.2.1 ≤ q) (xw E ad F (ob, on, db, dn) S T P R))) (ctQ (fun v H => ∃ db2 : Nat → Int32, ∃ dn2 : Nat, v = some (.int (if o.length < 30000 then 1 else 0)) ∧ va_P E.1 ct_cl (xw E ad F (ob, on, db2, dn2) S T P R) H ∧ outR db2 dn2 (o ++ [ch])) (va_A (xw E ad F (ob, on, db, dn) S T P R) sz)) 0 0 (va_A (xw E ad F (ob, on, db, dn) S T P R) sz) := by
  refine ct_start (by decide) (Nat.le_of_ble_eq_true rfl) ?_
  intro p e s m below meth c ls B hsz hH hl
  obtain ⟨hP, hD⟩ := hH
  obtain ⟨A, hAe, h, hA, hAn⟩ := ct_enter B.2.2.2.2.2.2.2.2 hsz hP hD
  rw [hAe]
  refine ct_gen h (fun H locs h => ?_)
  have hx := B.1
  have hb := B.2.1
  have hl : lv_has ls 2 [(0, .ref (ad 18)), (1, .int (nI ch))] := hl
  have hd := ho0.1
  refine lv_aload_n hx hb dX5_put_0 rfl (lv_at hl 0 rfl) ?_
  refine ct_get (v := .int (nI dn)) B h.1 kX5 18 rfl 1 (Nat.le_of_ble_eq_true rfl) q270 rfl dX5_put_1 ?_
  refine lv_aload_n hx hb dX5_put_4 rfl (lv_at hl 0 rfl) ?_
  refine ct_get (v := .ref (ad 19)) B h.1 kX5 18 rfl 0 (Nat.le_of_ble_eq_true rfl) q268 rfl dX5_put_5 ?_
  refine ct_alen B h.1 19 0 rfl rfl dX5_put_8 ?_
  refine n_icmp_ne (tgt := 14) hx hb dX5_put_9 (by decide) (by omega) (by omega) (fun cf => ?_) (fun cf => ?_)
  · refine lv_aload_n hx hb dX5_put_14 rfl (lv_at hl 0 rfl) ?_
    refine ct_get (v := .ref (ad 19)) B h.1 kX5 18 rfl 0 (Nat.le_of_ble_eq_true rfl) q268 rfl dX5_put_15 ?_
    refine lv_aload_n hx hb dX5_put_18 rfl (lv_at hl 0 rfl) ?_
    refine ct_get (v := .int (nI dn)) B h.1 kX5 18 rfl 1 (Nat.le_of_ble_eq_true rfl) q270 rfl dX5_put_19 ?_
    refine lv_iload_n hx hb dX5_put_22 rfl (lv_at hl 1 rfl) ?_
    refine lv_i2b (v := (nI ch)) hx hb dX5_put_23 (i8_small ch hc) ?_
    refine ct_bast (ws' := xw E ad F (ob, on, (upd db dn (nI ch)), dn) S T P R) B h 19 rfl (by omega) (by omega) (congrArg (fun z9 => (xw E ad F (ob, on, z9, dn) S T P R : va_W)) ((by rw [vp_b hc] : upd db dn (vp_nar .byte (nI ch)) = upd db dn (nI ch)))) dX5_put_24 (fun H locs h => ?_)
    refine lv_aload_n hx hb dX5_put_25 rfl (lv_at hl 0 rfl) ?_
    refine lv_dup hx hb dX5_put_26 rfl ?_
    refine ct_get (v := .int (nI dn)) B h.1 kX5 18 rfl 1 (Nat.le_of_ble_eq_true rfl) q270 rfl dX5_put_27 ?_
    refine lv_iconst (v := nI 1) hx hb dX5_put_30 (by decide) ?_
    refine n_iadd hx hb dX5_put_31 ?_
    refine ct_put (ws' := xw E ad F (ob, on, (upd db dn (nI ch)), dn + 1) S T P R) B h kX5 18 rfl 1 (Nat.le_of_ble_eq_true rfl) q270 rfl rfl rfl (Nat.le_of_ble_eq_true rfl) rfl dX5_put_32 (fun H locs h => ?_)
    refine lv_iconst (v := nI 1) hx hb dX5_put_35 (by decide) ?_
    exact ct_iret (ty := .boolean) (v := (nI 1)) B rfl rfl h.2.2 ⟨_, _, by rw [if_pos (by omega)] <;> rfl, h.1, outR_put ho0 cf⟩ dX5_put_36
  · refine lv_iconst (v := nI 0) hx hb dX5_put_12 (by decide) ?_
    exact ct_iret (ty := .boolean) (v := (nI 0)) B rfl rfl h.2.2 ⟨db, dn, by rw [if_neg (by omega)] <;> rfl, h.1, by rw [cf]; exact outR_full (by rw [cf] at ho0; exact ho0)⟩ dX5_put_13
set_option maxHeartbeats 4000000 in
set_option maxRecDepth 100000 in
theorem met_X2_find (l : Launch) (E : CE) (ad : Nat → Nat) (F : XF) (O : XO) (S : XS) (made : Nat) (all : Nat → Option Nat) (wn : Nat) (wb : Nat → Int32) (P : XP) (R : XR) (t : Int32) (sz : Nat) (hm : made ≤ 40) : Met l yX2_find (ws_ yX2_find cX2_find 2 (some (.object "CommaTables$Table"))) { frames := 0, cells := 0, slots := 0, locals := 0 } (ctP E [.ref (ad 3), .int t] sz (fun H => va_P E.1 ct_cl (xw E ad F O S (made, all, wn, wb) P R) H)) (ctR (fun v => v = some (va_rf (fndV made all t)))) 0 0 (fun _ => False) := by
  refine ct_start (by decide) (Nat.le_of_ble_eq_true rfl) ?_
  intro p e s m below meth c ls B hsz hH hl
  have hP := hH
  have hx := B.1
  have hb := B.2.1
  have hl : lv_has ls 2 [(0, .ref (ad 3)), (1, .int t)] := hl
  refine lv_iload_n hx hb dX2_find_0 rfl (lv_at hl 1 rfl) ?_
  refine lv_iconst (v := nI 1) hx hb dX2_find_1 (by decide) ?_
  refine lv_icmp_lt (tgt := 22) hx hb dX2_find_2 (by decide) (fun c1 => ?_) (fun c1 => ?_)
  · refine lv_null hx hb dX2_find_22 ?_
    exact ct_aretR (r := none) B rfl (Or.inl ⟨_, rfl⟩) (by rw [fndV, if_neg (fun q => by have := Int32.lt_iff_toInt_lt.mp c1; simp [nI] at this; omega)] <;> rfl) dX2_find_23
  · refine lv_iload_n hx hb dX2_find_5 rfl (lv_at hl 1 rfl) ?_
    refine lv_aload_n hx hb dX2_find_6 rfl (lv_at hl 0 rfl) ?_
    refine ct_get (v := .int (nI made)) B hP kX2 3 rfl 3 (Nat.le_of_ble_eq_true rfl) q218 rfl dX2_find_7 ?_
    refine lv_icmp_gt (tgt := 22) hx hb dX2_find_10 (by decide) (fun c2 => ?_) (fun c2 => ?_)
    · refine lv_null hx hb dX2_find_22 ?_
      exact ct_aretR (r := none) B rfl (Or.inl ⟨_, rfl⟩) (by rw [fndV, if_neg (fun q => by have := Int32.lt_iff_toInt_lt.mp c2; rw [nI_toInt (by omega)] at this; omega)] <;> rfl) dX2_find_23
    · have t1 : 1 ≤ t.toInt := by have := Int32.le_iff_toInt_le.mp (Int32.not_lt.mp c1); simpa [nI] using this
      have t2 : t.toInt ≤ made := by have := Int32.le_iff_toInt_le.mp (Int32.not_lt.mp c2); rwa [nI_toInt (by omega)] at this
      obtain ⟨j, hj, rfl⟩ : ∃ j : Nat, j < 2147483648 ∧ t = nI j := nI_of (fun q => by have := Int32.lt_iff_toInt_lt.mp q; simp at this; omega)
      rw [nI_toInt (by omega)] at t1 t2
      refine lv_aload_n hx hb dX2_find_13 rfl (lv_at hl 0 rfl) ?_
      refine ct_get (v := .ref (ad 6)) B hP kX2 3 rfl 2 (Nat.le_of_ble_eq_true rfl) q217 rfl dX2_find_14 ?_
      refine lv_iload_n hx hb dX2_find_17 rfl (lv_at hl 1 rfl) ?_
      refine ct_aald B hP 6 3 rfl rfl (by omega) (by omega) dX2_find_18 ?_
      refine lv_goto (tgt := 23) hx hb dX2_find_19 (by decide) ?_
      exact ct_aretR (r := all j) B rfl (Or.inl ⟨_, rfl⟩) (by rw [fndV, if_pos ⟨by rw [nI_toInt (by omega)]; omega, by rw [nI_toInt (by omega)]; omega⟩, nI_toInt (by omega)] <;> rfl) dX2_find_23
