set_option maxHeartbeats 4000000 in
set_option maxRecDepth 100000 in
theorem met_X2_column (l : Launch) (E : CE) (ad : Nat → Nat) (tray : Nat → Int32) (trayed : Nat) (fed : Nat) (place : Int32) (picked : Nat → Int64) (pcnt : Nat) (column : Nat → Int64) (O : XO) (S : XS) (made : Nat) (all : Nat → Option Nat) (wn : Nat) (wb : Nat → Int32) (P : XP) (places : Nat → Int32) (other : Nat → Int32) (row : Option Nat) (lane : Int32) (fall : Int32) (ranks : Nat → Int64) (q : Nat → Nat) (cols rows co ln : Nat) (f : Nat → Nat → Int32) (cw : Nat → Wd) (sz : Nat) (hcs : cols ≤ 16) (hrs : rows ≤ 499) (hco : co < cols) (hl4 : f 4 co = nI ln) (hln : ln ≤ 8) (hTDc : TD wb wn (cols * rows) (f 2) (f 3) cw) (hok : ln ≠ 8 → ∀ r, r < rows → valOK ln (cw (cols * r + co))) : Met l yX2_column (ws_ yX2_column cX2_column 8 none) { frames := 6, cells := 0, slots := 0, locals := 152 } (ctP E [.ref (ad 3), .ref (q 0), .int (nI co), .ref (ad 15)] sz (fun H => va_P E.1 ct_cl (xw E ad (tray, trayed, fed, place, picked, pcnt, column) O S (made, all, wn, wb) P (places, other, row, lane, fall, ranks)) H ∧ va_D (fun q => E.2.2.1 ≤ q) (xw E ad (tray, trayed, fed, place, picked, pcnt, column) O S (made, all, wn, wb) P (places, other, row, lane, fall, ranks)) ∧ va_P E.1 ct_cl (tw E q cols rows f) H ∧ apT ad q)) (ctQ (fun v H => ∃ col2 : Nat → Int64, ∃ R2 : XR, v = none ∧ va_P E.1 ct_cl (xw E ad (tray, trayed, fed, place, picked, pcnt, col2) O S (made, all, wn, wb) P (R2.1, R2.2.1, R2.2.2.1, R2.2.2.2.1, R2.2.2.2.2.1, R2.2.2.2.2.2)) H ∧ (∀ r, r < rows → col2 r = colV ln cols rows cw co r)) (va_A (xw E ad (tray, trayed, fed, place, picked, pcnt, column) O S (made, all, wn, wb) P (places, other, row, lane, fall, ranks)) sz)) 0 0 (va_A (xw E ad (tray, trayed, fed, place, picked, pcnt, column) O S (made, all, wn, wb) P (places, other, row, lane, fall, ranks)) sz) := by
  refine ct_start (by decide) (Nat.le_of_ble_eq_true rfl) ?_
  intro p e s m below meth c ls B hsz hH hl
  obtain ⟨hP, hD, hT0, hq0⟩ := hH
  obtain ⟨A, hAe, h, hA, hAn⟩ := ct_enter B.2.2.2.2.2.2.2.2 hsz hP hD
  have hN0 := apT_N hT0 hsz hq0 (hAe := hAe)
  rw [hAe]
  refine ct_gen h (fun H locs h => ?_)
  have hx := B.1
  have hb := B.2.1
  have hl : lv_has ls 8 [(0, .ref (ad 3)), (1, .ref (q 0)), (2, .int (nI co)), (3, .ref (ad 15))] := hl
  have hmul := mul_cs hcs hrs
  have hn : cols * rows < 2147483648 := by omega
  refine lv_aload_n hx hb dX2_column_0 rfl (lv_at hl 1 rfl) ?_
  refine ct_get (v := .ref (q 5)) B (ct_keep hT0 hN0 h.2.2) kX9 0 rfl 6 (Nat.le_of_ble_eq_true rfl) q408 rfl dX2_column_1 ?_
  refine lv_iload_n hx hb dX2_column_4 rfl (lv_at hl 2 rfl) ?_
  refine ct_iald (f := f 4) B (ct_keep hT0 hN0 h.2.2) 5 rfl (by omega) (by omega) dX2_column_5 ?_
  refine W.eq (g2 := F0 m 6 ls [.int (nI ln)]) (by rw [hl4]) ?_
  refine lv_bipush (v := nI 8) hx hb dX2_column_6 (by decide) ?_
  refine n_icmp_eq (tgt := 54) hx hb dX2_column_8 (by decide) (by omega) (by omega) (fun cl8 => ?_) (fun cl8 => ?_)
  · refine lv_iconst (v := nI 0) hx hb dX2_column_54 (by decide) ?_
    refine lv_istore (lv' := [(4, .int (nI 0)), (0, .ref (ad 3)), (1, .ref (q 0)), (2, .int (nI co)), (3, .ref (ad 15))]) hx hb dX2_column_55 hl (by decide) rfl (fun ls hl => ?_)
    refine ct_loopH (σ := Nat × (Nat → Int64)) (fun (r_, rk) H locs ls => lv_has ls 8 [(4, .int (nI r_)), (0, .ref (ad 3)), (1, .ref (q 0)), (2, .int (nI co)), (3, .ref (ad 15))] ∧ Hs E A s.heap (xw E ad (tray, trayed, fed, place, picked, pcnt, column) O S (made, all, wn, wb) P (places, other, row, lane, fall, rk)) H locs ∧ (r_ ≤ rows) ∧ (∀ j, j < r_ → rk j = befV cols rows cw co (cw (cols * j + co)))) (fun (r_, rk) => rows - r_) (fun _ => 0) (fun _ => 0) (g := fun (r_, rk) ls => F0 m 57 ls []) (x0 := (0, ranks)) (ls0 := ls) ?_ ⟨lv_sub hl [0, 1, 2, 3, 4] rfl, h, Nat.zero_le _, fun j hj => absurd hj (Nat.not_lt_zero j)⟩
    clear hl h
    intro x9 H locs ls hI ih_1
    obtain ⟨r_, rk⟩ := x9
    obtain ⟨hl, h, hr_, hrk⟩ := hI
    refine W.eq (g2 := F0 m 57 ls []) rfl ?_
    refine lv_iload hx hb dX2_column_57 (lv_at hl 0 rfl) ?_
    refine lv_aload_n hx hb dX2_column_59 rfl (lv_at hl 2 rfl) ?_
    refine ct_get (v := .int (nI rows)) B (ct_keep hT0 hN0 h.2.2) kX9 0 rfl 1 (Nat.le_of_ble_eq_true rfl) q396 rfl dX2_column_60 ?_
    refine n_icmp_ge (tgt := 87) hx hb dX2_column_63 (by decide) (by omega) (by omega) (fun c_2 => ?_) (fun c_2 => ?_)
    · refine lv_aload_n hx hb dX2_column_87 rfl (lv_at hl 1 rfl) ?_
      refine ct_get (v := .ref (ad 10)) B h.1 kX2 3 rfl 13 (Nat.le_of_ble_eq_true rfl) q228 rfl dX2_column_88 ?_
      refine lv_aload_n hx hb dX2_column_91 rfl (lv_at hl 1 rfl) ?_
      refine ct_get (v := .ref (ad 13)) B h.1 kX2 3 rfl 14 (Nat.le_of_ble_eq_true rfl) q229 rfl dX2_column_92 ?_
      refine lv_aload_n hx hb dX2_column_95 rfl (lv_at hl 2 rfl) ?_
      refine ct_get (v := .int (nI rows)) B (ct_keep hT0 hN0 h.2.2) kX9 0 rfl 1 (Nat.le_of_ble_eq_true rfl) q396 rfl dX2_column_96 ?_
      refine lv_iconst (v := nI 5) hx hb dX2_column_99 (by decide) ?_
      refine lv_iconst (v := nI 0) hx hb dX2_column_100 (by decide) ?_
      refine ct_callQ (ct_runV (As := [.ref (ad 13), .int (nI rows), .int (nI 5), .int (nI 0)]) (rest := []) B (met_X4_sort l E ad (tray, trayed, fed, place, picked, pcnt, column) O S (made, all, wn, wb) P places other row lane fall rk rows H.size (by omega)) (lw_V q595 q596 q597 q52 q598) (n := 4) ⟨by decide, by decide, by decide +kernel⟩ rfl ⟨rfl, rfl, (Nat.le_of_ble_eq_true rfl), (Nat.le_of_ble_eq_true rfl), (Nat.le_of_ble_eq_true rfl), (Nat.le_of_ble_eq_true rfl)⟩ h.2.2 hA (ct_recv B h.1 kX4 10 rfl) ⟨h.1, (ct_D0 h hA)⟩ hl.1 (Nat.le_of_ble_eq_true rfl) dX2_column_101) h.2.2 (ct_sub h hAn) (ct_sub h hAn) (fun v H locs hv hz hk hS => ?_)
      obtain ⟨p_s, o_s, pl, rfl, hP1, hso1, hso2, hso3, hso4⟩ := hv
      have h : Hs E A s.heap (xw E ad (tray, trayed, fed, place, picked, pcnt, column) O S (made, all, wn, wb) P (p_s, o_s, (some (ad 13)), (nI 5), (nI 0), rk)) H locs := ct_again h hP1 rfl hS
      clear hP1 hS hz hk
      refine W.eq (g2 := F0 m 104 ls []) rfl ?_
      have hsr := SRT_of (by omega) (fun j hj => hrk j (by omega)) hso2 hso3 hso4
      refine lv_ldc2 (v := (-1)) hx hb B.2.2.1 (B.2.2.2.1 _ q584) dX2_column_104 ?_
      refine W.eq (g2 := F0 m 107 ls [.long (lN 0 - 1)]) (by rw [show (-1 : Int64) = lN 0 - 1 from by decide] <;> rfl) ?_
      refine lv_lstore (lv' := [(4, .long (lN 0 - 1)), (0, .ref (ad 3)), (1, .ref (q 0)), (2, .int (nI co)), (3, .ref (ad 15))]) hx hb dX2_column_107 hl (by decide) rfl (fun ls hl => ?_)
      refine lv_iconst (v := nI 0) hx hb dX2_column_109 (by decide) ?_
      refine lv_istore (lv' := [(6, .int (nI 0)), (4, .long (lN 0 - 1)), (0, .ref (ad 3)), (1, .ref (q 0)), (2, .int (nI co)), (3, .ref (ad 15))]) hx hb dX2_column_110 hl (by decide) rfl (fun ls hl => ?_)
      refine ct_loopH (σ := Nat × Nat × (Nat → Int64)) (fun (k, nn, col) H locs ls => lv_has ls 8 [(6, .int (nI k)), (4, .long (lN nn - 1)), (0, .ref (ad 3)), (1, .ref (q 0)), (2, .int (nI co)), (3, .ref (ad 15))] ∧ Hs E A s.heap (xw E ad (tray, trayed, fed, place, picked, pcnt, col) O S (made, all, wn, wb) P (p_s, o_s, (some (ad 13)), (nI 5), (nI 0), rk)) H locs ∧ (k ≤ rows) ∧ (NN (colM cols cw co) (colG cols rows cw co) pl rows k nn) ∧ (∀ i, i < k → col (pl i) = colV ln cols rows cw co (pl i))) (fun (k, nn, col) => rows - k) (fun _ => 0) (fun _ => 0) (g := fun (k, nn, col) ls => F0 m 112 ls []) (x0 := (0, 0, column)) (ls0 := ls) ?_ ⟨lv_sub hl [0, 1, 2, 3, 4, 5] rfl, h, Nat.zero_le _, Or.inl ⟨fun i hi => absurd hi (Nat.not_lt_zero i), rfl⟩, fun j hj => absurd hj (Nat.not_lt_zero j)⟩
      clear hl h
      intro x9 H locs ls hI ih_3
      obtain ⟨k, nn, col⟩ := x9
      obtain ⟨hl, h, hk, hnn, hcv⟩ := hI
      refine W.eq (g2 := F0 m 112 ls []) rfl ?_
      refine lv_iload hx hb dX2_column_112 (lv_at hl 0 rfl) ?_
      refine lv_aload_n hx hb dX2_column_114 rfl (lv_at hl 3 rfl) ?_
      refine ct_get (v := .int (nI rows)) B (ct_keep hT0 hN0 h.2.2) kX9 0 rfl 1 (Nat.le_of_ble_eq_true rfl) q396 rfl dX2_column_115 ?_
      refine n_icmp_ge (tgt := 208) hx hb dX2_column_118 (by decide) (by omega) (by omega) (fun c_4 => ?_) (fun c_4 => ?_)
      · exact ct_vret B h.2.2 ⟨col, (p_s, o_s, (some (ad 13)), (nI 5), (nI 0), rk), rfl, h.1, fun r hr => by obtain ⟨j, h1, h2⟩ := hsr.1 r hr; rw [← h2]; exact hcv j (by omega)⟩ dX2_column_208
      · refine lv_aload_n hx hb dX2_column_121 rfl (lv_at hl 2 rfl) ?_
        refine ct_get (v := .ref (ad 10)) B h.1 kX2 3 rfl 13 (Nat.le_of_ble_eq_true rfl) q228 rfl dX2_column_122 ?_
        refine lv_iload hx hb dX2_column_125 (lv_at hl 0 rfl) ?_
        refine ct_callR (ct_runV (As := [.int (nI k)]) (rest := []) B (met_X4_at l E ad (tray, trayed, fed, place, picked, pcnt, col) O S (made, all, wn, wb) P p_s o_s (some (ad 13)) (nI 5) (nI 0) rk k H.size (by omega)) (lw_V q627 q628 q629 q52 q630) (n := 1) ⟨by decide, by decide, by decide +kernel⟩ rfl ⟨rfl, rfl, (Nat.le_of_ble_eq_true rfl), (Nat.le_of_ble_eq_true rfl), (Nat.le_of_ble_eq_true rfl), (Nat.le_of_ble_eq_true rfl)⟩ h.2.2 hA (ct_recv B h.1 kX4 10 rfl) h.1 hl.1 (Nat.le_of_ble_eq_true rfl) dX2_column_127) (fun v hv => ?_)
        subst hv
        refine W.eq (g2 := F0 m 130 ls [.int (p_s k)]) rfl ?_
        refine W.eq (g2 := F0 m 130 ls [.int (nI (pl k))]) (by rw [hso1 k (by omega)] <;> rfl) ?_
        refine lv_istore (lv' := [(7, .int (nI (pl k))), (6, .int (nI k)), (4, .long (lN nn - 1)), (0, .ref (ad 3)), (1, .ref (q 0)), (2, .int (nI co)), (3, .ref (ad 15))]) hx hb dX2_column_130 hl (by decide) rfl (fun ls hl => ?_)
        have hpk := hso2 k (by omega)
        have hix := ix_lt hco hpk
        refine lv_aload_n hx hb dX2_column_132 rfl (lv_at hl 4 rfl) ?_
        refine lv_aload_n hx hb dX2_column_133 rfl (lv_at hl 4 rfl) ?_
        refine ct_get (v := .int (nI cols)) B (ct_keep hT0 hN0 h.2.2) kX9 0 rfl 0 (Nat.le_of_ble_eq_true rfl) q393 rfl dX2_column_134 ?_
        refine lv_iload hx hb dX2_column_137 (lv_at hl 0 rfl) ?_
        refine n_imul hx hb dX2_column_139 ?_
        refine lv_iload_n hx hb dX2_column_140 rfl (lv_at hl 5 rfl) ?_
        refine n_iadd hx hb dX2_column_141 ?_
        refine ct_callR (ct_runV (As := [.int (nI (cols * (pl k) + co))]) (rest := []) B (met_X9_isMissing l E  q cols rows (cols * (pl k) + co) f (cw (cols * (pl k) + co)) H.size hix hn (hTDc _ hix).1 (hTDc _ hix).2.1) (lw_V q436 q437 q438 q57 q439) (n := 1) ⟨by decide, by decide, by decide +kernel⟩ rfl ⟨rfl, rfl, (Nat.le_of_ble_eq_true rfl), (Nat.le_of_ble_eq_true rfl), (Nat.le_of_ble_eq_true rfl), (Nat.le_of_ble_eq_true rfl)⟩ h.2.2 hA (ct_recv B (ct_keep hT0 hN0 h.2.2) kX9 0 rfl) (ct_keep hT0 hN0 h.2.2) hl.1 (Nat.le_of_ble_eq_true rfl) dX2_column_142) (fun v hv => ?_)
        subst hv
        refine W.eq (g2 := F0 m 145 ls [.int (if (cw (cols * (pl k) + co)).1 = [] ∧ (cw (cols * (pl k) + co)).2 = false then 1 else 0)]) rfl ?_
        refine b_if_eq (tgt := 158) hx hb dX2_column_145 (by decide) (fun cm => ?_) (fun cm => ?_)
        · refine lv_iload hx hb dX2_column_158 (lv_at hl 1 rfl) ?_
          refine n_if_eq (tgt := 190) hx hb dX2_column_160 (by decide) (by omega) (fun ck => ?_) (fun ck => ?_)
          · have hnx := NN_new hsr hso2 (by omega) hnn cm (Or.inl ck)
            refine lv_lload hx hb dX2_column_190 (lv_at hl 2 rfl) ?_
            refine lv_lconst (v := 1) hx hb dX2_column_192 (by decide) ?_
            refine lv_ladd hx hb dX2_column_193 ?_
            refine W.eq (g2 := F0 m 194 ls [.long (lN (nn + 1) - 1)]) (by rw [num_S]) ?_
            refine lv_lstore (lv' := [(4, .long (lN (nn + 1) - 1)), (7, .int (nI (pl k))), (6, .int (nI k)), (0, .ref (ad 3)), (1, .ref (q 0)), (2, .int (nI co)), (3, .ref (ad 15))]) hx hb dX2_column_194 hl (by decide) rfl (fun ls hl => ?_)
            refine lv_aload_n hx hb dX2_column_196 rfl (lv_at hl 6 rfl) ?_
            refine lv_iload hx hb dX2_column_197 (lv_at hl 1 rfl) ?_
            refine lv_lload hx hb dX2_column_199 (lv_at hl 0 rfl) ?_
            refine ct_last (ws' := xw E ad (tray, trayed, fed, place, picked, pcnt, (vp_updL col (pl k) (lN (nn + 1) - 1))) O S (made, all, wn, wb) P (p_s, o_s, (some (ad 13)), (nI 5), (nI 0), rk)) B h 15 rfl (by omega) (by omega) rfl dX2_column_201 (fun H locs h => ?_)
            refine n_iinc (n := 1) (lv' := [(6, .int (nI (k + 1))), (4, .long (lN (nn + 1) - 1)), (7, .int (nI (pl k))), (0, .ref (ad 3)), (1, .ref (q 0)), (2, .int (nI co)), (3, .ref (ad 15))]) hx hb dX2_column_202 hl (k := 2) rfl rfl (by decide) (by decide) rfl (fun ls hl => ?_)
            refine lv_goto (tgt := 112) hx hb dX2_column_205 (by decide) ?_
            exact ih_3 ((k + 1), (nn + 1), (vp_updL col (pl k) (lN (nn + 1) - 1))) H locs ls (by dsimp only; omega) ⟨lv_sub hl [0, 1, 3, 4, 5, 6] rfl, h, by omega, hnx.1, fun i hi => by by_cases q9 : i = k; rw [q9, updL_s, colV, if_neg (fun q8 => q8 cl8), if_neg cm]; exact num_v (hnx.2.trans (cntV_one ⟨pl k, hso2 k (by omega), cm, rfl⟩)); rw [updL_n (fun q8 => q9 (hso3 i k (Nat.zero_le _) (by omega) (Nat.zero_le _) (by omega) q8))]; exact hcv i (by omega)⟩
          · have hpk1 := hso2 (k - 1) (by omega)
            refine lv_aload_n hx hb dX2_column_163 rfl (lv_at hl 3 rfl) ?_
            refine ct_get (v := .ref (ad 13)) B h.1 kX2 3 rfl 14 (Nat.le_of_ble_eq_true rfl) q229 rfl dX2_column_164 ?_
            refine lv_aload_n hx hb dX2_column_167 rfl (lv_at hl 3 rfl) ?_
            refine ct_get (v := .ref (ad 10)) B h.1 kX2 3 rfl 13 (Nat.le_of_ble_eq_true rfl) q228 rfl dX2_column_168 ?_
            refine lv_iload hx hb dX2_column_171 (lv_at hl 1 rfl) ?_
            refine lv_iconst (v := nI 1) hx hb dX2_column_173 (by decide) ?_
            refine n_isub hx hb (by omega) dX2_column_174 ?_
            refine ct_callR (ct_runV (As := [.int (nI (k - 1))]) (rest := [.ref (ad 13)]) B (met_X4_at l E ad (tray, trayed, fed, place, picked, pcnt, col) O S (made, all, wn, wb) P p_s o_s (some (ad 13)) (nI 5) (nI 0) rk (k - 1) H.size (by omega)) (lw_V q627 q628 q629 q52 q630) (n := 1) ⟨by decide, by decide, by decide +kernel⟩ rfl ⟨rfl, rfl, (Nat.le_of_ble_eq_true rfl), (Nat.le_of_ble_eq_true rfl), (Nat.le_of_ble_eq_true rfl), (Nat.le_of_ble_eq_true rfl)⟩ h.2.2 hA (ct_recv B h.1 kX4 10 rfl) h.1 hl.1 (Nat.le_of_ble_eq_true rfl) dX2_column_175) (fun v hv => ?_)
            subst hv
            refine W.eq (g2 := F0 m 178 ls [.int (p_s (k - 1)), .ref (ad 13)]) rfl ?_
            refine W.eq (g2 := F0 m 178 ls [.int (nI (pl (k - 1))), .ref (ad 13)]) (by rw [hso1 (k - 1) (by omega)] <;> rfl) ?_
            refine ct_lald (f := rk) B h.1 13 rfl (by omega) (by omega) dX2_column_178 ?_
            refine W.eq (g2 := F0 m 179 ls [.long (befV cols rows cw co (cw (cols * (pl (k - 1)) + co)))]) (by rw [hrk _ (by omega)]) ?_
            refine lv_aload_n hx hb dX2_column_179 rfl (lv_at hl 3 rfl) ?_
            refine ct_get (v := .ref (ad 13)) B h.1 kX2 3 rfl 14 (Nat.le_of_ble_eq_true rfl) q229 rfl dX2_column_180 ?_
            refine lv_iload hx hb dX2_column_183 (lv_at hl 0 rfl) ?_
            refine ct_lald (f := rk) B h.1 13 rfl (by omega) (by omega) dX2_column_185 ?_
            refine W.eq (g2 := F0 m 186 ls [.long (befV cols rows cw co (cw (cols * (pl k) + co))), .long (befV cols rows cw co (cw (cols * (pl (k - 1)) + co)))]) (by rw [hrk _ (by omega)]) ?_
            refine l_if_eq (tgt := 196) hx hb dX2_column_186 dX2_column_187 (by decide) (fun crk => ?_) (fun crk => ?_)
            · have hrq := rk_eq (by omega) cm crk
              have hnx := NN_same hnn (by omega) cm hrq.1 hrq.2
              refine lv_aload_n hx hb dX2_column_196 rfl (lv_at hl 6 rfl) ?_
              refine lv_iload hx hb dX2_column_197 (lv_at hl 0 rfl) ?_
              refine lv_lload hx hb dX2_column_199 (lv_at hl 2 rfl) ?_
              refine ct_last (ws' := xw E ad (tray, trayed, fed, place, picked, pcnt, (vp_updL col (pl k) (lN nn - 1))) O S (made, all, wn, wb) P (p_s, o_s, (some (ad 13)), (nI 5), (nI 0), rk)) B h 15 rfl (by omega) (by omega) rfl dX2_column_201 (fun H locs h => ?_)
              refine n_iinc (n := 1) (lv' := [(6, .int (nI (k + 1))), (7, .int (nI (pl k))), (4, .long (lN nn - 1)), (0, .ref (ad 3)), (1, .ref (q 0)), (2, .int (nI co)), (3, .ref (ad 15))]) hx hb dX2_column_202 hl (k := 1) rfl rfl (by decide) (by decide) rfl (fun ls hl => ?_)
              refine lv_goto (tgt := 112) hx hb dX2_column_205 (by decide) ?_
              exact ih_3 ((k + 1), nn, (vp_updL col (pl k) (lN nn - 1))) H locs ls (by dsimp only; omega) ⟨lv_sub hl [0, 2, 3, 4, 5, 6] rfl, h, by omega, hnx.1, fun i hi => by by_cases q9 : i = k; rw [q9, updL_s, colV, if_neg (fun q8 => q8 cl8), if_neg cm]; exact num_v (hnx.2.trans (cntV_one ⟨pl k, hso2 k (by omega), cm, rfl⟩)); rw [updL_n (fun q8 => q9 (hso3 i k (Nat.zero_le _) (by omega) (Nat.zero_le _) (by omega) q8))]; exact hcv i (by omega)⟩
            · have hnx := NN_new hsr hso2 (by omega) hnn cm (Or.inr (rk_ne (by omega) cm crk))
              refine lv_lload hx hb dX2_column_190 (lv_at hl 2 rfl) ?_
              refine lv_lconst (v := 1) hx hb dX2_column_192 (by decide) ?_
              refine lv_ladd hx hb dX2_column_193 ?_
              refine W.eq (g2 := F0 m 194 ls [.long (lN (nn + 1) - 1)]) (by rw [num_S]) ?_
              refine lv_lstore (lv' := [(4, .long (lN (nn + 1) - 1)), (7, .int (nI (pl k))), (6, .int (nI k)), (0, .ref (ad 3)), (1, .ref (q 0)), (2, .int (nI co)), (3, .ref (ad 15))]) hx hb dX2_column_194 hl (by decide) rfl (fun ls hl => ?_)
              refine lv_aload_n hx hb dX2_column_196 rfl (lv_at hl 6 rfl) ?_
              refine lv_iload hx hb dX2_column_197 (lv_at hl 1 rfl) ?_
              refine lv_lload hx hb dX2_column_199 (lv_at hl 0 rfl) ?_
              refine ct_last (ws' := xw E ad (tray, trayed, fed, place, picked, pcnt, (vp_updL col (pl k) (lN (nn + 1) - 1))) O S (made, all, wn, wb) P (p_s, o_s, (some (ad 13)), (nI 5), (nI 0), rk)) B h 15 rfl (by omega) (by omega) rfl dX2_column_201 (fun H locs h => ?_)
              refine n_iinc (n := 1) (lv' := [(6, .int (nI (k + 1))), (4, .long (lN (nn + 1) - 1)), (7, .int (nI (pl k))), (0, .ref (ad 3)), (1, .ref (q 0)), (2, .int (nI co)), (3, .ref (ad 15))]) hx hb dX2_column_202 hl (k := 2) rfl rfl (by decide) (by decide) rfl (fun ls hl => ?_)
              refine lv_goto (tgt := 112) hx hb dX2_column_205 (by decide) ?_
              exact ih_3 ((k + 1), (nn + 1), (vp_updL col (pl k) (lN (nn + 1) - 1))) H locs ls (by dsimp only; omega) ⟨lv_sub hl [0, 1, 3, 4, 5, 6] rfl, h, by omega, hnx.1, fun i hi => by by_cases q9 : i = k; rw [q9, updL_s, colV, if_neg (fun q8 => q8 cl8), if_neg cm]; exact num_v (hnx.2.trans (cntV_one ⟨pl k, hso2 k (by omega), cm, rfl⟩)); rw [updL_n (fun q8 => q9 (hso3 i k (Nat.zero_le _) (by omega) (Nat.zero_le _) (by omega) q8))]; exact hcv i (by omega)⟩
        · refine lv_aload_n hx hb dX2_column_148 rfl (lv_at hl 6 rfl) ?_
          refine lv_iload hx hb dX2_column_149 (lv_at hl 0 rfl) ?_
          refine lv_ldc2 (v := (-1)) hx hb B.2.2.1 (B.2.2.2.1 _ q584) dX2_column_151 ?_
          refine ct_last (ws' := xw E ad (tray, trayed, fed, place, picked, pcnt, (vp_updL col (pl k) (-1))) O S (made, all, wn, wb) P (p_s, o_s, (some (ad 13)), (nI 5), (nI 0), rk)) B h 15 rfl (by omega) (by omega) rfl dX2_column_154 (fun H locs h => ?_)
          refine lv_goto (tgt := 202) hx hb dX2_column_155 (by decide) ?_
          refine n_iinc (n := 1) (lv' := [(6, .int (nI (k + 1))), (7, .int (nI (pl k))), (4, .long (lN nn - 1)), (0, .ref (ad 3)), (1, .ref (q 0)), (2, .int (nI co)), (3, .ref (ad 15))]) hx hb dX2_column_202 hl (k := 1) rfl rfl (by decide) (by decide) rfl (fun ls hl => ?_)
          refine lv_goto (tgt := 112) hx hb dX2_column_205 (by decide) ?_
          exact ih_3 ((k + 1), nn, (vp_updL col (pl k) (-1))) H locs ls (by dsimp only; omega) ⟨lv_sub hl [0, 2, 3, 4, 5, 6] rfl, h, by omega, NN_miss hsr (by omega) hnn cm, fun i hi => by by_cases q9 : i = k; rw [q9, updL_s, colV, if_neg (fun q8 => q8 cl8), if_pos cm]; rw [updL_n (fun q8 => q9 (hso3 i k (Nat.zero_le _) (by omega) (Nat.zero_le _) (by omega) q8))]; exact hcv i (by omega)⟩
    · refine lv_aload_n hx hb dX2_column_66 rfl (lv_at hl 1 rfl) ?_
      refine ct_get (v := .ref (ad 13)) B h.1 kX2 3 rfl 14 (Nat.le_of_ble_eq_true rfl) q229 rfl dX2_column_67 ?_
      refine lv_iload hx hb dX2_column_70 (lv_at hl 0 rfl) ?_
      refine lv_aload_n hx hb dX2_column_72 rfl (lv_at hl 1 rfl) ?_
      refine lv_aload_n hx hb dX2_column_73 rfl (lv_at hl 2 rfl) ?_
      refine lv_iload_n hx hb dX2_column_74 rfl (lv_at hl 3 rfl) ?_
      refine lv_iload hx hb dX2_column_75 (lv_at hl 0 rfl) ?_
      refine ct_callR (ct_runV (As := [.ref (q 0), .int (nI co), .int (nI r_)]) (rest := [.int (nI r_), .ref (ad 13)]) B (met_X2_before l E ad (tray, trayed, fed, place, picked, pcnt, column) O S made all wn wb P (places, other, row, lane, fall, rk) q cols rows co r_ f cw H.size (by omega) hn hco (by omega) hTDc) (lw_V q580 q582 qs20 q50 q583) (n := 3) ⟨by decide, by decide, by decide +kernel⟩ rfl ⟨rfl, rfl, (Nat.le_of_ble_eq_true rfl), (Nat.le_of_ble_eq_true rfl), (Nat.le_of_ble_eq_true rfl), (Nat.le_of_ble_eq_true rfl)⟩ h.2.2 hA (ct_recv B h.1 kX2 3 rfl) ⟨h.1, (ct_keep hT0 hN0 h.2.2)⟩ hl.1 (Nat.le_of_ble_eq_true rfl) dX2_column_77) (fun v hv => ?_)
      subst hv
      refine W.eq (g2 := F0 m 80 ls [.long (befV cols rows cw co (cw (cols * r_ + co))), .int (nI r_), .ref (ad 13)]) rfl ?_
      refine ct_last (ws' := xw E ad (tray, trayed, fed, place, picked, pcnt, column) O S (made, all, wn, wb) P (places, other, row, lane, fall, (vp_updL rk r_ (befV cols rows cw co (cw (cols * r_ + co)))))) B h 13 rfl (by omega) (by omega) rfl dX2_column_80 (fun H locs h => ?_)
      refine n_iinc (n := 1) (lv' := [(4, .int (nI (r_ + 1))), (0, .ref (ad 3)), (1, .ref (q 0)), (2, .int (nI co)), (3, .ref (ad 15))]) hx hb dX2_column_81 hl (k := 0) rfl rfl (by decide) (by decide) rfl (fun ls hl => ?_)
      refine lv_goto (tgt := 57) hx hb dX2_column_84 (by decide) ?_
      exact ih_1 ((r_ + 1), (vp_updL rk r_ (befV cols rows cw co (cw (cols * r_ + co))))) H locs ls (by dsimp only; omega) ⟨lv_sub hl [0, 1, 2, 3, 4] rfl, h, by omega, fun j hj => by by_cases q9 : j = r_; rw [q9, updL_s]; rw [updL_n q9]; exact hrk j (by omega)⟩
  · refine lv_iconst (v := nI 0) hx hb dX2_column_11 (by decide) ?_
    refine lv_istore (lv' := [(4, .int (nI 0)), (0, .ref (ad 3)), (1, .ref (q 0)), (2, .int (nI co)), (3, .ref (ad 15))]) hx hb dX2_column_12 hl (by decide) rfl (fun ls hl => ?_)
    refine ct_loopH (σ := Nat × (Nat → Int64)) (fun (r_, col) H locs ls => lv_has ls 8 [(4, .int (nI r_)), (0, .ref (ad 3)), (1, .ref (q 0)), (2, .int (nI co)), (3, .ref (ad 15))] ∧ Hs E A s.heap (xw E ad (tray, trayed, fed, place, picked, pcnt, col) O S (made, all, wn, wb) P (places, other, row, lane, fall, ranks)) H locs ∧ (r_ ≤ rows) ∧ (∀ j, j < r_ → col j = colV ln cols rows cw co j)) (fun (r_, col) => rows - r_) (fun _ => 0) (fun _ => 0) (g := fun (r_, col) ls => F0 m 14 ls []) (x0 := (0, column)) (ls0 := ls) ?_ ⟨lv_sub hl [0, 1, 2, 3, 4] rfl, h, Nat.zero_le _, fun j hj => absurd hj (Nat.not_lt_zero j)⟩
    clear hl h
    intro x9 H locs ls hI ih_5
    obtain ⟨r_, col⟩ := x9
    obtain ⟨hl, h, hr_, hcv⟩ := hI
    refine W.eq (g2 := F0 m 14 ls []) rfl ?_
    refine lv_iload hx hb dX2_column_14 (lv_at hl 0 rfl) ?_
    refine lv_aload_n hx hb dX2_column_16 rfl (lv_at hl 2 rfl) ?_
    refine ct_get (v := .int (nI rows)) B (ct_keep hT0 hN0 h.2.2) kX9 0 rfl 1 (Nat.le_of_ble_eq_true rfl) q396 rfl dX2_column_17 ?_
    refine n_icmp_ge (tgt := 53) hx hb dX2_column_20 (by decide) (by omega) (by omega) (fun c_6 => ?_) (fun c_6 => ?_)
    · exact ct_vret B h.2.2 ⟨col, (places, other, row, lane, fall, ranks), rfl, h.1, fun r hr => hcv r (by omega)⟩ dX2_column_53
    · have hix := ix_lt hco (show r_ < rows by omega)
      obtain ⟨_, _, a_s, ha_s, hta, _⟩ := hTDc _ hix
      refine lv_aload_n hx hb dX2_column_23 rfl (lv_at hl 4 rfl) ?_
      refine lv_iload hx hb dX2_column_24 (lv_at hl 0 rfl) ?_
      refine lv_aload_n hx hb dX2_column_26 rfl (lv_at hl 1 rfl) ?_
      refine lv_aload_n hx hb dX2_column_27 rfl (lv_at hl 2 rfl) ?_
      refine lv_aload_n hx hb dX2_column_28 rfl (lv_at hl 2 rfl) ?_
      refine ct_get (v := .int (nI cols)) B (ct_keep hT0 hN0 h.2.2) kX9 0 rfl 0 (Nat.le_of_ble_eq_true rfl) q393 rfl dX2_column_29 ?_
      refine lv_iload hx hb dX2_column_32 (lv_at hl 0 rfl) ?_
      refine n_imul hx hb dX2_column_34 ?_
      refine lv_iload_n hx hb dX2_column_35 rfl (lv_at hl 3 rfl) ?_
      refine n_iadd hx hb dX2_column_36 ?_
      refine lv_aload_n hx hb dX2_column_37 rfl (lv_at hl 2 rfl) ?_
      refine ct_get (v := .ref (q 5)) B (ct_keep hT0 hN0 h.2.2) kX9 0 rfl 6 (Nat.le_of_ble_eq_true rfl) q408 rfl dX2_column_38 ?_
      refine lv_iload_n hx hb dX2_column_41 rfl (lv_at hl 3 rfl) ?_
      refine ct_iald (f := f 4) B (ct_keep hT0 hN0 h.2.2) 5 rfl (by omega) (by omega) dX2_column_42 ?_
      refine W.eq (g2 := F0 m 43 ls [.int (nI ln), .int (nI (cols * r_ + co)), .ref (q 0), .ref (ad 3), .int (nI r_), .ref (ad 15)]) (by rw [hl4]) ?_
      refine ct_callR (ct_runV (As := [.ref (q 0), .int (nI (cols * r_ + co)), .int (nI ln)]) (rest := [.int (nI r_), .ref (ad 15)]) B (met_X2_value l E ad (tray, trayed, fed, place, picked, pcnt, col) O S made all wn wb P (places, other, row, lane, fall, ranks) q cols rows (cols * r_ + co) ln a_s f (cw (cols * r_ + co)) H.size hix hn (hTDc _ hix).1 (hTDc _ hix).2.1 ha_s hta hln (hok cl8 r_ (by omega))) (lw_V q565 q567 qs19 q50 q568) (n := 3) ⟨by decide, by decide, by decide +kernel⟩ rfl ⟨rfl, rfl, (Nat.le_of_ble_eq_true rfl), (Nat.le_of_ble_eq_true rfl), (Nat.le_of_ble_eq_true rfl), (Nat.le_of_ble_eq_true rfl)⟩ h.2.2 hA (ct_recv B h.1 kX2 3 rfl) ⟨h.1, (ct_keep hT0 hN0 h.2.2)⟩ hl.1 (Nat.le_of_ble_eq_true rfl) dX2_column_43) (fun v hv => ?_)
      subst hv
      refine W.eq (g2 := F0 m 46 ls [.long (valC ln (cw (cols * r_ + co))), .int (nI r_), .ref (ad 15)]) rfl ?_
      refine ct_last (ws' := xw E ad (tray, trayed, fed, place, picked, pcnt, (vp_updL col r_ (valC ln (cw (cols * r_ + co))))) O S (made, all, wn, wb) P (places, other, row, lane, fall, ranks)) B h 15 rfl (by omega) (by omega) rfl dX2_column_46 (fun H locs h => ?_)
      refine n_iinc (n := 1) (lv' := [(4, .int (nI (r_ + 1))), (0, .ref (ad 3)), (1, .ref (q 0)), (2, .int (nI co)), (3, .ref (ad 15))]) hx hb dX2_column_47 hl (k := 0) rfl rfl (by decide) (by decide) rfl (fun ls hl => ?_)
      refine lv_goto (tgt := 14) hx hb dX2_column_50 (by decide) ?_
      exact ih_5 ((r_ + 1), (vp_updL col r_ (valC ln (cw (cols * r_ + co))))) H locs ls (by dsimp only; omega) ⟨lv_sub hl [0, 1, 2, 3, 4] rfl, h, by omega, fun j hj => by by_cases q9 : j = r_; rw [q9, updL_s, colV, if_pos cl8]; rw [updL_n q9]; exact hcv j (by omega)⟩
