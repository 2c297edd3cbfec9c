set_option maxHeartbeats 4000000 in
set_option maxRecDepth 100000 in
theorem met_X2_lookT (l : Launch) (E : CE) (ad : Nat → Nat) (tray : Nat → Int32) (trayed : Nat) (fed : Nat) (place : Int32) (picked : Nat → Int64) (pcnt : Nat) (column : Nat → Int64) (O : XO) (S : XS) (T : XT) (size : Nat) (at_ : Nat) (means : Nat → Int32) (meant : Nat) (starts : Nat → Int32) (lens : Nat → Int32) (cnt : Nat) (cols : Nat) (R : XR) (t : List Nat) (sz : Nat) (htx : txR tray size t) (hsz_ : size ≤ 16000) (ha : at_ < 2147483648) : Met l yX2_look (ws_ yX2_look cX2_look 1 (some .int)) { frames := 0, cells := 0, slots := 0, locals := 0 } (ctP E [.ref (ad 3)] sz (fun H => va_P E.1 ct_cl (xw E ad (tray, trayed, fed, place, picked, pcnt, column) O S T ((some (ad 1)), size, at_, means, meant, starts, lens, cnt, cols) R) H)) (ctR (fun v => v = some (.int (lkI t at_)))) 0 0 (fun _ => False) := by
  refine ct_start (by decide) (Nat.le_of_ble_eq_true rfl) ?_
  intro p e s m below meth c ls B hsz hH hl
  have hP := hH
  have hx := B.1
  have hb := B.2.1
  have hl : lv_has ls 1 [(0, .ref (ad 3))] := hl
  have htb := txR_lt htx
  have htl := htx.1
  refine lv_aload_n hx hb dX2_look_0 rfl (lv_at hl 0 rfl) ?_
  refine ct_get (v := .int (nI at_)) B hP kX2 3 rfl 6 (Nat.le_of_ble_eq_true rfl) q221 rfl dX2_look_1 ?_
  refine lv_aload_n hx hb dX2_look_4 rfl (lv_at hl 0 rfl) ?_
  refine ct_get (v := .int (nI size)) B hP kX2 3 rfl 5 (Nat.le_of_ble_eq_true rfl) q220 rfl dX2_look_5 ?_
  refine n_icmp_ge (tgt := 27) hx hb dX2_look_8 (by decide) (by omega) (by omega) (fun c_1 => ?_) (fun c_1 => ?_)
  · refine lv_iconst (v := (-1)) hx hb dX2_look_27 (by decide) ?_
    exact ct_iretR (ty := .int) (v := (-1)) B rfl rfl (by rw [lk_out (by omega)] <;> rfl) dX2_look_28
  · refine lv_aload_n hx hb dX2_look_11 rfl (lv_at hl 0 rfl) ?_
    refine ct_get (v := .ref (ad 1)) B hP kX2 3 rfl 4 (Nat.le_of_ble_eq_true rfl) q219 rfl dX2_look_12 ?_
    refine lv_aload_n hx hb dX2_look_15 rfl (lv_at hl 0 rfl) ?_
    refine ct_get (v := .int (nI at_)) B hP kX2 3 rfl 6 (Nat.le_of_ble_eq_true rfl) q221 rfl dX2_look_16 ?_
    refine ct_bald (f := tray) B hP 1 rfl (by omega) (by omega) dX2_look_19 ?_
    refine lv_sipush (v := nI 255) hx hb dX2_look_20 (by decide) ?_
    refine lv_iand hx hb dX2_look_23 ?_
    refine W.eq (g2 := F0 m 24 ls [.int (nI (t.getD at_ 0))]) (by rw [txR_and htx (by omega)]) ?_
    refine lv_goto (tgt := 28) hx hb dX2_look_24 (by decide) ?_
    exact ct_iretR (ty := .int) (v := (nI (t.getD at_ 0))) B rfl rfl (by rw [lk_in (by omega)] <;> rfl) dX2_look_28
set_option maxHeartbeats 4000000 in
set_option maxRecDepth 100000 in
theorem met_X2_quoted (l : Launch) (E : CE) (ad : Nat → Nat) (tray : Nat → Int32) (trayed : Nat) (fed : Nat) (place : Int32) (picked : Nat → Int64) (pcnt : Nat) (column : Nat → Int64) (O : XO) (code : Int32) (splace : Int32) (T : XT) (size : Nat) (at_ : Nat) (means : Nat → Int32) (meant : Nat) (starts : Nat → Int32) (lens : Nat → Int32) (cnt : Nat) (cols : Nat) (R : XR) (t : List Nat) (sz : Nat) (htx : txR tray size t) (hsz_ : size ≤ 16000) (hat : at_ < size) (hto : meant ≤ at_) : MetX l yX2_quoted (ws_ yX2_quoted cX2_quoted 3 none) { frames := 2, cells := 0, slots := 0, locals := 43 } (ctP E [.ref (ad 3)] sz (fun H => va_P E.1 ct_cl (xw E ad (tray, trayed, fed, place, picked, pcnt, column) O (code, splace) T ((some (ad 1)), size, at_, means, meant, starts, lens, cnt, cols) R) H ∧ va_D (fun q => E.2.2.1 ≤ q) (xw E ad (tray, trayed, fed, place, picked, pcnt, column) O (code, splace) T ((some (ad 1)), size, at_, means, meant, starts, lens, cnt, cols) R))) (ctX (fun v H => ∃ u2 : List Nat, ∃ i2 : Nat, ∃ me2 : Nat → Int32, v = none ∧ va_P E.1 ct_cl (xw E ad (tray, trayed, fed, place, picked, pcnt, column) O (code, splace) T ((some (ad 1)), size, i2, me2, meant + u2.length, starts, lens, cnt, cols) R) H ∧ scanQ (t.drop (at_ + 1)) false (at_ + 1) [] = .inr (u2, i2) ∧ (∀ j, j < meant → me2 j = means j) ∧ (∀ j, j < u2.length → me2 (meant + j) = nI (u2.getD j 0)) ∧ (∀ x ∈ u2, 32 ≤ x ∧ x ≤ 126) ∧ (meant + u2.length ≤ i2 ∧ i2 ≤ size)) (fun x H => ∃ pl : Nat, ∃ P2 : XP, x = ad 20 ∧ va_P E.1 ct_cl (xw E ad (tray, trayed, fed, place, picked, pcnt, column) O (20, (nI pl)) T (P2.1, P2.2.1, P2.2.2.1, P2.2.2.2.1, P2.2.2.2.2.1, P2.2.2.2.2.2.1, P2.2.2.2.2.2.2.1, P2.2.2.2.2.2.2.2.1, P2.2.2.2.2.2.2.2.2) R) H ∧ scanQ (t.drop (at_ + 1)) false (at_ + 1) [] = .inl pl) (va_A (xw E ad (tray, trayed, fed, place, picked, pcnt, column) O (code, splace) T ((some (ad 1)), size, at_, means, meant, starts, lens, cnt, cols) R) sz)) 0 0 (va_A (xw E ad (tray, trayed, fed, place, picked, pcnt, column) O (code, splace) T ((some (ad 1)), size, at_, means, meant, starts, lens, cnt, cols) R) sz) := by
  refine ct_startX (by decide) (Nat.le_of_ble_eq_true rfl) ?_
  intro p e s m below meth c ls B hno hsz hH hl
  obtain ⟨hP, hD⟩ := hH
  obtain ⟨A, hAe, h, hA, hAn⟩ := ct_enter B.2.2.2.2.2.2.2.2 hsz hP hD
  rw [hAe]
  refine ct_gen h (fun H locs h => ?_)
  have hx := B.1
  have hb := B.2.1
  have hl : lv_has ls 3 [(0, .ref (ad 3))] := hl
  have htb := txR_lt htx
  have htl := htx.1
  refine lv_aload_n hx hb dX2_quoted_0 rfl (lv_at hl 0 rfl) ?_
  refine lv_dup hx hb dX2_quoted_1 rfl ?_
  refine ct_get (v := .int (nI at_)) B h.1 kX2 3 rfl 6 (Nat.le_of_ble_eq_true rfl) q221 rfl dX2_quoted_2 ?_
  refine lv_iconst (v := nI 1) hx hb dX2_quoted_5 (by decide) ?_
  refine n_iadd hx hb dX2_quoted_6 ?_
  refine ct_put (ws' := xw E ad (tray, trayed, fed, place, picked, pcnt, column) O (code, splace) T ((some (ad 1)), size, at_ + 1, means, meant, starts, lens, cnt, cols) R) B h kX2 3 rfl 6 (Nat.le_of_ble_eq_true rfl) q221 rfl rfl rfl (Nat.le_of_ble_eq_true rfl) rfl dX2_quoted_7 (fun H locs h => ?_)
  refine lv_iconst (v := nI 1) hx hb dX2_quoted_10 (by decide) ?_
  refine lv_istore_n (lv' := [(1, .int (nI 1)), (0, .ref (ad 3))]) hx hb dX2_quoted_11 rfl hl (by decide) rfl (fun ls hl => ?_)
  refine ct_loopH (σ := Nat × Nat × Nat × List Nat × (Nat → Int32)) (fun (mo, i, mt, u, me) H locs ls => lv_has ls 3 [(1, .int (nI mo)), (0, .ref (ad 3))] ∧ Hs E A s.heap (xw E ad (tray, trayed, fed, place, picked, pcnt, column) O (code, splace) T ((some (ad 1)), size, i, me, mt, starts, lens, cnt, cols) R) H locs ∧ (i ≤ size) ∧ (mt ≤ i) ∧ (mt = meant + u.length) ∧ ((mo = 1 ∧ scanQ (t.drop (at_ + 1)) false (at_ + 1) [] = scanQ (t.drop i) false i u) ∨ (mo = 0 ∧ scanQ (t.drop (at_ + 1)) false (at_ + 1) [] = .inr (u, i))) ∧ (∀ j, j < meant → me j = means j) ∧ (∀ j, j < u.length → me (meant + j) = nI (u.getD j 0)) ∧ (∀ x ∈ u, 32 ≤ x ∧ x ≤ 126)) (fun (mo, i, mt, u, me) => size - i) (fun _ => 0) (fun _ => 0) (g := fun (mo, i, mt, u, me) ls => F0 m 12 ls []) (x0 := (1, (at_ + 1), meant, [], means)) (ls0 := ls) ?_ ⟨lv_sub hl [0, 1] rfl, h, by omega, by omega, rfl, Or.inl ⟨rfl, rfl⟩, fun _ _ => rfl, fun j hj => absurd hj (Nat.not_lt_zero j), fun x hx => by cases hx⟩
  clear hl h
  intro x9 H locs ls hI ih_1
  obtain ⟨mo, i, mt, u, me⟩ := x9
  obtain ⟨hl, h, hi, hmi, hmt, hs_, hme, hmu, hur⟩ := hI
  refine W.eq (g2 := F0 m 12 ls []) rfl ?_
  refine lv_iload_n hx hb dX2_quoted_12 rfl (lv_at hl 0 rfl) ?_
  refine n_if_eq (tgt := 91) hx hb dX2_quoted_13 (by decide) (by omega) (fun cmo => ?_) (fun cmo => ?_)
  · have hs1 : scanQ (t.drop (at_ + 1)) false (at_ + 1) [] = .inr (u, i) := by rcases hs_ with ⟨q9, _⟩ | ⟨_, q9⟩; exact absurd q9 (by omega); exact q9
    subst hmt
    exact ct_toX (ct_vret B h.2.2 ⟨u, i, me, rfl, h.1, hs1, hme, hmu, hur, by omega⟩ dX2_quoted_91)
  · have hs1 : scanQ (t.drop (at_ + 1)) false (at_ + 1) [] = scanQ (t.drop i) false i u := by rcases hs_ with ⟨_, q9⟩ | ⟨q9, _⟩; exact q9; exact absurd q9 cmo
    have hmo : mo = 1 := by rcases hs_ with ⟨q9, _⟩ | ⟨q9, _⟩; exact q9; exact absurd q9 cmo
    refine lv_aload_n hx hb dX2_quoted_16 rfl (lv_at hl 1 rfl) ?_
    refine ct_callR (ct_runV (As := []) (rest := []) B (met_X2_lookT l E ad tray trayed fed place picked pcnt column O (code, splace) T size i me mt starts lens cnt cols R t H.size htx hsz_ (by omega)) (lw_V q353 q355 qs6 q50 q356) (n := 0) ⟨by decide, by decide, by decide +kernel⟩ rfl ⟨rfl, rfl, (Nat.le_of_ble_eq_true rfl), (Nat.le_of_ble_eq_true rfl), (Nat.le_of_ble_eq_true rfl), (Nat.le_of_ble_eq_true rfl)⟩ h.2.2 hA (ct_recv B h.1 kX2 3 rfl) h.1 hl.1 (Nat.le_of_ble_eq_true rfl) dX2_quoted_17) (fun v hv => ?_)
    subst hv
    refine W.eq (g2 := F0 m 20 ls [.int (lkI t i)]) rfl ?_
    refine lv_istore_n (lv' := [(2, .int (lkI t i)), (1, .int (nI mo)), (0, .ref (ad 3))]) hx hb dX2_quoted_20 rfl hl (by decide) rfl (fun ls hl => ?_)
    refine lv_iload_n hx hb dX2_quoted_21 rfl (lv_at hl 0 rfl) ?_
    refine lv_bipush (v := nI 32) hx hb dX2_quoted_22 (by decide) ?_
    refine k_icmp_lt (tgt := 33) hx hb dX2_quoted_24 (by decide) htb (by decide) (fun c32 => ?_) (fun c32 => ?_)
    · refine lv_aload_n hx hb dX2_quoted_33 rfl (lv_at hl 2 rfl) ?_
      refine lv_aload_n hx hb dX2_quoted_34 rfl (lv_at hl 2 rfl) ?_
      refine ct_get (v := .int (nI i)) B h.1 kX2 3 rfl 6 (Nat.le_of_ble_eq_true rfl) q221 rfl dX2_quoted_35 ?_
      refine ct_callQ (ct_runV (As := [.int (nI i)]) (rest := []) B (met_X2_wrong l E ad (tray, trayed, fed, place, picked, pcnt, column) O code splace T ((some (ad 1)), size, i, me, mt, starts, lens, cnt, cols) R (nI i) H.size) (lw_V q341 q343 qs4 q50 q344) (n := 1) ⟨by decide, by decide, by decide +kernel⟩ rfl ⟨rfl, rfl, (Nat.le_of_ble_eq_true rfl), (Nat.le_of_ble_eq_true rfl), (Nat.le_of_ble_eq_true rfl), (Nat.le_of_ble_eq_true rfl)⟩ h.2.2 hA (ct_recv B h.1 kX2 3 rfl) ⟨h.1, (ct_D0 h hA)⟩ hl.1 (Nat.le_of_ble_eq_true rfl) dX2_quoted_38) h.2.2 (ct_sub h hAn) (ct_sub h hAn) (fun v H locs hv hz hk hS => ?_)
      obtain ⟨rfl, hP1⟩ := hv
      have h : Hs E A s.heap (xw E ad (tray, trayed, fed, place, picked, pcnt, column) O (20, (nI i)) T ((some (ad 1)), size, i, me, mt, starts, lens, cnt, cols) R) H locs := ct_again h hP1 rfl hS
      clear hP1 hS hz hk
      refine W.eq (g2 := F0 m 41 ls [.ref (ad 20)]) rfl ?_
      exact ct_athrow B hno h.2.2 ⟨i, ((some (ad 1)), size, i, me, mt, starts, lens, cnt, cols), rfl, h.1, hs1.trans (by by_cases q9 : i < t.length; exact scanQ_bad q9 (by omega); exact scanQ_end (by omega))⟩ dX2_quoted_41
    · refine lv_iload_n hx hb dX2_quoted_27 rfl (lv_at hl 0 rfl) ?_
      refine lv_bipush (v := nI 126) hx hb dX2_quoted_28 (by decide) ?_
      refine k_icmp_le (tgt := 42) hx hb dX2_quoted_30 (by decide) htb (by decide) (fun c126 => ?_) (fun c126 => ?_)
      · refine lv_iload_n hx hb dX2_quoted_42 rfl (lv_at hl 0 rfl) ?_
        refine lv_bipush (v := nI 34) hx hb dX2_quoted_43 (by decide) ?_
        refine k_icmp_eq (tgt := 55) hx hb dX2_quoted_45 (by decide) htb (by decide) (fun c34r => ?_) (fun c34r => ?_)
        · have c34 : t.getD i 0 = 34 := c34r.2
          refine lv_aload_n hx hb dX2_quoted_55 rfl (lv_at hl 2 rfl) ?_
          refine lv_dup hx hb dX2_quoted_56 rfl ?_
          refine ct_get (v := .int (nI i)) B h.1 kX2 3 rfl 6 (Nat.le_of_ble_eq_true rfl) q221 rfl dX2_quoted_57 ?_
          refine lv_iconst (v := nI 1) hx hb dX2_quoted_60 (by decide) ?_
          refine n_iadd hx hb dX2_quoted_61 ?_
          refine ct_put (ws' := xw E ad (tray, trayed, fed, place, picked, pcnt, column) O (code, splace) T ((some (ad 1)), size, i + 1, me, mt, starts, lens, cnt, cols) R) B h kX2 3 rfl 6 (Nat.le_of_ble_eq_true rfl) q221 rfl rfl rfl (Nat.le_of_ble_eq_true rfl) rfl dX2_quoted_62 (fun H locs h => ?_)
          refine lv_aload_n hx hb dX2_quoted_65 rfl (lv_at hl 2 rfl) ?_
          refine ct_callR (ct_runV (As := []) (rest := []) B (met_X2_lookT l E ad tray trayed fed place picked pcnt column O (code, splace) T size (i + 1) me mt starts lens cnt cols R t H.size htx hsz_ (by omega)) (lw_V q353 q355 qs6 q50 q356) (n := 0) ⟨by decide, by decide, by decide +kernel⟩ rfl ⟨rfl, rfl, (Nat.le_of_ble_eq_true rfl), (Nat.le_of_ble_eq_true rfl), (Nat.le_of_ble_eq_true rfl), (Nat.le_of_ble_eq_true rfl)⟩ h.2.2 hA (ct_recv B h.1 kX2 3 rfl) h.1 hl.1 (Nat.le_of_ble_eq_true rfl) dX2_quoted_66) (fun v hv => ?_)
          subst hv
          refine W.eq (g2 := F0 m 69 ls [.int (lkI t (i + 1))]) rfl ?_
          refine lv_bipush (v := nI 34) hx hb dX2_quoted_69 (by decide) ?_
          refine k_icmp_ne (tgt := 78) hx hb dX2_quoted_71 (by decide) htb (by decide) (fun c342 => ?_) (fun c342 => ?_)
          · refine lv_iconst (v := nI 0) hx hb dX2_quoted_78 (by decide) ?_
            refine lv_istore_n (lv' := [(1, .int (nI 0)), (2, .int (lkI t i)), (0, .ref (ad 3))]) hx hb dX2_quoted_79 rfl hl (by decide) rfl (fun ls hl => ?_)
            refine lv_iload_n hx hb dX2_quoted_80 rfl (lv_at hl 0 rfl) ?_
            refine n_if_eq (tgt := 88) hx hb dX2_quoted_81 (by decide) (by omega) (fun c_2 => ?_) (fun c_2 => absurd c_2 (by omega))
            refine lv_goto (tgt := 12) hx hb dX2_quoted_88 (by decide) ?_
            exact ih_1 (0, (i + 1), mt, u, me) H locs ls (by dsimp only; omega) ⟨lv_sub hl [0, 2] rfl, h, by omega, by omega, hmt, Or.inr ⟨rfl, hs1.trans ((scanQ_q (by omega) c34).trans (scanQ_qe c342))⟩, hme, hmu, hur⟩
          · refine lv_iconst (v := nI 1) hx hb dX2_quoted_74 (by decide) ?_
            refine lv_goto (tgt := 79) hx hb dX2_quoted_75 (by decide) ?_
            refine lv_istore_n (lv' := [(1, .int (nI 1)), (2, .int (lkI t i)), (0, .ref (ad 3))]) hx hb dX2_quoted_79 rfl hl (by decide) rfl (fun ls hl => ?_)
            refine lv_iload_n hx hb dX2_quoted_80 rfl (lv_at hl 0 rfl) ?_
            refine n_if_eq (tgt := 88) hx hb dX2_quoted_81 (by decide) (by omega) (fun c_3 => absurd c_3 (by omega)) (fun c_3 => ?_)
            refine lv_aload_n hx hb dX2_quoted_84 rfl (lv_at hl 2 rfl) ?_
            refine ct_callQ (ct_runV (As := []) (rest := []) B (met_X2_mean l E ad tray trayed fed place picked pcnt column O (code, splace) T size (i + 1) me mt starts lens cnt cols R  H.size (by omega) (by omega)) (lw_V q361 q363 qs8 q50 q364) (n := 0) ⟨by decide, by decide, by decide +kernel⟩ rfl ⟨rfl, rfl, (Nat.le_of_ble_eq_true rfl), (Nat.le_of_ble_eq_true rfl), (Nat.le_of_ble_eq_true rfl), (Nat.le_of_ble_eq_true rfl)⟩ h.2.2 hA (ct_recv B h.1 kX2 3 rfl) ⟨h.1, (ct_D0 h hA)⟩ hl.1 (Nat.le_of_ble_eq_true rfl) dX2_quoted_85) h.2.2 (ct_sub h hAn) (ct_sub h hAn) (fun v H locs hv hz hk hS => ?_)
            obtain ⟨rfl, hP1⟩ := hv
            have h : Hs E A s.heap (xw E ad (tray, trayed, fed, place, picked, pcnt, column) O (code, splace) T ((some (ad 1)), size, i + 2, upd me mt (vp_nar .byte (tray (i + 1))), mt + 1, starts, lens, cnt, cols) R) H locs := ct_again h hP1 rfl hS
            clear hP1 hS hz hk
            refine W.eq (g2 := F0 m 88 ls []) rfl ?_
            rw [show vp_nar .byte (tray (i + 1)) = nI 34 from by rw [txR_ok htx (by omega) (by omega), c342.2]; exact vp_b (by omega)] at h
            refine lv_goto (tgt := 12) hx hb dX2_quoted_88 (by decide) ?_
            exact ih_1 (1, (i + 2), (mt + 1), (u ++ [34]), (upd me mt (nI 34))) H locs ls (by dsimp only; omega) ⟨lv_sub hl [0, 2] rfl, h, by omega, by omega, by rw [List.length_append, List.length_singleton]; omega, Or.inl ⟨rfl, hs1.trans ((scanQ_q (by omega) c34).trans (scanQ_qq (by omega) c342.2))⟩, (fun j hj => by rw [upd_n (by omega)]; exact hme j hj), (me_snoc hmt hmu), (rg_snoc hur (by omega))⟩
        · have c34 : t.getD i 0 ≠ 34 := fun q9 => c34r ⟨by omega, q9⟩
          refine lv_aload_n hx hb dX2_quoted_48 rfl (lv_at hl 2 rfl) ?_
          refine ct_callQ (ct_runV (As := []) (rest := []) B (met_X2_mean l E ad tray trayed fed place picked pcnt column O (code, splace) T size i me mt starts lens cnt cols R  H.size (by omega) (by omega)) (lw_V q361 q363 qs8 q50 q364) (n := 0) ⟨by decide, by decide, by decide +kernel⟩ rfl ⟨rfl, rfl, (Nat.le_of_ble_eq_true rfl), (Nat.le_of_ble_eq_true rfl), (Nat.le_of_ble_eq_true rfl), (Nat.le_of_ble_eq_true rfl)⟩ h.2.2 hA (ct_recv B h.1 kX2 3 rfl) ⟨h.1, (ct_D0 h hA)⟩ hl.1 (Nat.le_of_ble_eq_true rfl) dX2_quoted_49) h.2.2 (ct_sub h hAn) (ct_sub h hAn) (fun v H locs hv hz hk hS => ?_)
          obtain ⟨rfl, hP1⟩ := hv
          have h : Hs E A s.heap (xw E ad (tray, trayed, fed, place, picked, pcnt, column) O (code, splace) T ((some (ad 1)), size, i + 1, upd me mt (vp_nar .byte (tray i)), mt + 1, starts, lens, cnt, cols) R) H locs := ct_again h hP1 rfl hS
          clear hP1 hS hz hk
          refine W.eq (g2 := F0 m 52 ls []) rfl ?_
          rw [show vp_nar .byte (tray i) = nI (t.getD i 0) from by rw [txR_ok htx (by omega) (by omega)]; exact vp_b (by omega)] at h
          refine lv_goto (tgt := 88) hx hb dX2_quoted_52 (by decide) ?_
          refine lv_goto (tgt := 12) hx hb dX2_quoted_88 (by decide) ?_
          exact ih_1 (mo, (i + 1), (mt + 1), (u ++ [t.getD i 0]), (upd me mt (nI (t.getD i 0)))) H locs ls (by dsimp only; omega) ⟨lv_sub hl [1, 2] rfl, h, by omega, by omega, by rw [List.length_append, List.length_singleton]; omega, Or.inl ⟨hmo, hs1.trans (scanQ_c (by omega) (by omega) c34)⟩, (fun j hj => by rw [upd_n (by omega)]; exact hme j hj), (me_snoc hmt hmu), (rg_snoc hur (by omega))⟩
      · refine lv_aload_n hx hb dX2_quoted_33 rfl (lv_at hl 2 rfl) ?_
        refine lv_aload_n hx hb dX2_quoted_34 rfl (lv_at hl 2 rfl) ?_
        refine ct_get (v := .int (nI i)) B h.1 kX2 3 rfl 6 (Nat.le_of_ble_eq_true rfl) q221 rfl dX2_quoted_35 ?_
        refine ct_callQ (ct_runV (As := [.int (nI i)]) (rest := []) B (met_X2_wrong l E ad (tray, trayed, fed, place, picked, pcnt, column) O code splace T ((some (ad 1)), size, i, me, mt, starts, lens, cnt, cols) R (nI i) H.size) (lw_V q341 q343 qs4 q50 q344) (n := 1) ⟨by decide, by decide, by decide +kernel⟩ rfl ⟨rfl, rfl, (Nat.le_of_ble_eq_true rfl), (Nat.le_of_ble_eq_true rfl), (Nat.le_of_ble_eq_true rfl), (Nat.le_of_ble_eq_true rfl)⟩ h.2.2 hA (ct_recv B h.1 kX2 3 rfl) ⟨h.1, (ct_D0 h hA)⟩ hl.1 (Nat.le_of_ble_eq_true rfl) dX2_quoted_38) h.2.2 (ct_sub h hAn) (ct_sub h hAn) (fun v H locs hv hz hk hS => ?_)
        obtain ⟨rfl, hP1⟩ := hv
        have h : Hs E A s.heap (xw E ad (tray, trayed, fed, place, picked, pcnt, column) O (20, (nI i)) T ((some (ad 1)), size, i, me, mt, starts, lens, cnt, cols) R) H locs := ct_again h hP1 rfl hS
        clear hP1 hS hz hk
        refine W.eq (g2 := F0 m 41 ls [.ref (ad 20)]) rfl ?_
        exact ct_athrow B hno h.2.2 ⟨i, ((some (ad 1)), size, i, me, mt, starts, lens, cnt, cols), rfl, h.1, hs1.trans (by by_cases q9 : i < t.length; exact scanQ_bad q9 (by omega); exact scanQ_end (by omega))⟩ dX2_quoted_41
