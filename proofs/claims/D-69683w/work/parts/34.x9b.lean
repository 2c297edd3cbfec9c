set_option maxHeartbeats 4000000 in
set_option maxRecDepth 100000 in
theorem met_X2_cell_0 (l : Launch) (E : CE) (ad : Nat → Nat) (tray : Nat → Int32) (trayed : Nat) (fed : Nat) (place : Int32) (picked : Nat → Int64) (pcnt : Nat) (column : Nat → Int64) (O : XO) (code : Int32) (splace : Int32) (T : XT) (size : Nat) (at_ : Nat) (means : Nat → Int32) (meant : Nat) (starts : Nat → Int32) (lens : Nat → Int32) (cnt : Nat) (cols : Nat) (R : XR) (t : List Nat) (acc : List Wd) (sz : Nat) (htx : txR tray size t) (hsz_ : size ≤ 16000) (hat : at_ ≤ size) (hto : meant ≤ at_) (hcn : cnt = acc.length) (hmt : meant = tot acc) (hc8 : cnt < 8000) (hpw : pWs means starts lens acc) : MetX l yX2_cell (ws_ yX2_cell cX2_cell 7 none) { frames := 3, cells := 0, slots := 0, locals := 65 } (ctP E [.ref (ad 3), .int (nI 0), .int (nI at_)] sz (fun H => va_P E.1 ct_cl (xw E ad (tray, trayed, fed, place, picked, pcnt, column) O (code, splace) T ((some (ad 1)), size, at_, means, meant, starts, lens, cnt, cols) R) H ∧ va_D (fun q => E.2.2.1 ≤ q) (xw E ad (tray, trayed, fed, place, picked, pcnt, column) O (code, splace) T ((some (ad 1)), size, at_, means, meant, starts, lens, cnt, cols) R))) (ctX (fun v H => ∃ w2 : Wd, ∃ j2 : Nat, ∃ me2 : Nat → Int32, ∃ st2 : Nat → Int32, ∃ le2 : Nat → Int32, v = none ∧ va_P E.1 ct_cl (xw E ad (tray, trayed, fed, place, picked, pcnt, column) O (code, splace) T ((some (ad 1)), size, j2, me2, meant + w2.1.length, st2, le2, cnt + 1, cols) R) H ∧ cellAt t at_ = .inr (w2, j2) ∧ pWs me2 st2 le2 (acc ++ [w2]) ∧ (meant + w2.1.length ≤ j2 ∧ j2 < size)) (fun x H => ∃ pl : Nat, ∃ P2 : XP, x = ad 20 ∧ va_P E.1 ct_cl (xw E ad (tray, trayed, fed, place, picked, pcnt, column) O (20, (nI pl)) T (P2.1, P2.2.1, P2.2.2.1, P2.2.2.2.1, P2.2.2.2.2.1, P2.2.2.2.2.2.1, P2.2.2.2.2.2.2.1, P2.2.2.2.2.2.2.2.1, P2.2.2.2.2.2.2.2.2) R) H ∧ cellAt t at_ = .inl pl) (va_A (xw E ad (tray, trayed, fed, place, picked, pcnt, column) O (code, splace) T ((some (ad 1)), size, at_, means, meant, starts, lens, cnt, cols) R) sz)) 0 0 (va_A (xw E ad (tray, trayed, fed, place, picked, pcnt, column) O (code, splace) T ((some (ad 1)), size, at_, means, meant, starts, lens, cnt, cols) R) sz) := by
  refine ct_startX (by decide) (Nat.le_of_ble_eq_true rfl) ?_
  intro p e s m below meth c ls B hno hsz hH hl
  obtain ⟨hP, hD⟩ := hH
  obtain ⟨A, hAe, h, hA, hAn⟩ := ct_enter B.2.2.2.2.2.2.2.2 hsz hP hD
  rw [hAe]
  refine ct_gen h (fun H locs h => ?_)
  have hx := B.1
  have hb := B.2.1
  have hl : lv_has ls 7 [(0, .ref (ad 3)), (1, .int (nI 0)), (2, .int (nI at_))] := hl
  have htb := txR_lt htx
  have htl := htx.1
  refine lv_aload_n hx hb dX2_cell_0 rfl (lv_at hl 0 rfl) ?_
  refine ct_get (v := .ref (ad 8)) B h.1 kX2 3 rfl 9 (Nat.le_of_ble_eq_true rfl) q224 rfl dX2_cell_1 ?_
  refine lv_aload_n hx hb dX2_cell_4 rfl (lv_at hl 0 rfl) ?_
  refine ct_get (v := .int (nI cnt)) B h.1 kX2 3 rfl 11 (Nat.le_of_ble_eq_true rfl) q226 rfl dX2_cell_5 ?_
  refine lv_aload_n hx hb dX2_cell_8 rfl (lv_at hl 0 rfl) ?_
  refine ct_get (v := .int (nI meant)) B h.1 kX2 3 rfl 8 (Nat.le_of_ble_eq_true rfl) q223 rfl dX2_cell_9 ?_
  refine ct_iast (ws' := xw E ad (tray, trayed, fed, place, picked, pcnt, column) O (code, splace) T ((some (ad 1)), size, at_, means, meant, (upd starts cnt (nI meant)), lens, cnt, cols) R) B h 8 rfl hc8 (by omega) rfl dX2_cell_12 (fun H locs h => ?_)
  refine ct_joinH (σ := Wd × Nat × (Nat → Int32) × Nat) (P := fun (w_, j, me, qb) H locs ls => lv_has ls 7 [(0, .ref (ad 3)), (1, .int (nI 0)), (2, .int (nI at_)), (3, .int (nI qb))] ∧ Hs E A s.heap (xw E ad (tray, trayed, fed, place, picked, pcnt, column) O (code, splace) T ((some (ad 1)), size, j, me, meant + w_.1.length, (upd starts cnt (nI meant)), lens, cnt, cols) R) H locs ∧ (wordAt t at_ = .inr (w_, j)) ∧ (∀ k, k < meant → me k = means k) ∧ (∀ k, k < w_.1.length → me (meant + k) = nI (w_.1.getD k 0)) ∧ (∀ x ∈ w_.1, 32 ≤ x ∧ x ≤ 126) ∧ (meant + w_.1.length ≤ j ∧ j ≤ size) ∧ ((qb = 1 ∧ w_.2 = true) ∨ (qb = 0 ∧ w_.2 = false))) (g := fun (w_, j, me, qb) ls => F0 m 82 ls []) (c1 := 0) (s1 := 0) (fun x9 H locs ls hI => ?_) (fun hJ_1 => ?_)
  · obtain ⟨w_, j, me, qb⟩ := x9
    obtain ⟨hl, h, hwd, hme, hmw, hwr, hj, hqb⟩ := hI
    refine W.eq (g2 := F0 m 82 ls []) rfl ?_
    refine lv_aload_n hx hb dX2_cell_82 rfl (lv_at hl 0 rfl) ?_
    refine ct_get (v := .int (nI (meant + w_.1.length))) B h.1 kX2 3 rfl 8 (Nat.le_of_ble_eq_true rfl) q223 rfl dX2_cell_83 ?_
    refine lv_aload_n hx hb dX2_cell_86 rfl (lv_at hl 0 rfl) ?_
    refine ct_get (v := .ref (ad 8)) B h.1 kX2 3 rfl 9 (Nat.le_of_ble_eq_true rfl) q224 rfl dX2_cell_87 ?_
    refine lv_aload_n hx hb dX2_cell_90 rfl (lv_at hl 0 rfl) ?_
    refine ct_get (v := .int (nI cnt)) B h.1 kX2 3 rfl 11 (Nat.le_of_ble_eq_true rfl) q226 rfl dX2_cell_91 ?_
    refine ct_iald (f := (upd starts cnt (nI meant))) B h.1 8 rfl (by omega) (by omega) dX2_cell_94 ?_
    refine W.eq (g2 := F0 m 95 ls [.int (nI meant), .int (nI (meant + w_.1.length))]) (by rw [upd_s]) ?_
    refine n_isub hx hb (by omega) dX2_cell_95 ?_
    refine W.eq (g2 := F0 m 96 ls [.int (nI w_.1.length)]) (by rw [Nat.add_sub_cancel_left]) ?_
    refine lv_istore (lv' := [(4, .int (nI w_.1.length)), (0, .ref (ad 3)), (1, .int (nI 0)), (2, .int (nI at_)), (3, .int (nI qb))]) hx hb dX2_cell_96 hl (by decide) rfl (fun ls hl => ?_)
    refine lv_aload_n hx hb dX2_cell_98 rfl (lv_at hl 1 rfl) ?_
    refine ct_callR (ct_runV (As := []) (rest := []) B (met_X2_lookT l E ad tray trayed fed place picked pcnt column O (code, splace) T size j me (meant + w_.1.length) (upd starts cnt (nI meant)) lens cnt cols R t H.size htx hsz_ (by omega)) (lw_V q353 q355 qs6 q50 q356) (n := 0) ⟨by decide, by decide, by decide +kernel⟩ rfl ⟨rfl, rfl, (Nat.le_of_ble_eq_true rfl), (Nat.le_of_ble_eq_true rfl), (Nat.le_of_ble_eq_true rfl), (Nat.le_of_ble_eq_true rfl)⟩ h.2.2 hA (ct_recv B h.1 kX2 3 rfl) h.1 hl.1 (Nat.le_of_ble_eq_true rfl) dX2_cell_99) (fun v hv => ?_)
    subst hv
    refine W.eq (g2 := F0 m 102 ls [.int (lkI t j)]) rfl ?_
    refine lv_bipush (v := nI 44) hx hb dX2_cell_102 (by decide) ?_
    refine k_icmp_eq (tgt := 116) hx hb dX2_cell_104 (by decide) htb (by decide) (fun c44e => ?_) (fun c44e => ?_)
    · have hend : endsAt t j := ⟨c44e.1, Or.inl c44e.2⟩
      refine lv_iconst (v := nI 1) hx hb dX2_cell_116 (by decide) ?_
      refine lv_goto (tgt := 121) hx hb dX2_cell_117 (by decide) ?_
      refine lv_istore (lv' := [(5, .int (nI 1)), (4, .int (nI w_.1.length)), (0, .ref (ad 3)), (1, .int (nI 0)), (2, .int (nI at_)), (3, .int (nI qb))]) hx hb dX2_cell_121 hl (by decide) rfl (fun ls hl => ?_)
      refine lv_iload hx hb dX2_cell_123 (lv_at hl 0 rfl) ?_
      refine n_if_ne (tgt := 137) hx hb dX2_cell_125 (by decide) (by omega) (fun c_2 => ?_) (fun c_2 => absurd c_2 (by omega))
      refine lv_iload hx hb dX2_cell_137 (lv_at hl 1 rfl) ?_
      refine lv_iload_n hx hb dX2_cell_139 rfl (lv_at hl 3 rfl) ?_
      refine n_if_eq (tgt := 148) hx hb dX2_cell_140 (by decide) (by omega) (fun c_3 => ?_) (fun c_3 => absurd c_3 (by omega))
      refine lv_bipush (v := nI 40) hx hb dX2_cell_148 (by decide) ?_
      refine n_icmp_gt (tgt := 162) hx hb dX2_cell_150 (by decide) (by omega) (by omega) (fun c_4 => ?_) (fun c_4 => ?_)
      · refine lv_aload_n hx hb dX2_cell_162 rfl (lv_at hl 2 rfl) ?_
        refine lv_iload_n hx hb dX2_cell_163 rfl (lv_at hl 4 rfl) ?_
        refine ct_callQ (ct_runV (As := [.int (nI at_)]) (rest := []) B (met_X2_wrong l E ad (tray, trayed, fed, place, picked, pcnt, column) O code splace T ((some (ad 1)), size, j, me, meant + w_.1.length, (upd starts cnt (nI meant)), lens, cnt, cols) R (nI at_) H.size) (lw_V q341 q343 qs4 q50 q344) (n := 1) ⟨by decide, by decide, by decide +kernel⟩ rfl ⟨rfl, rfl, (Nat.le_of_ble_eq_true rfl), (Nat.le_of_ble_eq_true rfl), (Nat.le_of_ble_eq_true rfl), (Nat.le_of_ble_eq_true rfl)⟩ h.2.2 hA (ct_recv B h.1 kX2 3 rfl) ⟨h.1, (ct_D0 h hA)⟩ hl.1 (Nat.le_of_ble_eq_true rfl) dX2_cell_164) h.2.2 (ct_sub h hAn) (ct_sub h hAn) (fun v H locs hv hz hk hS => ?_)
        obtain ⟨rfl, hP1⟩ := hv
        have h : Hs E A s.heap (xw E ad (tray, trayed, fed, place, picked, pcnt, column) O (20, (nI at_)) T ((some (ad 1)), size, j, me, meant + w_.1.length, (upd starts cnt (nI meant)), lens, cnt, cols) R) H locs := ct_again h hP1 rfl hS
        clear hP1 hS hz hk
        refine W.eq (g2 := F0 m 167 ls [.ref (ad 20)]) rfl ?_
        exact ct_athrow B hno h.2.2 ⟨at_, ((some (ad 1)), size, j, me, meant + w_.1.length, (upd starts cnt (nI meant)), lens, cnt, cols), rfl, h.1, by rw [cellAt_i hwd, if_neg (fun q9 => q9 hend), if_pos (by omega)]⟩ dX2_cell_167
      · refine lv_iload_n hx hb dX2_cell_153 rfl (lv_at hl 3 rfl) ?_
        refine n_if_eq (tgt := 168) hx hb dX2_cell_154 (by decide) (by omega) (fun c_5 => ?_) (fun c_5 => absurd c_5 (by omega))
        refine lv_aload_n hx hb dX2_cell_168 rfl (lv_at hl 2 rfl) ?_
        refine ct_get (v := .ref (ad 9)) B h.1 kX2 3 rfl 10 (Nat.le_of_ble_eq_true rfl) q225 rfl dX2_cell_169 ?_
        refine lv_aload_n hx hb dX2_cell_172 rfl (lv_at hl 2 rfl) ?_
        refine ct_get (v := .int (nI cnt)) B h.1 kX2 3 rfl 11 (Nat.le_of_ble_eq_true rfl) q226 rfl dX2_cell_173 ?_
        refine lv_iload hx hb dX2_cell_176 (lv_at hl 1 rfl) ?_
        refine n_if_ne (tgt := 189) hx hb dX2_cell_178 (by decide) (by omega) (fun cn0 => ?_) (fun cn0 => ?_)
        · refine lv_iload_n hx hb dX2_cell_189 rfl (lv_at hl 5 rfl) ?_
          refine n_if_eq (tgt := 201) hx hb dX2_cell_190 (by decide) (by omega) (fun cq1 => ?_) (fun cq1 => ?_)
          · have hq2 : w_.2 = false := by rcases hqb with ⟨q9, _⟩ | ⟨_, q9⟩; omega; exact q9
            refine lv_iload hx hb dX2_cell_201 (lv_at hl 1 rfl) ?_
            refine W.eq (g2 := F0 m 203 ls [.int (encL w_), .int (nI cnt), .ref (ad 9)]) (by rw [enc_u (by omega) hq2] <;> rfl) ?_
            refine lv_i2b (v := (encL w_)) hx hb dX2_cell_203 (enc_i8 (by omega)) ?_
            refine ct_bast (ws' := xw E ad (tray, trayed, fed, place, picked, pcnt, column) O (code, splace) T ((some (ad 1)), size, j, me, meant + w_.1.length, (upd starts cnt (nI meant)), (upd lens cnt (encL w_)), cnt, cols) R) B h 9 rfl hc8 (by omega) (congrArg (fun z9 => (xw E ad (tray, trayed, fed, place, picked, pcnt, column) O (code, splace) T ((some (ad 1)), size, j, me, meant + w_.1.length, (upd starts cnt (nI meant)), z9, cnt, cols) R : va_W)) ((by rw [enc_b (by omega)] : upd lens cnt (vp_nar .byte (encL w_)) = upd lens cnt (encL w_)))) dX2_cell_204 (fun H locs h => ?_)
            have hpw2 : pWs me (upd starts cnt (nI meant)) (upd lens cnt (encL w_)) (acc ++ [w_]) := pWs_snoc hpw (fun j hj => hme j (by omega)) (fun k hk => ⟨upd_n (by omega), upd_n (by omega)⟩) (by rw [← hcn, ← hmt]; exact pAt_of upd_s upd_s hmw hwr (by omega) (by omega))
            refine lv_iconst (v := nI 0) hx hb dX2_cell_205 (by decide) ?_
            refine lv_istore (lv' := [(6, .int (nI 0)), (5, .int (nI 1)), (4, .int (nI w_.1.length)), (0, .ref (ad 3)), (1, .int (nI 0)), (2, .int (nI at_)), (3, .int (nI qb))]) hx hb dX2_cell_206 hl (by decide) rfl (fun ls hl => ?_)
            refine lv_iload hx hb dX2_cell_208 (lv_at hl 0 rfl) ?_
            refine lv_aload_n hx hb dX2_cell_210 rfl (lv_at hl 3 rfl) ?_
            refine ct_get (v := .int (nI cnt)) B h.1 kX2 3 rfl 11 (Nat.le_of_ble_eq_true rfl) q226 rfl dX2_cell_211 ?_
            refine n_icmp_ge (tgt := 246) hx hb dX2_cell_214 (by decide) (by omega) (by omega) (fun c_6 => ?_) (fun c_6 => ?_)
            · refine lv_aload_n hx hb dX2_cell_246 rfl (lv_at hl 3 rfl) ?_
              refine lv_dup hx hb dX2_cell_247 rfl ?_
              refine ct_get (v := .int (nI cnt)) B h.1 kX2 3 rfl 11 (Nat.le_of_ble_eq_true rfl) q226 rfl dX2_cell_248 ?_
              refine lv_iconst (v := nI 1) hx hb dX2_cell_251 (by decide) ?_
              refine n_iadd hx hb dX2_cell_252 ?_
              refine ct_put (ws' := xw E ad (tray, trayed, fed, place, picked, pcnt, column) O (code, splace) T ((some (ad 1)), size, j, me, meant + w_.1.length, (upd starts cnt (nI meant)), (upd lens cnt (encL w_)), cnt + 1, cols) R) B h kX2 3 rfl 11 (Nat.le_of_ble_eq_true rfl) q226 rfl rfl rfl (Nat.le_of_ble_eq_true rfl) rfl dX2_cell_253 (fun H locs h => ?_)
              exact ct_toX (ct_vret B h.2.2 ⟨w_, j, me, (upd starts cnt (nI meant)), (upd lens cnt (encL w_)), rfl, h.1, by rw [cellAt_i hwd, if_neg (fun q9 => q9 hend), if_neg (by omega)], hpw2, by have := hend.1; omega⟩ dX2_cell_256)
            · refine lv_iload_n hx hb dX2_cell_217 rfl (lv_at hl 4 rfl) ?_
              refine n_if_eq (tgt := 246) hx hb dX2_cell_218 (by decide) (by omega) (fun c_7 => ?_) (fun c_7 => absurd c_7 (by omega))
              refine lv_aload_n hx hb dX2_cell_246 rfl (lv_at hl 3 rfl) ?_
              refine lv_dup hx hb dX2_cell_247 rfl ?_
              refine ct_get (v := .int (nI cnt)) B h.1 kX2 3 rfl 11 (Nat.le_of_ble_eq_true rfl) q226 rfl dX2_cell_248 ?_
              refine lv_iconst (v := nI 1) hx hb dX2_cell_251 (by decide) ?_
              refine n_iadd hx hb dX2_cell_252 ?_
              refine ct_put (ws' := xw E ad (tray, trayed, fed, place, picked, pcnt, column) O (code, splace) T ((some (ad 1)), size, j, me, meant + w_.1.length, (upd starts cnt (nI meant)), (upd lens cnt (encL w_)), cnt + 1, cols) R) B h kX2 3 rfl 11 (Nat.le_of_ble_eq_true rfl) q226 rfl rfl rfl (Nat.le_of_ble_eq_true rfl) rfl dX2_cell_253 (fun H locs h => ?_)
              exact ct_toX (ct_vret B h.2.2 ⟨w_, j, me, (upd starts cnt (nI meant)), (upd lens cnt (encL w_)), rfl, h.1, by rw [cellAt_i hwd, if_neg (fun q9 => q9 hend), if_neg (by omega)], hpw2, by have := hend.1; omega⟩ dX2_cell_256)
          · have hq2 : w_.2 = true := by rcases hqb with ⟨_, q9⟩ | ⟨q9, _⟩; exact q9; omega
            refine lv_iload hx hb dX2_cell_193 (lv_at hl 1 rfl) ?_
            refine lv_bipush (v := nI 64) hx hb dX2_cell_195 (by decide) ?_
            refine n_iadd hx hb dX2_cell_197 ?_
            refine lv_goto (tgt := 203) hx hb dX2_cell_198 (by decide) ?_
            refine W.eq (g2 := F0 m 203 ls [.int (encL w_), .int (nI cnt), .ref (ad 9)]) (by rw [enc_q hq2] <;> rfl) ?_
            refine lv_i2b (v := (encL w_)) hx hb dX2_cell_203 (enc_i8 (by omega)) ?_
            refine ct_bast (ws' := xw E ad (tray, trayed, fed, place, picked, pcnt, column) O (code, splace) T ((some (ad 1)), size, j, me, meant + w_.1.length, (upd starts cnt (nI meant)), (upd lens cnt (encL w_)), cnt, cols) R) B h 9 rfl hc8 (by omega) (congrArg (fun z9 => (xw E ad (tray, trayed, fed, place, picked, pcnt, column) O (code, splace) T ((some (ad 1)), size, j, me, meant + w_.1.length, (upd starts cnt (nI meant)), z9, cnt, cols) R : va_W)) ((by rw [enc_b (by omega)] : upd lens cnt (vp_nar .byte (encL w_)) = upd lens cnt (encL w_)))) dX2_cell_204 (fun H locs h => ?_)
            have hpw2 : pWs me (upd starts cnt (nI meant)) (upd lens cnt (encL w_)) (acc ++ [w_]) := pWs_snoc hpw (fun j hj => hme j (by omega)) (fun k hk => ⟨upd_n (by omega), upd_n (by omega)⟩) (by rw [← hcn, ← hmt]; exact pAt_of upd_s upd_s hmw hwr (by omega) (by omega))
            refine lv_iconst (v := nI 0) hx hb dX2_cell_205 (by decide) ?_
            refine lv_istore (lv' := [(6, .int (nI 0)), (5, .int (nI 1)), (4, .int (nI w_.1.length)), (0, .ref (ad 3)), (1, .int (nI 0)), (2, .int (nI at_)), (3, .int (nI qb))]) hx hb dX2_cell_206 hl (by decide) rfl (fun ls hl => ?_)
            refine lv_iload hx hb dX2_cell_208 (lv_at hl 0 rfl) ?_
            refine lv_aload_n hx hb dX2_cell_210 rfl (lv_at hl 3 rfl) ?_
            refine ct_get (v := .int (nI cnt)) B h.1 kX2 3 rfl 11 (Nat.le_of_ble_eq_true rfl) q226 rfl dX2_cell_211 ?_
            refine n_icmp_ge (tgt := 246) hx hb dX2_cell_214 (by decide) (by omega) (by omega) (fun c_8 => ?_) (fun c_8 => ?_)
            · refine lv_aload_n hx hb dX2_cell_246 rfl (lv_at hl 3 rfl) ?_
              refine lv_dup hx hb dX2_cell_247 rfl ?_
              refine ct_get (v := .int (nI cnt)) B h.1 kX2 3 rfl 11 (Nat.le_of_ble_eq_true rfl) q226 rfl dX2_cell_248 ?_
              refine lv_iconst (v := nI 1) hx hb dX2_cell_251 (by decide) ?_
              refine n_iadd hx hb dX2_cell_252 ?_
              refine ct_put (ws' := xw E ad (tray, trayed, fed, place, picked, pcnt, column) O (code, splace) T ((some (ad 1)), size, j, me, meant + w_.1.length, (upd starts cnt (nI meant)), (upd lens cnt (encL w_)), cnt + 1, cols) R) B h kX2 3 rfl 11 (Nat.le_of_ble_eq_true rfl) q226 rfl rfl rfl (Nat.le_of_ble_eq_true rfl) rfl dX2_cell_253 (fun H locs h => ?_)
              exact ct_toX (ct_vret B h.2.2 ⟨w_, j, me, (upd starts cnt (nI meant)), (upd lens cnt (encL w_)), rfl, h.1, by rw [cellAt_i hwd, if_neg (fun q9 => q9 hend), if_neg (by omega)], hpw2, by have := hend.1; omega⟩ dX2_cell_256)
            · refine lv_iload_n hx hb dX2_cell_217 rfl (lv_at hl 4 rfl) ?_
              refine n_if_eq (tgt := 246) hx hb dX2_cell_218 (by decide) (by omega) (fun c_9 => ?_) (fun c_9 => absurd c_9 (by omega))
              refine lv_aload_n hx hb dX2_cell_246 rfl (lv_at hl 3 rfl) ?_
              refine lv_dup hx hb dX2_cell_247 rfl ?_
              refine ct_get (v := .int (nI cnt)) B h.1 kX2 3 rfl 11 (Nat.le_of_ble_eq_true rfl) q226 rfl dX2_cell_248 ?_
              refine lv_iconst (v := nI 1) hx hb dX2_cell_251 (by decide) ?_
              refine n_iadd hx hb dX2_cell_252 ?_
              refine ct_put (ws' := xw E ad (tray, trayed, fed, place, picked, pcnt, column) O (code, splace) T ((some (ad 1)), size, j, me, meant + w_.1.length, (upd starts cnt (nI meant)), (upd lens cnt (encL w_)), cnt + 1, cols) R) B h kX2 3 rfl 11 (Nat.le_of_ble_eq_true rfl) q226 rfl rfl rfl (Nat.le_of_ble_eq_true rfl) rfl dX2_cell_253 (fun H locs h => ?_)
              exact ct_toX (ct_vret B h.2.2 ⟨w_, j, me, (upd starts cnt (nI meant)), (upd lens cnt (encL w_)), rfl, h.1, by rw [cellAt_i hwd, if_neg (fun q9 => q9 hend), if_neg (by omega)], hpw2, by have := hend.1; omega⟩ dX2_cell_256)
        · refine lv_iload_n hx hb dX2_cell_181 rfl (lv_at hl 5 rfl) ?_
          refine n_if_ne (tgt := 189) hx hb dX2_cell_182 (by decide) (by omega) (fun cq0 => ?_) (fun cq0 => ?_)
          · refine lv_iload_n hx hb dX2_cell_189 rfl (lv_at hl 5 rfl) ?_
            refine n_if_eq (tgt := 201) hx hb dX2_cell_190 (by decide) (by omega) (fun cq1 => ?_) (fun cq1 => ?_)
            · have hq2 : w_.2 = false := by rcases hqb with ⟨q9, _⟩ | ⟨_, q9⟩; omega; exact q9
              refine lv_iload hx hb dX2_cell_201 (lv_at hl 1 rfl) ?_
              refine W.eq (g2 := F0 m 203 ls [.int (encL w_), .int (nI cnt), .ref (ad 9)]) (by rw [enc_u (by omega) hq2] <;> rfl) ?_
              refine lv_i2b (v := (encL w_)) hx hb dX2_cell_203 (enc_i8 (by omega)) ?_
              refine ct_bast (ws' := xw E ad (tray, trayed, fed, place, picked, pcnt, column) O (code, splace) T ((some (ad 1)), size, j, me, meant + w_.1.length, (upd starts cnt (nI meant)), (upd lens cnt (encL w_)), cnt, cols) R) B h 9 rfl hc8 (by omega) (congrArg (fun z9 => (xw E ad (tray, trayed, fed, place, picked, pcnt, column) O (code, splace) T ((some (ad 1)), size, j, me, meant + w_.1.length, (upd starts cnt (nI meant)), z9, cnt, cols) R : va_W)) ((by rw [enc_b (by omega)] : upd lens cnt (vp_nar .byte (encL w_)) = upd lens cnt (encL w_)))) dX2_cell_204 (fun H locs h => ?_)
              have hpw2 : pWs me (upd starts cnt (nI meant)) (upd lens cnt (encL w_)) (acc ++ [w_]) := pWs_snoc hpw (fun j hj => hme j (by omega)) (fun k hk => ⟨upd_n (by omega), upd_n (by omega)⟩) (by rw [← hcn, ← hmt]; exact pAt_of upd_s upd_s hmw hwr (by omega) (by omega))
              refine lv_iconst (v := nI 0) hx hb dX2_cell_205 (by decide) ?_
              refine lv_istore (lv' := [(6, .int (nI 0)), (5, .int (nI 1)), (4, .int (nI w_.1.length)), (0, .ref (ad 3)), (1, .int (nI 0)), (2, .int (nI at_)), (3, .int (nI qb))]) hx hb dX2_cell_206 hl (by decide) rfl (fun ls hl => ?_)
              refine lv_iload hx hb dX2_cell_208 (lv_at hl 0 rfl) ?_
              refine lv_aload_n hx hb dX2_cell_210 rfl (lv_at hl 3 rfl) ?_
              refine ct_get (v := .int (nI cnt)) B h.1 kX2 3 rfl 11 (Nat.le_of_ble_eq_true rfl) q226 rfl dX2_cell_211 ?_
              refine n_icmp_ge (tgt := 246) hx hb dX2_cell_214 (by decide) (by omega) (by omega) (fun c_10 => ?_) (fun c_10 => ?_)
              · refine lv_aload_n hx hb dX2_cell_246 rfl (lv_at hl 3 rfl) ?_
                refine lv_dup hx hb dX2_cell_247 rfl ?_
                refine ct_get (v := .int (nI cnt)) B h.1 kX2 3 rfl 11 (Nat.le_of_ble_eq_true rfl) q226 rfl dX2_cell_248 ?_
                refine lv_iconst (v := nI 1) hx hb dX2_cell_251 (by decide) ?_
                refine n_iadd hx hb dX2_cell_252 ?_
                refine ct_put (ws' := xw E ad (tray, trayed, fed, place, picked, pcnt, column) O (code, splace) T ((some (ad 1)), size, j, me, meant + w_.1.length, (upd starts cnt (nI meant)), (upd lens cnt (encL w_)), cnt + 1, cols) R) B h kX2 3 rfl 11 (Nat.le_of_ble_eq_true rfl) q226 rfl rfl rfl (Nat.le_of_ble_eq_true rfl) rfl dX2_cell_253 (fun H locs h => ?_)
                exact ct_toX (ct_vret B h.2.2 ⟨w_, j, me, (upd starts cnt (nI meant)), (upd lens cnt (encL w_)), rfl, h.1, by rw [cellAt_i hwd, if_neg (fun q9 => q9 hend), if_neg (by omega)], hpw2, by have := hend.1; omega⟩ dX2_cell_256)
              · refine lv_iload_n hx hb dX2_cell_217 rfl (lv_at hl 4 rfl) ?_
                refine n_if_eq (tgt := 246) hx hb dX2_cell_218 (by decide) (by omega) (fun c_11 => ?_) (fun c_11 => absurd c_11 (by omega))
                refine lv_aload_n hx hb dX2_cell_246 rfl (lv_at hl 3 rfl) ?_
                refine lv_dup hx hb dX2_cell_247 rfl ?_
                refine ct_get (v := .int (nI cnt)) B h.1 kX2 3 rfl 11 (Nat.le_of_ble_eq_true rfl) q226 rfl dX2_cell_248 ?_
                refine lv_iconst (v := nI 1) hx hb dX2_cell_251 (by decide) ?_
                refine n_iadd hx hb dX2_cell_252 ?_
                refine ct_put (ws' := xw E ad (tray, trayed, fed, place, picked, pcnt, column) O (code, splace) T ((some (ad 1)), size, j, me, meant + w_.1.length, (upd starts cnt (nI meant)), (upd lens cnt (encL w_)), cnt + 1, cols) R) B h kX2 3 rfl 11 (Nat.le_of_ble_eq_true rfl) q226 rfl rfl rfl (Nat.le_of_ble_eq_true rfl) rfl dX2_cell_253 (fun H locs h => ?_)
                exact ct_toX (ct_vret B h.2.2 ⟨w_, j, me, (upd starts cnt (nI meant)), (upd lens cnt (encL w_)), rfl, h.1, by rw [cellAt_i hwd, if_neg (fun q9 => q9 hend), if_neg (by omega)], hpw2, by have := hend.1; omega⟩ dX2_cell_256)
            · have hq2 : w_.2 = true := by rcases hqb with ⟨_, q9⟩ | ⟨q9, _⟩; exact q9; omega
              refine lv_iload hx hb dX2_cell_193 (lv_at hl 1 rfl) ?_
              refine lv_bipush (v := nI 64) hx hb dX2_cell_195 (by decide) ?_
              refine n_iadd hx hb dX2_cell_197 ?_
              refine lv_goto (tgt := 203) hx hb dX2_cell_198 (by decide) ?_
              refine W.eq (g2 := F0 m 203 ls [.int (encL w_), .int (nI cnt), .ref (ad 9)]) (by rw [enc_q hq2] <;> rfl) ?_
              refine lv_i2b (v := (encL w_)) hx hb dX2_cell_203 (enc_i8 (by omega)) ?_
              refine ct_bast (ws' := xw E ad (tray, trayed, fed, place, picked, pcnt, column) O (code, splace) T ((some (ad 1)), size, j, me, meant + w_.1.length, (upd starts cnt (nI meant)), (upd lens cnt (encL w_)), cnt, cols) R) B h 9 rfl hc8 (by omega) (congrArg (fun z9 => (xw E ad (tray, trayed, fed, place, picked, pcnt, column) O (code, splace) T ((some (ad 1)), size, j, me, meant + w_.1.length, (upd starts cnt (nI meant)), z9, cnt, cols) R : va_W)) ((by rw [enc_b (by omega)] : upd lens cnt (vp_nar .byte (encL w_)) = upd lens cnt (encL w_)))) dX2_cell_204 (fun H locs h => ?_)
              have hpw2 : pWs me (upd starts cnt (nI meant)) (upd lens cnt (encL w_)) (acc ++ [w_]) := pWs_snoc hpw (fun j hj => hme j (by omega)) (fun k hk => ⟨upd_n (by omega), upd_n (by omega)⟩) (by rw [← hcn, ← hmt]; exact pAt_of upd_s upd_s hmw hwr (by omega) (by omega))
              refine lv_iconst (v := nI 0) hx hb dX2_cell_205 (by decide) ?_
              refine lv_istore (lv' := [(6, .int (nI 0)), (5, .int (nI 1)), (4, .int (nI w_.1.length)), (0, .ref (ad 3)), (1, .int (nI 0)), (2, .int (nI at_)), (3, .int (nI qb))]) hx hb dX2_cell_206 hl (by decide) rfl (fun ls hl => ?_)
              refine lv_iload hx hb dX2_cell_208 (lv_at hl 0 rfl) ?_
              refine lv_aload_n hx hb dX2_cell_210 rfl (lv_at hl 3 rfl) ?_
              refine ct_get (v := .int (nI cnt)) B h.1 kX2 3 rfl 11 (Nat.le_of_ble_eq_true rfl) q226 rfl dX2_cell_211 ?_
              refine n_icmp_ge (tgt := 246) hx hb dX2_cell_214 (by decide) (by omega) (by omega) (fun c_12 => ?_) (fun c_12 => ?_)
              · refine lv_aload_n hx hb dX2_cell_246 rfl (lv_at hl 3 rfl) ?_
                refine lv_dup hx hb dX2_cell_247 rfl ?_
                refine ct_get (v := .int (nI cnt)) B h.1 kX2 3 rfl 11 (Nat.le_of_ble_eq_true rfl) q226 rfl dX2_cell_248 ?_
                refine lv_iconst (v := nI 1) hx hb dX2_cell_251 (by decide) ?_
                refine n_iadd hx hb dX2_cell_252 ?_
                refine ct_put (ws' := xw E ad (tray, trayed, fed, place, picked, pcnt, column) O (code, splace) T ((some (ad 1)), size, j, me, meant + w_.1.length, (upd starts cnt (nI meant)), (upd lens cnt (encL w_)), cnt + 1, cols) R) B h kX2 3 rfl 11 (Nat.le_of_ble_eq_true rfl) q226 rfl rfl rfl (Nat.le_of_ble_eq_true rfl) rfl dX2_cell_253 (fun H locs h => ?_)
                exact ct_toX (ct_vret B h.2.2 ⟨w_, j, me, (upd starts cnt (nI meant)), (upd lens cnt (encL w_)), rfl, h.1, by rw [cellAt_i hwd, if_neg (fun q9 => q9 hend), if_neg (by omega)], hpw2, by have := hend.1; omega⟩ dX2_cell_256)
              · refine lv_iload_n hx hb dX2_cell_217 rfl (lv_at hl 4 rfl) ?_
                refine n_if_eq (tgt := 246) hx hb dX2_cell_218 (by decide) (by omega) (fun c_13 => ?_) (fun c_13 => absurd c_13 (by omega))
                refine lv_aload_n hx hb dX2_cell_246 rfl (lv_at hl 3 rfl) ?_
                refine lv_dup hx hb dX2_cell_247 rfl ?_
                refine ct_get (v := .int (nI cnt)) B h.1 kX2 3 rfl 11 (Nat.le_of_ble_eq_true rfl) q226 rfl dX2_cell_248 ?_
                refine lv_iconst (v := nI 1) hx hb dX2_cell_251 (by decide) ?_
                refine n_iadd hx hb dX2_cell_252 ?_
                refine ct_put (ws' := xw E ad (tray, trayed, fed, place, picked, pcnt, column) O (code, splace) T ((some (ad 1)), size, j, me, meant + w_.1.length, (upd starts cnt (nI meant)), (upd lens cnt (encL w_)), cnt + 1, cols) R) B h kX2 3 rfl 11 (Nat.le_of_ble_eq_true rfl) q226 rfl rfl rfl (Nat.le_of_ble_eq_true rfl) rfl dX2_cell_253 (fun H locs h => ?_)
                exact ct_toX (ct_vret B h.2.2 ⟨w_, j, me, (upd starts cnt (nI meant)), (upd lens cnt (encL w_)), rfl, h.1, by rw [cellAt_i hwd, if_neg (fun q9 => q9 hend), if_neg (by omega)], hpw2, by have := hend.1; omega⟩ dX2_cell_256)
          · have hq2 : w_.2 = false := by rcases hqb with ⟨q9, _⟩ | ⟨_, q9⟩; omega; exact q9
            refine lv_iconst (v := (-1)) hx hb dX2_cell_185 (by decide) ?_
            refine lv_goto (tgt := 203) hx hb dX2_cell_186 (by decide) ?_
            refine W.eq (g2 := F0 m 203 ls [.int (encL w_), .int (nI cnt), .ref (ad 9)]) (by rw [enc_m1 (by omega) hq2] <;> rfl) ?_
            refine lv_i2b (v := (encL w_)) hx hb dX2_cell_203 (enc_i8 (by omega)) ?_
            refine ct_bast (ws' := xw E ad (tray, trayed, fed, place, picked, pcnt, column) O (code, splace) T ((some (ad 1)), size, j, me, meant + w_.1.length, (upd starts cnt (nI meant)), (upd lens cnt (encL w_)), cnt, cols) R) B h 9 rfl hc8 (by omega) (congrArg (fun z9 => (xw E ad (tray, trayed, fed, place, picked, pcnt, column) O (code, splace) T ((some (ad 1)), size, j, me, meant + w_.1.length, (upd starts cnt (nI meant)), z9, cnt, cols) R : va_W)) ((by rw [enc_b (by omega)] : upd lens cnt (vp_nar .byte (encL w_)) = upd lens cnt (encL w_)))) dX2_cell_204 (fun H locs h => ?_)
            have hpw2 : pWs me (upd starts cnt (nI meant)) (upd lens cnt (encL w_)) (acc ++ [w_]) := pWs_snoc hpw (fun j hj => hme j (by omega)) (fun k hk => ⟨upd_n (by omega), upd_n (by omega)⟩) (by rw [← hcn, ← hmt]; exact pAt_of upd_s upd_s hmw hwr (by omega) (by omega))
            refine lv_iconst (v := nI 0) hx hb dX2_cell_205 (by decide) ?_
            refine lv_istore (lv' := [(6, .int (nI 0)), (5, .int (nI 1)), (4, .int (nI w_.1.length)), (0, .ref (ad 3)), (1, .int (nI 0)), (2, .int (nI at_)), (3, .int (nI qb))]) hx hb dX2_cell_206 hl (by decide) rfl (fun ls hl => ?_)
            refine lv_iload hx hb dX2_cell_208 (lv_at hl 0 rfl) ?_
            refine lv_aload_n hx hb dX2_cell_210 rfl (lv_at hl 3 rfl) ?_
            refine ct_get (v := .int (nI cnt)) B h.1 kX2 3 rfl 11 (Nat.le_of_ble_eq_true rfl) q226 rfl dX2_cell_211 ?_
            refine n_icmp_ge (tgt := 246) hx hb dX2_cell_214 (by decide) (by omega) (by omega) (fun c_14 => ?_) (fun c_14 => ?_)
            · refine lv_aload_n hx hb dX2_cell_246 rfl (lv_at hl 3 rfl) ?_
              refine lv_dup hx hb dX2_cell_247 rfl ?_
              refine ct_get (v := .int (nI cnt)) B h.1 kX2 3 rfl 11 (Nat.le_of_ble_eq_true rfl) q226 rfl dX2_cell_248 ?_
              refine lv_iconst (v := nI 1) hx hb dX2_cell_251 (by decide) ?_
              refine n_iadd hx hb dX2_cell_252 ?_
              refine ct_put (ws' := xw E ad (tray, trayed, fed, place, picked, pcnt, column) O (code, splace) T ((some (ad 1)), size, j, me, meant + w_.1.length, (upd starts cnt (nI meant)), (upd lens cnt (encL w_)), cnt + 1, cols) R) B h kX2 3 rfl 11 (Nat.le_of_ble_eq_true rfl) q226 rfl rfl rfl (Nat.le_of_ble_eq_true rfl) rfl dX2_cell_253 (fun H locs h => ?_)
              exact ct_toX (ct_vret B h.2.2 ⟨w_, j, me, (upd starts cnt (nI meant)), (upd lens cnt (encL w_)), rfl, h.1, by rw [cellAt_i hwd, if_neg (fun q9 => q9 hend), if_neg (by omega)], hpw2, by have := hend.1; omega⟩ dX2_cell_256)
            · refine lv_iload_n hx hb dX2_cell_217 rfl (lv_at hl 4 rfl) ?_
              refine n_if_eq (tgt := 246) hx hb dX2_cell_218 (by decide) (by omega) (fun c_15 => ?_) (fun c_15 => absurd c_15 (by omega))
              refine lv_aload_n hx hb dX2_cell_246 rfl (lv_at hl 3 rfl) ?_
              refine lv_dup hx hb dX2_cell_247 rfl ?_
              refine ct_get (v := .int (nI cnt)) B h.1 kX2 3 rfl 11 (Nat.le_of_ble_eq_true rfl) q226 rfl dX2_cell_248 ?_
              refine lv_iconst (v := nI 1) hx hb dX2_cell_251 (by decide) ?_
              refine n_iadd hx hb dX2_cell_252 ?_
              refine ct_put (ws' := xw E ad (tray, trayed, fed, place, picked, pcnt, column) O (code, splace) T ((some (ad 1)), size, j, me, meant + w_.1.length, (upd starts cnt (nI meant)), (upd lens cnt (encL w_)), cnt + 1, cols) R) B h kX2 3 rfl 11 (Nat.le_of_ble_eq_true rfl) q226 rfl rfl rfl (Nat.le_of_ble_eq_true rfl) rfl dX2_cell_253 (fun H locs h => ?_)
              exact ct_toX (ct_vret B h.2.2 ⟨w_, j, me, (upd starts cnt (nI meant)), (upd lens cnt (encL w_)), rfl, h.1, by rw [cellAt_i hwd, if_neg (fun q9 => q9 hend), if_neg (by omega)], hpw2, by have := hend.1; omega⟩ dX2_cell_256)
    · refine lv_aload_n hx hb dX2_cell_107 rfl (lv_at hl 1 rfl) ?_
      refine ct_callR (ct_runV (As := []) (rest := []) B (met_X2_lookT l E ad tray trayed fed place picked pcnt column O (code, splace) T size j me (meant + w_.1.length) (upd starts cnt (nI meant)) lens cnt cols R t H.size htx hsz_ (by omega)) (lw_V q353 q355 qs6 q50 q356) (n := 0) ⟨by decide, by decide, by decide +kernel⟩ rfl ⟨rfl, rfl, (Nat.le_of_ble_eq_true rfl), (Nat.le_of_ble_eq_true rfl), (Nat.le_of_ble_eq_true rfl), (Nat.le_of_ble_eq_true rfl)⟩ h.2.2 hA (ct_recv B h.1 kX2 3 rfl) h.1 hl.1 (Nat.le_of_ble_eq_true rfl) dX2_cell_108) (fun v hv => ?_)
      subst hv
      refine W.eq (g2 := F0 m 111 ls [.int (lkI t j)]) rfl ?_
      refine lv_bipush (v := nI 10) hx hb dX2_cell_111 (by decide) ?_
      refine k_icmp_ne (tgt := 120) hx hb dX2_cell_113 (by decide) htb (by decide) (fun c10e => ?_) (fun c10e => ?_)
      · refine lv_iconst (v := nI 0) hx hb dX2_cell_120 (by decide) ?_
        refine lv_istore (lv' := [(5, .int (nI 0)), (4, .int (nI w_.1.length)), (0, .ref (ad 3)), (1, .int (nI 0)), (2, .int (nI at_)), (3, .int (nI qb))]) hx hb dX2_cell_121 hl (by decide) rfl (fun ls hl => ?_)
        refine lv_iload hx hb dX2_cell_123 (lv_at hl 0 rfl) ?_
        refine n_if_ne (tgt := 137) hx hb dX2_cell_125 (by decide) (by omega) (fun c_16 => absurd c_16 (by omega)) (fun c_16 => ?_)
        refine lv_aload_n hx hb dX2_cell_128 rfl (lv_at hl 2 rfl) ?_
        refine lv_aload_n hx hb dX2_cell_129 rfl (lv_at hl 2 rfl) ?_
        refine ct_get (v := .int (nI j)) B h.1 kX2 3 rfl 6 (Nat.le_of_ble_eq_true rfl) q221 rfl dX2_cell_130 ?_
        refine ct_callQ (ct_runV (As := [.int (nI j)]) (rest := []) B (met_X2_wrong l E ad (tray, trayed, fed, place, picked, pcnt, column) O code splace T ((some (ad 1)), size, j, me, meant + w_.1.length, (upd starts cnt (nI meant)), lens, cnt, cols) R (nI j) H.size) (lw_V q341 q343 qs4 q50 q344) (n := 1) ⟨by decide, by decide, by decide +kernel⟩ rfl ⟨rfl, rfl, (Nat.le_of_ble_eq_true rfl), (Nat.le_of_ble_eq_true rfl), (Nat.le_of_ble_eq_true rfl), (Nat.le_of_ble_eq_true rfl)⟩ h.2.2 hA (ct_recv B h.1 kX2 3 rfl) ⟨h.1, (ct_D0 h hA)⟩ hl.1 (Nat.le_of_ble_eq_true rfl) dX2_cell_133) h.2.2 (ct_sub h hAn) (ct_sub h hAn) (fun v H locs hv hz hk hS => ?_)
        obtain ⟨rfl, hP1⟩ := hv
        have h : Hs E A s.heap (xw E ad (tray, trayed, fed, place, picked, pcnt, column) O (20, (nI j)) T ((some (ad 1)), size, j, me, meant + w_.1.length, (upd starts cnt (nI meant)), lens, cnt, cols) R) H locs := ct_again h hP1 rfl hS
        clear hP1 hS hz hk
        refine W.eq (g2 := F0 m 136 ls [.ref (ad 20)]) rfl ?_
        exact ct_athrow B hno h.2.2 ⟨j, ((some (ad 1)), size, j, me, meant + w_.1.length, (upd starts cnt (nI meant)), lens, cnt, cols), rfl, h.1, by rw [cellAt_i hwd, if_pos (by intro q9; rcases q9.2 with z9 | z9; exact c44e ⟨q9.1, z9⟩; exact c10e ⟨q9.1, z9⟩)]⟩ dX2_cell_136
      · have hend : endsAt t j := ⟨c10e.1, Or.inr c10e.2⟩
        refine lv_iconst (v := nI 1) hx hb dX2_cell_116 (by decide) ?_
        refine lv_goto (tgt := 121) hx hb dX2_cell_117 (by decide) ?_
        refine lv_istore (lv' := [(5, .int (nI 1)), (4, .int (nI w_.1.length)), (0, .ref (ad 3)), (1, .int (nI 0)), (2, .int (nI at_)), (3, .int (nI qb))]) hx hb dX2_cell_121 hl (by decide) rfl (fun ls hl => ?_)
        refine lv_iload hx hb dX2_cell_123 (lv_at hl 0 rfl) ?_
        refine n_if_ne (tgt := 137) hx hb dX2_cell_125 (by decide) (by omega) (fun c_17 => ?_) (fun c_17 => absurd c_17 (by omega))
        refine lv_iload hx hb dX2_cell_137 (lv_at hl 1 rfl) ?_
        refine lv_iload_n hx hb dX2_cell_139 rfl (lv_at hl 3 rfl) ?_
        refine n_if_eq (tgt := 148) hx hb dX2_cell_140 (by decide) (by omega) (fun c_18 => ?_) (fun c_18 => absurd c_18 (by omega))
        refine lv_bipush (v := nI 40) hx hb dX2_cell_148 (by decide) ?_
        refine n_icmp_gt (tgt := 162) hx hb dX2_cell_150 (by decide) (by omega) (by omega) (fun c_19 => ?_) (fun c_19 => ?_)
        · refine lv_aload_n hx hb dX2_cell_162 rfl (lv_at hl 2 rfl) ?_
          refine lv_iload_n hx hb dX2_cell_163 rfl (lv_at hl 4 rfl) ?_
          refine ct_callQ (ct_runV (As := [.int (nI at_)]) (rest := []) B (met_X2_wrong l E ad (tray, trayed, fed, place, picked, pcnt, column) O code splace T ((some (ad 1)), size, j, me, meant + w_.1.length, (upd starts cnt (nI meant)), lens, cnt, cols) R (nI at_) H.size) (lw_V q341 q343 qs4 q50 q344) (n := 1) ⟨by decide, by decide, by decide +kernel⟩ rfl ⟨rfl, rfl, (Nat.le_of_ble_eq_true rfl), (Nat.le_of_ble_eq_true rfl), (Nat.le_of_ble_eq_true rfl), (Nat.le_of_ble_eq_true rfl)⟩ h.2.2 hA (ct_recv B h.1 kX2 3 rfl) ⟨h.1, (ct_D0 h hA)⟩ hl.1 (Nat.le_of_ble_eq_true rfl) dX2_cell_164) h.2.2 (ct_sub h hAn) (ct_sub h hAn) (fun v H locs hv hz hk hS => ?_)
          obtain ⟨rfl, hP1⟩ := hv
          have h : Hs E A s.heap (xw E ad (tray, trayed, fed, place, picked, pcnt, column) O (20, (nI at_)) T ((some (ad 1)), size, j, me, meant + w_.1.length, (upd starts cnt (nI meant)), lens, cnt, cols) R) H locs := ct_again h hP1 rfl hS
          clear hP1 hS hz hk
          refine W.eq (g2 := F0 m 167 ls [.ref (ad 20)]) rfl ?_
          exact ct_athrow B hno h.2.2 ⟨at_, ((some (ad 1)), size, j, me, meant + w_.1.length, (upd starts cnt (nI meant)), lens, cnt, cols), rfl, h.1, by rw [cellAt_i hwd, if_neg (fun q9 => q9 hend), if_pos (by omega)]⟩ dX2_cell_167
        · refine lv_iload_n hx hb dX2_cell_153 rfl (lv_at hl 3 rfl) ?_
          refine n_if_eq (tgt := 168) hx hb dX2_cell_154 (by decide) (by omega) (fun c_20 => ?_) (fun c_20 => absurd c_20 (by omega))
          refine lv_aload_n hx hb dX2_cell_168 rfl (lv_at hl 2 rfl) ?_
          refine ct_get (v := .ref (ad 9)) B h.1 kX2 3 rfl 10 (Nat.le_of_ble_eq_true rfl) q225 rfl dX2_cell_169 ?_
          refine lv_aload_n hx hb dX2_cell_172 rfl (lv_at hl 2 rfl) ?_
          refine ct_get (v := .int (nI cnt)) B h.1 kX2 3 rfl 11 (Nat.le_of_ble_eq_true rfl) q226 rfl dX2_cell_173 ?_
          refine lv_iload hx hb dX2_cell_176 (lv_at hl 1 rfl) ?_
          refine n_if_ne (tgt := 189) hx hb dX2_cell_178 (by decide) (by omega) (fun cn0 => ?_) (fun cn0 => ?_)
          · refine lv_iload_n hx hb dX2_cell_189 rfl (lv_at hl 5 rfl) ?_
            refine n_if_eq (tgt := 201) hx hb dX2_cell_190 (by decide) (by omega) (fun cq1 => ?_) (fun cq1 => ?_)
            · have hq2 : w_.2 = false := by rcases hqb with ⟨q9, _⟩ | ⟨_, q9⟩; omega; exact q9
              refine lv_iload hx hb dX2_cell_201 (lv_at hl 1 rfl) ?_
              refine W.eq (g2 := F0 m 203 ls [.int (encL w_), .int (nI cnt), .ref (ad 9)]) (by rw [enc_u (by omega) hq2] <;> rfl) ?_
              refine lv_i2b (v := (encL w_)) hx hb dX2_cell_203 (enc_i8 (by omega)) ?_
              refine ct_bast (ws' := xw E ad (tray, trayed, fed, place, picked, pcnt, column) O (code, splace) T ((some (ad 1)), size, j, me, meant + w_.1.length, (upd starts cnt (nI meant)), (upd lens cnt (encL w_)), cnt, cols) R) B h 9 rfl hc8 (by omega) (congrArg (fun z9 => (xw E ad (tray, trayed, fed, place, picked, pcnt, column) O (code, splace) T ((some (ad 1)), size, j, me, meant + w_.1.length, (upd starts cnt (nI meant)), z9, cnt, cols) R : va_W)) ((by rw [enc_b (by omega)] : upd lens cnt (vp_nar .byte (encL w_)) = upd lens cnt (encL w_)))) dX2_cell_204 (fun H locs h => ?_)
              have hpw2 : pWs me (upd starts cnt (nI meant)) (upd lens cnt (encL w_)) (acc ++ [w_]) := pWs_snoc hpw (fun j hj => hme j (by omega)) (fun k hk => ⟨upd_n (by omega), upd_n (by omega)⟩) (by rw [← hcn, ← hmt]; exact pAt_of upd_s upd_s hmw hwr (by omega) (by omega))
              refine lv_iconst (v := nI 0) hx hb dX2_cell_205 (by decide) ?_
              refine lv_istore (lv' := [(6, .int (nI 0)), (5, .int (nI 1)), (4, .int (nI w_.1.length)), (0, .ref (ad 3)), (1, .int (nI 0)), (2, .int (nI at_)), (3, .int (nI qb))]) hx hb dX2_cell_206 hl (by decide) rfl (fun ls hl => ?_)
              refine lv_iload hx hb dX2_cell_208 (lv_at hl 0 rfl) ?_
              refine lv_aload_n hx hb dX2_cell_210 rfl (lv_at hl 3 rfl) ?_
              refine ct_get (v := .int (nI cnt)) B h.1 kX2 3 rfl 11 (Nat.le_of_ble_eq_true rfl) q226 rfl dX2_cell_211 ?_
              refine n_icmp_ge (tgt := 246) hx hb dX2_cell_214 (by decide) (by omega) (by omega) (fun c_21 => ?_) (fun c_21 => ?_)
              · refine lv_aload_n hx hb dX2_cell_246 rfl (lv_at hl 3 rfl) ?_
                refine lv_dup hx hb dX2_cell_247 rfl ?_
                refine ct_get (v := .int (nI cnt)) B h.1 kX2 3 rfl 11 (Nat.le_of_ble_eq_true rfl) q226 rfl dX2_cell_248 ?_
                refine lv_iconst (v := nI 1) hx hb dX2_cell_251 (by decide) ?_
                refine n_iadd hx hb dX2_cell_252 ?_
                refine ct_put (ws' := xw E ad (tray, trayed, fed, place, picked, pcnt, column) O (code, splace) T ((some (ad 1)), size, j, me, meant + w_.1.length, (upd starts cnt (nI meant)), (upd lens cnt (encL w_)), cnt + 1, cols) R) B h kX2 3 rfl 11 (Nat.le_of_ble_eq_true rfl) q226 rfl rfl rfl (Nat.le_of_ble_eq_true rfl) rfl dX2_cell_253 (fun H locs h => ?_)
                exact ct_toX (ct_vret B h.2.2 ⟨w_, j, me, (upd starts cnt (nI meant)), (upd lens cnt (encL w_)), rfl, h.1, by rw [cellAt_i hwd, if_neg (fun q9 => q9 hend), if_neg (by omega)], hpw2, by have := hend.1; omega⟩ dX2_cell_256)
              · refine lv_iload_n hx hb dX2_cell_217 rfl (lv_at hl 4 rfl) ?_
                refine n_if_eq (tgt := 246) hx hb dX2_cell_218 (by decide) (by omega) (fun c_22 => ?_) (fun c_22 => absurd c_22 (by omega))
                refine lv_aload_n hx hb dX2_cell_246 rfl (lv_at hl 3 rfl) ?_
                refine lv_dup hx hb dX2_cell_247 rfl ?_
                refine ct_get (v := .int (nI cnt)) B h.1 kX2 3 rfl 11 (Nat.le_of_ble_eq_true rfl) q226 rfl dX2_cell_248 ?_
                refine lv_iconst (v := nI 1) hx hb dX2_cell_251 (by decide) ?_
                refine n_iadd hx hb dX2_cell_252 ?_
                refine ct_put (ws' := xw E ad (tray, trayed, fed, place, picked, pcnt, column) O (code, splace) T ((some (ad 1)), size, j, me, meant + w_.1.length, (upd starts cnt (nI meant)), (upd lens cnt (encL w_)), cnt + 1, cols) R) B h kX2 3 rfl 11 (Nat.le_of_ble_eq_true rfl) q226 rfl rfl rfl (Nat.le_of_ble_eq_true rfl) rfl dX2_cell_253 (fun H locs h => ?_)
                exact ct_toX (ct_vret B h.2.2 ⟨w_, j, me, (upd starts cnt (nI meant)), (upd lens cnt (encL w_)), rfl, h.1, by rw [cellAt_i hwd, if_neg (fun q9 => q9 hend), if_neg (by omega)], hpw2, by have := hend.1; omega⟩ dX2_cell_256)
            · have hq2 : w_.2 = true := by rcases hqb with ⟨_, q9⟩ | ⟨q9, _⟩; exact q9; omega
              refine lv_iload hx hb dX2_cell_193 (lv_at hl 1 rfl) ?_
              refine lv_bipush (v := nI 64) hx hb dX2_cell_195 (by decide) ?_
              refine n_iadd hx hb dX2_cell_197 ?_
              refine lv_goto (tgt := 203) hx hb dX2_cell_198 (by decide) ?_
              refine W.eq (g2 := F0 m 203 ls [.int (encL w_), .int (nI cnt), .ref (ad 9)]) (by rw [enc_q hq2] <;> rfl) ?_
              refine lv_i2b (v := (encL w_)) hx hb dX2_cell_203 (enc_i8 (by omega)) ?_
              refine ct_bast (ws' := xw E ad (tray, trayed, fed, place, picked, pcnt, column) O (code, splace) T ((some (ad 1)), size, j, me, meant + w_.1.length, (upd starts cnt (nI meant)), (upd lens cnt (encL w_)), cnt, cols) R) B h 9 rfl hc8 (by omega) (congrArg (fun z9 => (xw E ad (tray, trayed, fed, place, picked, pcnt, column) O (code, splace) T ((some (ad 1)), size, j, me, meant + w_.1.length, (upd starts cnt (nI meant)), z9, cnt, cols) R : va_W)) ((by rw [enc_b (by omega)] : upd lens cnt (vp_nar .byte (encL w_)) = upd lens cnt (encL w_)))) dX2_cell_204 (fun H locs h => ?_)
              have hpw2 : pWs me (upd starts cnt (nI meant)) (upd lens cnt (encL w_)) (acc ++ [w_]) := pWs_snoc hpw (fun j hj => hme j (by omega)) (fun k hk => ⟨upd_n (by omega), upd_n (by omega)⟩) (by rw [← hcn, ← hmt]; exact pAt_of upd_s upd_s hmw hwr (by omega) (by omega))
              refine lv_iconst (v := nI 0) hx hb dX2_cell_205 (by decide) ?_
              refine lv_istore (lv' := [(6, .int (nI 0)), (5, .int (nI 1)), (4, .int (nI w_.1.length)), (0, .ref (ad 3)), (1, .int (nI 0)), (2, .int (nI at_)), (3, .int (nI qb))]) hx hb dX2_cell_206 hl (by decide) rfl (fun ls hl => ?_)
              refine lv_iload hx hb dX2_cell_208 (lv_at hl 0 rfl) ?_
              refine lv_aload_n hx hb dX2_cell_210 rfl (lv_at hl 3 rfl) ?_
              refine ct_get (v := .int (nI cnt)) B h.1 kX2 3 rfl 11 (Nat.le_of_ble_eq_true rfl) q226 rfl dX2_cell_211 ?_
              refine n_icmp_ge (tgt := 246) hx hb dX2_cell_214 (by decide) (by omega) (by omega) (fun c_23 => ?_) (fun c_23 => ?_)
              · refine lv_aload_n hx hb dX2_cell_246 rfl (lv_at hl 3 rfl) ?_
                refine lv_dup hx hb dX2_cell_247 rfl ?_
                refine ct_get (v := .int (nI cnt)) B h.1 kX2 3 rfl 11 (Nat.le_of_ble_eq_true rfl) q226 rfl dX2_cell_248 ?_
                refine lv_iconst (v := nI 1) hx hb dX2_cell_251 (by decide) ?_
                refine n_iadd hx hb dX2_cell_252 ?_
                refine ct_put (ws' := xw E ad (tray, trayed, fed, place, picked, pcnt, column) O (code, splace) T ((some (ad 1)), size, j, me, meant + w_.1.length, (upd starts cnt (nI meant)), (upd lens cnt (encL w_)), cnt + 1, cols) R) B h kX2 3 rfl 11 (Nat.le_of_ble_eq_true rfl) q226 rfl rfl rfl (Nat.le_of_ble_eq_true rfl) rfl dX2_cell_253 (fun H locs h => ?_)
                exact ct_toX (ct_vret B h.2.2 ⟨w_, j, me, (upd starts cnt (nI meant)), (upd lens cnt (encL w_)), rfl, h.1, by rw [cellAt_i hwd, if_neg (fun q9 => q9 hend), if_neg (by omega)], hpw2, by have := hend.1; omega⟩ dX2_cell_256)
              · refine lv_iload_n hx hb dX2_cell_217 rfl (lv_at hl 4 rfl) ?_
                refine n_if_eq (tgt := 246) hx hb dX2_cell_218 (by decide) (by omega) (fun c_24 => ?_) (fun c_24 => absurd c_24 (by omega))
                refine lv_aload_n hx hb dX2_cell_246 rfl (lv_at hl 3 rfl) ?_
                refine lv_dup hx hb dX2_cell_247 rfl ?_
                refine ct_get (v := .int (nI cnt)) B h.1 kX2 3 rfl 11 (Nat.le_of_ble_eq_true rfl) q226 rfl dX2_cell_248 ?_
                refine lv_iconst (v := nI 1) hx hb dX2_cell_251 (by decide) ?_
                refine n_iadd hx hb dX2_cell_252 ?_
                refine ct_put (ws' := xw E ad (tray, trayed, fed, place, picked, pcnt, column) O (code, splace) T ((some (ad 1)), size, j, me, meant + w_.1.length, (upd starts cnt (nI meant)), (upd lens cnt (encL w_)), cnt + 1, cols) R) B h kX2 3 rfl 11 (Nat.le_of_ble_eq_true rfl) q226 rfl rfl rfl (Nat.le_of_ble_eq_true rfl) rfl dX2_cell_253 (fun H locs h => ?_)
                exact ct_toX (ct_vret B h.2.2 ⟨w_, j, me, (upd starts cnt (nI meant)), (upd lens cnt (encL w_)), rfl, h.1, by rw [cellAt_i hwd, if_neg (fun q9 => q9 hend), if_neg (by omega)], hpw2, by have := hend.1; omega⟩ dX2_cell_256)
          · refine lv_iload_n hx hb dX2_cell_181 rfl (lv_at hl 5 rfl) ?_
            refine n_if_ne (tgt := 189) hx hb dX2_cell_182 (by decide) (by omega) (fun cq0 => ?_) (fun cq0 => ?_)
            · refine lv_iload_n hx hb dX2_cell_189 rfl (lv_at hl 5 rfl) ?_
              refine n_if_eq (tgt := 201) hx hb dX2_cell_190 (by decide) (by omega) (fun cq1 => ?_) (fun cq1 => ?_)
              · have hq2 : w_.2 = false := by rcases hqb with ⟨q9, _⟩ | ⟨_, q9⟩; omega; exact q9
                refine lv_iload hx hb dX2_cell_201 (lv_at hl 1 rfl) ?_
                refine W.eq (g2 := F0 m 203 ls [.int (encL w_), .int (nI cnt), .ref (ad 9)]) (by rw [enc_u (by omega) hq2] <;> rfl) ?_
                refine lv_i2b (v := (encL w_)) hx hb dX2_cell_203 (enc_i8 (by omega)) ?_
                refine ct_bast (ws' := xw E ad (tray, trayed, fed, place, picked, pcnt, column) O (code, splace) T ((some (ad 1)), size, j, me, meant + w_.1.length, (upd starts cnt (nI meant)), (upd lens cnt (encL w_)), cnt, cols) R) B h 9 rfl hc8 (by omega) (congrArg (fun z9 => (xw E ad (tray, trayed, fed, place, picked, pcnt, column) O (code, splace) T ((some (ad 1)), size, j, me, meant + w_.1.length, (upd starts cnt (nI meant)), z9, cnt, cols) R : va_W)) ((by rw [enc_b (by omega)] : upd lens cnt (vp_nar .byte (encL w_)) = upd lens cnt (encL w_)))) dX2_cell_204 (fun H locs h => ?_)
                have hpw2 : pWs me (upd starts cnt (nI meant)) (upd lens cnt (encL w_)) (acc ++ [w_]) := pWs_snoc hpw (fun j hj => hme j (by omega)) (fun k hk => ⟨upd_n (by omega), upd_n (by omega)⟩) (by rw [← hcn, ← hmt]; exact pAt_of upd_s upd_s hmw hwr (by omega) (by omega))
                refine lv_iconst (v := nI 0) hx hb dX2_cell_205 (by decide) ?_
                refine lv_istore (lv' := [(6, .int (nI 0)), (5, .int (nI 1)), (4, .int (nI w_.1.length)), (0, .ref (ad 3)), (1, .int (nI 0)), (2, .int (nI at_)), (3, .int (nI qb))]) hx hb dX2_cell_206 hl (by decide) rfl (fun ls hl => ?_)
                refine lv_iload hx hb dX2_cell_208 (lv_at hl 0 rfl) ?_
                refine lv_aload_n hx hb dX2_cell_210 rfl (lv_at hl 3 rfl) ?_
                refine ct_get (v := .int (nI cnt)) B h.1 kX2 3 rfl 11 (Nat.le_of_ble_eq_true rfl) q226 rfl dX2_cell_211 ?_
                refine n_icmp_ge (tgt := 246) hx hb dX2_cell_214 (by decide) (by omega) (by omega) (fun c_25 => ?_) (fun c_25 => ?_)
                · refine lv_aload_n hx hb dX2_cell_246 rfl (lv_at hl 3 rfl) ?_
                  refine lv_dup hx hb dX2_cell_247 rfl ?_
                  refine ct_get (v := .int (nI cnt)) B h.1 kX2 3 rfl 11 (Nat.le_of_ble_eq_true rfl) q226 rfl dX2_cell_248 ?_
                  refine lv_iconst (v := nI 1) hx hb dX2_cell_251 (by decide) ?_
                  refine n_iadd hx hb dX2_cell_252 ?_
                  refine ct_put (ws' := xw E ad (tray, trayed, fed, place, picked, pcnt, column) O (code, splace) T ((some (ad 1)), size, j, me, meant + w_.1.length, (upd starts cnt (nI meant)), (upd lens cnt (encL w_)), cnt + 1, cols) R) B h kX2 3 rfl 11 (Nat.le_of_ble_eq_true rfl) q226 rfl rfl rfl (Nat.le_of_ble_eq_true rfl) rfl dX2_cell_253 (fun H locs h => ?_)
                  exact ct_toX (ct_vret B h.2.2 ⟨w_, j, me, (upd starts cnt (nI meant)), (upd lens cnt (encL w_)), rfl, h.1, by rw [cellAt_i hwd, if_neg (fun q9 => q9 hend), if_neg (by omega)], hpw2, by have := hend.1; omega⟩ dX2_cell_256)
                · refine lv_iload_n hx hb dX2_cell_217 rfl (lv_at hl 4 rfl) ?_
                  refine n_if_eq (tgt := 246) hx hb dX2_cell_218 (by decide) (by omega) (fun c_26 => ?_) (fun c_26 => absurd c_26 (by omega))
                  refine lv_aload_n hx hb dX2_cell_246 rfl (lv_at hl 3 rfl) ?_
                  refine lv_dup hx hb dX2_cell_247 rfl ?_
                  refine ct_get (v := .int (nI cnt)) B h.1 kX2 3 rfl 11 (Nat.le_of_ble_eq_true rfl) q226 rfl dX2_cell_248 ?_
                  refine lv_iconst (v := nI 1) hx hb dX2_cell_251 (by decide) ?_
                  refine n_iadd hx hb dX2_cell_252 ?_
                  refine ct_put (ws' := xw E ad (tray, trayed, fed, place, picked, pcnt, column) O (code, splace) T ((some (ad 1)), size, j, me, meant + w_.1.length, (upd starts cnt (nI meant)), (upd lens cnt (encL w_)), cnt + 1, cols) R) B h kX2 3 rfl 11 (Nat.le_of_ble_eq_true rfl) q226 rfl rfl rfl (Nat.le_of_ble_eq_true rfl) rfl dX2_cell_253 (fun H locs h => ?_)
                  exact ct_toX (ct_vret B h.2.2 ⟨w_, j, me, (upd starts cnt (nI meant)), (upd lens cnt (encL w_)), rfl, h.1, by rw [cellAt_i hwd, if_neg (fun q9 => q9 hend), if_neg (by omega)], hpw2, by have := hend.1; omega⟩ dX2_cell_256)
              · have hq2 : w_.2 = true := by rcases hqb with ⟨_, q9⟩ | ⟨q9, _⟩; exact q9; omega
                refine lv_iload hx hb dX2_cell_193 (lv_at hl 1 rfl) ?_
                refine lv_bipush (v := nI 64) hx hb dX2_cell_195 (by decide) ?_
                refine n_iadd hx hb dX2_cell_197 ?_
                refine lv_goto (tgt := 203) hx hb dX2_cell_198 (by decide) ?_
                refine W.eq (g2 := F0 m 203 ls [.int (encL w_), .int (nI cnt), .ref (ad 9)]) (by rw [enc_q hq2] <;> rfl) ?_
                refine lv_i2b (v := (encL w_)) hx hb dX2_cell_203 (enc_i8 (by omega)) ?_
                refine ct_bast (ws' := xw E ad (tray, trayed, fed, place, picked, pcnt, column) O (code, splace) T ((some (ad 1)), size, j, me, meant + w_.1.length, (upd starts cnt (nI meant)), (upd lens cnt (encL w_)), cnt, cols) R) B h 9 rfl hc8 (by omega) (congrArg (fun z9 => (xw E ad (tray, trayed, fed, place, picked, pcnt, column) O (code, splace) T ((some (ad 1)), size, j, me, meant + w_.1.length, (upd starts cnt (nI meant)), z9, cnt, cols) R : va_W)) ((by rw [enc_b (by omega)] : upd lens cnt (vp_nar .byte (encL w_)) = upd lens cnt (encL w_)))) dX2_cell_204 (fun H locs h => ?_)
                have hpw2 : pWs me (upd starts cnt (nI meant)) (upd lens cnt (encL w_)) (acc ++ [w_]) := pWs_snoc hpw (fun j hj => hme j (by omega)) (fun k hk => ⟨upd_n (by omega), upd_n (by omega)⟩) (by rw [← hcn, ← hmt]; exact pAt_of upd_s upd_s hmw hwr (by omega) (by omega))
                refine lv_iconst (v := nI 0) hx hb dX2_cell_205 (by decide) ?_
                refine lv_istore (lv' := [(6, .int (nI 0)), (5, .int (nI 1)), (4, .int (nI w_.1.length)), (0, .ref (ad 3)), (1, .int (nI 0)), (2, .int (nI at_)), (3, .int (nI qb))]) hx hb dX2_cell_206 hl (by decide) rfl (fun ls hl => ?_)
                refine lv_iload hx hb dX2_cell_208 (lv_at hl 0 rfl) ?_
                refine lv_aload_n hx hb dX2_cell_210 rfl (lv_at hl 3 rfl) ?_
                refine ct_get (v := .int (nI cnt)) B h.1 kX2 3 rfl 11 (Nat.le_of_ble_eq_true rfl) q226 rfl dX2_cell_211 ?_
                refine n_icmp_ge (tgt := 246) hx hb dX2_cell_214 (by decide) (by omega) (by omega) (fun c_27 => ?_) (fun c_27 => ?_)
                · refine lv_aload_n hx hb dX2_cell_246 rfl (lv_at hl 3 rfl) ?_
                  refine lv_dup hx hb dX2_cell_247 rfl ?_
                  refine ct_get (v := .int (nI cnt)) B h.1 kX2 3 rfl 11 (Nat.le_of_ble_eq_true rfl) q226 rfl dX2_cell_248 ?_
                  refine lv_iconst (v := nI 1) hx hb dX2_cell_251 (by decide) ?_
                  refine n_iadd hx hb dX2_cell_252 ?_
                  refine ct_put (ws' := xw E ad (tray, trayed, fed, place, picked, pcnt, column) O (code, splace) T ((some (ad 1)), size, j, me, meant + w_.1.length, (upd starts cnt (nI meant)), (upd lens cnt (encL w_)), cnt + 1, cols) R) B h kX2 3 rfl 11 (Nat.le_of_ble_eq_true rfl) q226 rfl rfl rfl (Nat.le_of_ble_eq_true rfl) rfl dX2_cell_253 (fun H locs h => ?_)
                  exact ct_toX (ct_vret B h.2.2 ⟨w_, j, me, (upd starts cnt (nI meant)), (upd lens cnt (encL w_)), rfl, h.1, by rw [cellAt_i hwd, if_neg (fun q9 => q9 hend), if_neg (by omega)], hpw2, by have := hend.1; omega⟩ dX2_cell_256)
                · refine lv_iload_n hx hb dX2_cell_217 rfl (lv_at hl 4 rfl) ?_
                  refine n_if_eq (tgt := 246) hx hb dX2_cell_218 (by decide) (by omega) (fun c_28 => ?_) (fun c_28 => absurd c_28 (by omega))
                  refine lv_aload_n hx hb dX2_cell_246 rfl (lv_at hl 3 rfl) ?_
                  refine lv_dup hx hb dX2_cell_247 rfl ?_
                  refine ct_get (v := .int (nI cnt)) B h.1 kX2 3 rfl 11 (Nat.le_of_ble_eq_true rfl) q226 rfl dX2_cell_248 ?_
                  refine lv_iconst (v := nI 1) hx hb dX2_cell_251 (by decide) ?_
                  refine n_iadd hx hb dX2_cell_252 ?_
                  refine ct_put (ws' := xw E ad (tray, trayed, fed, place, picked, pcnt, column) O (code, splace) T ((some (ad 1)), size, j, me, meant + w_.1.length, (upd starts cnt (nI meant)), (upd lens cnt (encL w_)), cnt + 1, cols) R) B h kX2 3 rfl 11 (Nat.le_of_ble_eq_true rfl) q226 rfl rfl rfl (Nat.le_of_ble_eq_true rfl) rfl dX2_cell_253 (fun H locs h => ?_)
                  exact ct_toX (ct_vret B h.2.2 ⟨w_, j, me, (upd starts cnt (nI meant)), (upd lens cnt (encL w_)), rfl, h.1, by rw [cellAt_i hwd, if_neg (fun q9 => q9 hend), if_neg (by omega)], hpw2, by have := hend.1; omega⟩ dX2_cell_256)
            · have hq2 : w_.2 = false := by rcases hqb with ⟨q9, _⟩ | ⟨_, q9⟩; omega; exact q9
              refine lv_iconst (v := (-1)) hx hb dX2_cell_185 (by decide) ?_
              refine lv_goto (tgt := 203) hx hb dX2_cell_186 (by decide) ?_
              refine W.eq (g2 := F0 m 203 ls [.int (encL w_), .int (nI cnt), .ref (ad 9)]) (by rw [enc_m1 (by omega) hq2] <;> rfl) ?_
              refine lv_i2b (v := (encL w_)) hx hb dX2_cell_203 (enc_i8 (by omega)) ?_
              refine ct_bast (ws' := xw E ad (tray, trayed, fed, place, picked, pcnt, column) O (code, splace) T ((some (ad 1)), size, j, me, meant + w_.1.length, (upd starts cnt (nI meant)), (upd lens cnt (encL w_)), cnt, cols) R) B h 9 rfl hc8 (by omega) (congrArg (fun z9 => (xw E ad (tray, trayed, fed, place, picked, pcnt, column) O (code, splace) T ((some (ad 1)), size, j, me, meant + w_.1.length, (upd starts cnt (nI meant)), z9, cnt, cols) R : va_W)) ((by rw [enc_b (by omega)] : upd lens cnt (vp_nar .byte (encL w_)) = upd lens cnt (encL w_)))) dX2_cell_204 (fun H locs h => ?_)
              have hpw2 : pWs me (upd starts cnt (nI meant)) (upd lens cnt (encL w_)) (acc ++ [w_]) := pWs_snoc hpw (fun j hj => hme j (by omega)) (fun k hk => ⟨upd_n (by omega), upd_n (by omega)⟩) (by rw [← hcn, ← hmt]; exact pAt_of upd_s upd_s hmw hwr (by omega) (by omega))
              refine lv_iconst (v := nI 0) hx hb dX2_cell_205 (by decide) ?_
              refine lv_istore (lv' := [(6, .int (nI 0)), (5, .int (nI 1)), (4, .int (nI w_.1.length)), (0, .ref (ad 3)), (1, .int (nI 0)), (2, .int (nI at_)), (3, .int (nI qb))]) hx hb dX2_cell_206 hl (by decide) rfl (fun ls hl => ?_)
              refine lv_iload hx hb dX2_cell_208 (lv_at hl 0 rfl) ?_
              refine lv_aload_n hx hb dX2_cell_210 rfl (lv_at hl 3 rfl) ?_
              refine ct_get (v := .int (nI cnt)) B h.1 kX2 3 rfl 11 (Nat.le_of_ble_eq_true rfl) q226 rfl dX2_cell_211 ?_
              refine n_icmp_ge (tgt := 246) hx hb dX2_cell_214 (by decide) (by omega) (by omega) (fun c_29 => ?_) (fun c_29 => ?_)
              · refine lv_aload_n hx hb dX2_cell_246 rfl (lv_at hl 3 rfl) ?_
                refine lv_dup hx hb dX2_cell_247 rfl ?_
                refine ct_get (v := .int (nI cnt)) B h.1 kX2 3 rfl 11 (Nat.le_of_ble_eq_true rfl) q226 rfl dX2_cell_248 ?_
                refine lv_iconst (v := nI 1) hx hb dX2_cell_251 (by decide) ?_
                refine n_iadd hx hb dX2_cell_252 ?_
                refine ct_put (ws' := xw E ad (tray, trayed, fed, place, picked, pcnt, column) O (code, splace) T ((some (ad 1)), size, j, me, meant + w_.1.length, (upd starts cnt (nI meant)), (upd lens cnt (encL w_)), cnt + 1, cols) R) B h kX2 3 rfl 11 (Nat.le_of_ble_eq_true rfl) q226 rfl rfl rfl (Nat.le_of_ble_eq_true rfl) rfl dX2_cell_253 (fun H locs h => ?_)
                exact ct_toX (ct_vret B h.2.2 ⟨w_, j, me, (upd starts cnt (nI meant)), (upd lens cnt (encL w_)), rfl, h.1, by rw [cellAt_i hwd, if_neg (fun q9 => q9 hend), if_neg (by omega)], hpw2, by have := hend.1; omega⟩ dX2_cell_256)
              · refine lv_iload_n hx hb dX2_cell_217 rfl (lv_at hl 4 rfl) ?_
                refine n_if_eq (tgt := 246) hx hb dX2_cell_218 (by decide) (by omega) (fun c_30 => ?_) (fun c_30 => absurd c_30 (by omega))
                refine lv_aload_n hx hb dX2_cell_246 rfl (lv_at hl 3 rfl) ?_
                refine lv_dup hx hb dX2_cell_247 rfl ?_
                refine ct_get (v := .int (nI cnt)) B h.1 kX2 3 rfl 11 (Nat.le_of_ble_eq_true rfl) q226 rfl dX2_cell_248 ?_
                refine lv_iconst (v := nI 1) hx hb dX2_cell_251 (by decide) ?_
                refine n_iadd hx hb dX2_cell_252 ?_
                refine ct_put (ws' := xw E ad (tray, trayed, fed, place, picked, pcnt, column) O (code, splace) T ((some (ad 1)), size, j, me, meant + w_.1.length, (upd starts cnt (nI meant)), (upd lens cnt (encL w_)), cnt + 1, cols) R) B h kX2 3 rfl 11 (Nat.le_of_ble_eq_true rfl) q226 rfl rfl rfl (Nat.le_of_ble_eq_true rfl) rfl dX2_cell_253 (fun H locs h => ?_)
                exact ct_toX (ct_vret B h.2.2 ⟨w_, j, me, (upd starts cnt (nI meant)), (upd lens cnt (encL w_)), rfl, h.1, by rw [cellAt_i hwd, if_neg (fun q9 => q9 hend), if_neg (by omega)], hpw2, by have := hend.1; omega⟩ dX2_cell_256)
  · refine lv_aload_n hx hb dX2_cell_13 rfl (lv_at hl 0 rfl) ?_
    refine ct_callR (ct_runV (As := []) (rest := []) B (met_X2_lookT l E ad tray trayed fed place picked pcnt column O (code, splace) T size at_ means meant (upd starts cnt (nI meant)) lens cnt cols R t H.size htx hsz_ (by omega)) (lw_V q353 q355 qs6 q50 q356) (n := 0) ⟨by decide, by decide, by decide +kernel⟩ rfl ⟨rfl, rfl, (Nat.le_of_ble_eq_true rfl), (Nat.le_of_ble_eq_true rfl), (Nat.le_of_ble_eq_true rfl), (Nat.le_of_ble_eq_true rfl)⟩ h.2.2 hA (ct_recv B h.1 kX2 3 rfl) h.1 hl.1 (Nat.le_of_ble_eq_true rfl) dX2_cell_14) (fun v hv => ?_)
    subst hv
    refine W.eq (g2 := F0 m 17 ls [.int (lkI t at_)]) rfl ?_
    refine lv_bipush (v := nI 34) hx hb dX2_cell_17 (by decide) ?_
    refine k_icmp_ne (tgt := 26) hx hb dX2_cell_19 (by decide) htb (by decide) (fun cq => ?_) (fun cq => ?_)
    · refine lv_iconst (v := nI 0) hx hb dX2_cell_26 (by decide) ?_
      refine lv_istore_n (lv' := [(3, .int (nI 0)), (0, .ref (ad 3)), (1, .int (nI 0)), (2, .int (nI at_))]) hx hb dX2_cell_27 rfl hl (by decide) rfl (fun ls hl => ?_)
      refine lv_iload_n hx hb dX2_cell_28 rfl (lv_at hl 0 rfl) ?_
      refine n_if_eq (tgt := 39) hx hb dX2_cell_29 (by decide) (by omega) (fun c_31 => ?_) (fun c_31 => absurd c_31 (by omega))
      refine ct_loopH (σ := Nat × Nat × List Nat × (Nat → Int32)) (fun (i, mt, u, me) H locs ls => lv_has ls 7 [(3, .int (nI 0)), (0, .ref (ad 3)), (1, .int (nI 0)), (2, .int (nI at_))] ∧ Hs E A s.heap (xw E ad (tray, trayed, fed, place, picked, pcnt, column) O (code, splace) T ((some (ad 1)), size, i, me, mt, (upd starts cnt (nI meant)), lens, cnt, cols) R) H locs ∧ (plain t at_ = u ++ plain t i) ∧ (i = at_ + u.length) ∧ (i ≤ size) ∧ (mt = meant + u.length) ∧ (∀ k, k < meant → me k = means k) ∧ (∀ k, k < u.length → me (meant + k) = nI (u.getD k 0)) ∧ (∀ x ∈ u, 32 ≤ x ∧ x ≤ 126)) (fun (i, mt, u, me) => size - i) (fun _ => 0) (fun _ => 0) (g := fun (i, mt, u, me) ls => F0 m 39 ls []) (x0 := (at_, meant, [], means)) (ls0 := ls) ?_ ⟨lv_sub hl [0, 1, 2, 3] rfl, h, rfl, rfl, hat, rfl, fun _ _ => rfl, fun j hj => absurd hj (Nat.not_lt_zero j), fun x hx => by cases hx⟩
      clear hl h
      intro x9 H locs ls hI ih_32
      obtain ⟨i, mt, u, me⟩ := x9
      obtain ⟨hl, h, hpl, hi_, hi2, hmt_, hme, hmu, hur⟩ := hI
      refine W.eq (g2 := F0 m 39 ls []) rfl ?_
      refine lv_aload_n hx hb dX2_cell_39 rfl (lv_at hl 1 rfl) ?_
      refine ct_callR (ct_runV (As := []) (rest := []) B (met_X2_lookT l E ad tray trayed fed place picked pcnt column O (code, splace) T size i me mt (upd starts cnt (nI meant)) lens cnt cols R t H.size htx hsz_ (by omega)) (lw_V q353 q355 qs6 q50 q356) (n := 0) ⟨by decide, by decide, by decide +kernel⟩ rfl ⟨rfl, rfl, (Nat.le_of_ble_eq_true rfl), (Nat.le_of_ble_eq_true rfl), (Nat.le_of_ble_eq_true rfl), (Nat.le_of_ble_eq_true rfl)⟩ h.2.2 hA (ct_recv B h.1 kX2 3 rfl) h.1 hl.1 (Nat.le_of_ble_eq_true rfl) dX2_cell_40) (fun v hv => ?_)
      subst hv
      refine W.eq (g2 := F0 m 43 ls [.int (lkI t i)]) rfl ?_
      refine lv_bipush (v := nI 32) hx hb dX2_cell_43 (by decide) ?_
      refine k_icmp_lt (tgt := 82) hx hb dX2_cell_45 (by decide) htb (by decide) (fun c32 => ?_) (fun c32 => ?_)
      · subst hmt_
        exact hJ_1 ((u, false), i, me, 0) H locs ls ⟨lv_sub hl [1, 2, 3, 0] rfl, h, word_u cq hpl (fun q9 => by have := c32 q9.1; omega) hi_, hme, hmu, hur, by dsimp only; omega, Or.inr ⟨rfl, rfl⟩⟩
      · refine lv_aload_n hx hb dX2_cell_48 rfl (lv_at hl 1 rfl) ?_
        refine ct_callR (ct_runV (As := []) (rest := []) B (met_X2_lookT l E ad tray trayed fed place picked pcnt column O (code, splace) T size i me mt (upd starts cnt (nI meant)) lens cnt cols R t H.size htx hsz_ (by omega)) (lw_V q353 q355 qs6 q50 q356) (n := 0) ⟨by decide, by decide, by decide +kernel⟩ rfl ⟨rfl, rfl, (Nat.le_of_ble_eq_true rfl), (Nat.le_of_ble_eq_true rfl), (Nat.le_of_ble_eq_true rfl), (Nat.le_of_ble_eq_true rfl)⟩ h.2.2 hA (ct_recv B h.1 kX2 3 rfl) h.1 hl.1 (Nat.le_of_ble_eq_true rfl) dX2_cell_49) (fun v hv => ?_)
        subst hv
        refine W.eq (g2 := F0 m 52 ls [.int (lkI t i)]) rfl ?_
        refine lv_bipush (v := nI 126) hx hb dX2_cell_52 (by decide) ?_
        refine k_icmp_gt (tgt := 82) hx hb dX2_cell_54 (by decide) htb (by decide) (fun c126 => ?_) (fun c126 => ?_)
        · subst hmt_
          exact hJ_1 ((u, false), i, me, 0) H locs ls ⟨lv_sub hl [1, 2, 3, 0] rfl, h, word_u cq hpl (fun q9 => by omega) hi_, hme, hmu, hur, by dsimp only; omega, Or.inr ⟨rfl, rfl⟩⟩
        · refine lv_aload_n hx hb dX2_cell_57 rfl (lv_at hl 1 rfl) ?_
          refine ct_callR (ct_runV (As := []) (rest := []) B (met_X2_lookT l E ad tray trayed fed place picked pcnt column O (code, splace) T size i me mt (upd starts cnt (nI meant)) lens cnt cols R t H.size htx hsz_ (by omega)) (lw_V q353 q355 qs6 q50 q356) (n := 0) ⟨by decide, by decide, by decide +kernel⟩ rfl ⟨rfl, rfl, (Nat.le_of_ble_eq_true rfl), (Nat.le_of_ble_eq_true rfl), (Nat.le_of_ble_eq_true rfl), (Nat.le_of_ble_eq_true rfl)⟩ h.2.2 hA (ct_recv B h.1 kX2 3 rfl) h.1 hl.1 (Nat.le_of_ble_eq_true rfl) dX2_cell_58) (fun v hv => ?_)
          subst hv
          refine W.eq (g2 := F0 m 61 ls [.int (lkI t i)]) rfl ?_
          refine lv_bipush (v := nI 34) hx hb dX2_cell_61 (by decide) ?_
          refine k_icmp_eq (tgt := 82) hx hb dX2_cell_63 (by decide) htb (by decide) (fun c34 => ?_) (fun c34 => ?_)
          · subst hmt_
            exact hJ_1 ((u, false), i, me, 0) H locs ls ⟨lv_sub hl [1, 2, 3, 0] rfl, h, word_u cq hpl (fun q9 => q9.2.2.2.1 c34.2) hi_, hme, hmu, hur, by dsimp only; omega, Or.inr ⟨rfl, rfl⟩⟩
          · refine lv_aload_n hx hb dX2_cell_66 rfl (lv_at hl 1 rfl) ?_
            refine ct_callR (ct_runV (As := []) (rest := []) B (met_X2_lookT l E ad tray trayed fed place picked pcnt column O (code, splace) T size i me mt (upd starts cnt (nI meant)) lens cnt cols R t H.size htx hsz_ (by omega)) (lw_V q353 q355 qs6 q50 q356) (n := 0) ⟨by decide, by decide, by decide +kernel⟩ rfl ⟨rfl, rfl, (Nat.le_of_ble_eq_true rfl), (Nat.le_of_ble_eq_true rfl), (Nat.le_of_ble_eq_true rfl), (Nat.le_of_ble_eq_true rfl)⟩ h.2.2 hA (ct_recv B h.1 kX2 3 rfl) h.1 hl.1 (Nat.le_of_ble_eq_true rfl) dX2_cell_67) (fun v hv => ?_)
            subst hv
            refine W.eq (g2 := F0 m 70 ls [.int (lkI t i)]) rfl ?_
            refine lv_bipush (v := nI 44) hx hb dX2_cell_70 (by decide) ?_
            refine k_icmp_eq (tgt := 82) hx hb dX2_cell_72 (by decide) htb (by decide) (fun c44 => ?_) (fun c44 => ?_)
            · subst hmt_
              exact hJ_1 ((u, false), i, me, 0) H locs ls ⟨lv_sub hl [1, 2, 3, 0] rfl, h, word_u cq hpl (fun q9 => q9.2.2.2.2 c44.2) hi_, hme, hmu, hur, by dsimp only; omega, Or.inr ⟨rfl, rfl⟩⟩
            · refine lv_aload_n hx hb dX2_cell_75 rfl (lv_at hl 1 rfl) ?_
              refine ct_callQ (ct_runV (As := []) (rest := []) B (met_X2_mean l E ad tray trayed fed place picked pcnt column O (code, splace) T size i me mt (upd starts cnt (nI meant)) lens cnt cols R  H.size (by omega) (by omega)) (lw_V q361 q363 qs8 q50 q364) (n := 0) ⟨by decide, by decide, by decide +kernel⟩ rfl ⟨rfl, rfl, (Nat.le_of_ble_eq_true rfl), (Nat.le_of_ble_eq_true rfl), (Nat.le_of_ble_eq_true rfl), (Nat.le_of_ble_eq_true rfl)⟩ h.2.2 hA (ct_recv B h.1 kX2 3 rfl) ⟨h.1, (ct_D0 h hA)⟩ hl.1 (Nat.le_of_ble_eq_true rfl) dX2_cell_76) h.2.2 (ct_sub h hAn) (ct_sub h hAn) (fun v H locs hv hz hk hS => ?_)
              obtain ⟨rfl, hP1⟩ := hv
              have h : Hs E A s.heap (xw E ad (tray, trayed, fed, place, picked, pcnt, column) O (code, splace) T ((some (ad 1)), size, i + 1, upd me mt (vp_nar .byte (tray i)), mt + 1, (upd starts cnt (nI meant)), lens, cnt, cols) R) H locs := ct_again h hP1 rfl hS
              clear hP1 hS hz hk
              refine W.eq (g2 := F0 m 79 ls []) rfl ?_
              rw [show vp_nar .byte (tray i) = nI (t.getD i 0) from by rw [txR_ok htx (by omega) (by omega)]; exact vp_b (by omega)] at h
              refine lv_goto (tgt := 39) hx hb dX2_cell_79 (by decide) ?_
              exact ih_32 ((i + 1), (mt + 1), (u ++ [t.getD i 0]), (upd me mt (nI (t.getD i 0)))) H locs ls (by dsimp only; omega) ⟨lv_sub hl [0, 1, 2, 3] rfl, h, by rw [hpl, plain_S (by omega) (by refine ⟨by omega, by omega, fun q9 => c34 ⟨by omega, q9⟩, fun q9 => c44 ⟨by omega, q9⟩⟩), List.append_assoc]; rfl, by rw [List.length_append, List.length_singleton]; omega, by omega, by rw [List.length_append, List.length_singleton]; omega, (fun j hj => by rw [upd_n (by omega)]; exact hme j hj), (me_snoc hmt_ hmu), (rg_snoc hur (by omega))⟩
    · refine lv_iconst (v := nI 1) hx hb dX2_cell_22 (by decide) ?_
      refine lv_goto (tgt := 27) hx hb dX2_cell_23 (by decide) ?_
      refine lv_istore_n (lv' := [(3, .int (nI 1)), (0, .ref (ad 3)), (1, .int (nI 0)), (2, .int (nI at_))]) hx hb dX2_cell_27 rfl hl (by decide) rfl (fun ls hl => ?_)
      refine lv_iload_n hx hb dX2_cell_28 rfl (lv_at hl 0 rfl) ?_
      refine n_if_eq (tgt := 39) hx hb dX2_cell_29 (by decide) (by omega) (fun c_33 => absurd c_33 (by omega)) (fun c_33 => ?_)
      refine lv_aload_n hx hb dX2_cell_32 rfl (lv_at hl 1 rfl) ?_
      refine ct_callX B hno (ct_runXV (As := []) (rest := []) B (met_X2_quoted l E ad tray trayed fed place picked pcnt column O code splace T size at_ means meant (upd starts cnt (nI meant)) lens cnt cols R t H.size htx hsz_ (by omega) hto) (lw_V q357 q359 qs7 q50 q360) (n := 0) ⟨by decide, by decide, by decide +kernel⟩ rfl ⟨rfl, rfl, (Nat.le_of_ble_eq_true rfl), (Nat.le_of_ble_eq_true rfl), (Nat.le_of_ble_eq_true rfl), (Nat.le_of_ble_eq_true rfl)⟩ h.2.2 hA (ct_recv B h.1 kX2 3 rfl) ⟨h.1, (ct_D0 h hA)⟩ hl.1 (Nat.le_of_ble_eq_true rfl) dX2_cell_33) h.2.2 (ct_sub h hAn) (ct_sub h hAn) (Nat.le_of_ble_eq_true rfl) (Nat.le_of_ble_eq_true rfl) (fun x H locs hv hz hk hS => ?_) (fun v H locs hv hz hk hS => ?_)
      · obtain ⟨pl_34, P2_35, rfl, hP1, hth⟩ := hv
        exact ⟨pl_34, (P2_35.1, P2_35.2.1, P2_35.2.2.1, P2_35.2.2.2.1, P2_35.2.2.2.2.1, P2_35.2.2.2.2.2.1, P2_35.2.2.2.2.2.2.1, P2_35.2.2.2.2.2.2.2.1, P2_35.2.2.2.2.2.2.2.2), rfl, hP1, cellAt_e (word_qe cq hth)⟩
      obtain ⟨u_q, i_q, me_q, rfl, hP1, hsq, hmeq, hmuq, hurq, hiq⟩ := hv
      have h : Hs E A s.heap (xw E ad (tray, trayed, fed, place, picked, pcnt, column) O (code, splace) T ((some (ad 1)), size, i_q, me_q, meant + u_q.length, (upd starts cnt (nI meant)), lens, cnt, cols) R) H locs := ct_again h hP1 rfl hS
      clear hP1 hS hz hk
      refine W.eq (g2 := F0 m 36 ls []) rfl ?_
      refine lv_goto (tgt := 82) hx hb dX2_cell_36 (by decide) ?_
      exact hJ_1 ((u_q, true), i_q, me_q, 1) H locs ls ⟨lv_sub hl [1, 2, 3, 0] rfl, h, word_q cq hsq, hmeq, hmuq, hurq, hiq, Or.inl ⟨rfl, rfl⟩⟩
set_option maxHeartbeats 4000000 in
set_option maxRecDepth 100000 in
theorem met_X2_cell_1 (l : Launch) (E : CE) (ad : Nat → Nat) (tray : Nat → Int32) (trayed : Nat) (fed : Nat) (place : Int32) (picked : Nat → Int64) (pcnt : Nat) (column : Nat → Int64) (O : XO) (code : Int32) (splace : Int32) (T : XT) (size : Nat) (at_ : Nat) (means : Nat → Int32) (meant : Nat) (starts : Nat → Int32) (lens : Nat → Int32) (cnt : Nat) (cols : Nat) (R : XR) (t : List Nat) (acc : List Wd) (sz : Nat) (htx : txR tray size t) (hsz_ : size ≤ 16000) (hat : at_ ≤ size) (hto : meant ≤ at_) (hcn : cnt = acc.length) (hmt : meant = tot acc) (hc8 : cnt < 8000) (hpw : pWs means starts lens acc) : MetX l yX2_cell (ws_ yX2_cell cX2_cell 7 none) { frames := 3, cells := 0, slots := 0, locals := 65 } (ctP E [.ref (ad 3), .int (nI 1), .int (nI at_)] sz (fun H => va_P E.1 ct_cl (xw E ad (tray, trayed, fed, place, picked, pcnt, column) O (code, splace) T ((some (ad 1)), size, at_, means, meant, starts, lens, cnt, cols) R) H ∧ va_D (fun q => E.2.2.1 ≤ q) (xw E ad (tray, trayed, fed, place, picked, pcnt, column) O (code, splace) T ((some (ad 1)), size, at_, means, meant, starts, lens, cnt, cols) R))) (ctX (fun v H => ∃ w2 : Wd, ∃ j2 : Nat, ∃ me2 : Nat → Int32, ∃ st2 : Nat → Int32, ∃ le2 : Nat → Int32, v = none ∧ va_P E.1 ct_cl (xw E ad (tray, trayed, fed, place, picked, pcnt, column) O (code, splace) T ((some (ad 1)), size, j2, me2, meant + w2.1.length, st2, le2, cnt + 1, cols) R) H ∧ nameAt t at_ acc = .inr (w2, j2) ∧ pWs me2 st2 le2 (acc ++ [w2]) ∧ (meant + w2.1.length ≤ j2 ∧ j2 < size)) (fun x H => ∃ pl : Nat, ∃ P2 : XP, x = ad 20 ∧ va_P E.1 ct_cl (xw E ad (tray, trayed, fed, place, picked, pcnt, column) O (20, (nI pl)) T (P2.1, P2.2.1, P2.2.2.1, P2.2.2.2.1, P2.2.2.2.2.1, P2.2.2.2.2.2.1, P2.2.2.2.2.2.2.1, P2.2.2.2.2.2.2.2.1, P2.2.2.2.2.2.2.2.2) R) H ∧ nameAt t at_ acc = .inl pl) (va_A (xw E ad (tray, trayed, fed, place, picked, pcnt, column) O (code, splace) T ((some (ad 1)), size, at_, means, meant, starts, lens, cnt, cols) R) sz)) 0 0 (va_A (xw E ad (tray, trayed, fed, place, picked, pcnt, column) O (code, splace) T ((some (ad 1)), size, at_, means, meant, starts, lens, cnt, cols) R) sz) := by
  refine ct_startX (by decide) (Nat.le_of_ble_eq_true rfl) ?_
  intro p e s m below meth c ls B hno hsz hH hl
  obtain ⟨hP, hD⟩ := hH
  obtain ⟨A, hAe, h, hA, hAn⟩ := ct_enter B.2.2.2.2.2.2.2.2 hsz hP hD
  rw [hAe]
  refine ct_gen h (fun H locs h => ?_)
  have hx := B.1
  have hb := B.2.1
  have hl : lv_has ls 7 [(0, .ref (ad 3)), (1, .int (nI 1)), (2, .int (nI at_))] := hl
  have htb := txR_lt htx
  have htl := htx.1
  refine lv_aload_n hx hb dX2_cell_0 rfl (lv_at hl 0 rfl) ?_
  refine ct_get (v := .ref (ad 8)) B h.1 kX2 3 rfl 9 (Nat.le_of_ble_eq_true rfl) q224 rfl dX2_cell_1 ?_
  refine lv_aload_n hx hb dX2_cell_4 rfl (lv_at hl 0 rfl) ?_
  refine ct_get (v := .int (nI cnt)) B h.1 kX2 3 rfl 11 (Nat.le_of_ble_eq_true rfl) q226 rfl dX2_cell_5 ?_
  refine lv_aload_n hx hb dX2_cell_8 rfl (lv_at hl 0 rfl) ?_
  refine ct_get (v := .int (nI meant)) B h.1 kX2 3 rfl 8 (Nat.le_of_ble_eq_true rfl) q223 rfl dX2_cell_9 ?_
  refine ct_iast (ws' := xw E ad (tray, trayed, fed, place, picked, pcnt, column) O (code, splace) T ((some (ad 1)), size, at_, means, meant, (upd starts cnt (nI meant)), lens, cnt, cols) R) B h 8 rfl hc8 (by omega) rfl dX2_cell_12 (fun H locs h => ?_)
  refine ct_joinH (σ := Wd × Nat × (Nat → Int32) × Nat) (P := fun (w_, j, me, qb) H locs ls => lv_has ls 7 [(0, .ref (ad 3)), (1, .int (nI 1)), (2, .int (nI at_)), (3, .int (nI qb))] ∧ Hs E A s.heap (xw E ad (tray, trayed, fed, place, picked, pcnt, column) O (code, splace) T ((some (ad 1)), size, j, me, meant + w_.1.length, (upd starts cnt (nI meant)), lens, cnt, cols) R) H locs ∧ (wordAt t at_ = .inr (w_, j)) ∧ (∀ k, k < meant → me k = means k) ∧ (∀ k, k < w_.1.length → me (meant + k) = nI (w_.1.getD k 0)) ∧ (∀ x ∈ w_.1, 32 ≤ x ∧ x ≤ 126) ∧ (meant + w_.1.length ≤ j ∧ j ≤ size) ∧ ((qb = 1 ∧ w_.2 = true) ∨ (qb = 0 ∧ w_.2 = false))) (g := fun (w_, j, me, qb) ls => F0 m 82 ls []) (c1 := 0) (s1 := 0) (fun x9 H locs ls hI => ?_) (fun hJ_1 => ?_)
  · obtain ⟨w_, j, me, qb⟩ := x9
    obtain ⟨hl, h, hwd, hme, hmw, hwr, hj, hqb⟩ := hI
    refine W.eq (g2 := F0 m 82 ls []) rfl ?_
    refine lv_aload_n hx hb dX2_cell_82 rfl (lv_at hl 0 rfl) ?_
    refine ct_get (v := .int (nI (meant + w_.1.length))) B h.1 kX2 3 rfl 8 (Nat.le_of_ble_eq_true rfl) q223 rfl dX2_cell_83 ?_
    refine lv_aload_n hx hb dX2_cell_86 rfl (lv_at hl 0 rfl) ?_
    refine ct_get (v := .ref (ad 8)) B h.1 kX2 3 rfl 9 (Nat.le_of_ble_eq_true rfl) q224 rfl dX2_cell_87 ?_
    refine lv_aload_n hx hb dX2_cell_90 rfl (lv_at hl 0 rfl) ?_
    refine ct_get (v := .int (nI cnt)) B h.1 kX2 3 rfl 11 (Nat.le_of_ble_eq_true rfl) q226 rfl dX2_cell_91 ?_
    refine ct_iald (f := (upd starts cnt (nI meant))) B h.1 8 rfl (by omega) (by omega) dX2_cell_94 ?_
    refine W.eq (g2 := F0 m 95 ls [.int (nI meant), .int (nI (meant + w_.1.length))]) (by rw [upd_s]) ?_
    refine n_isub hx hb (by omega) dX2_cell_95 ?_
    refine W.eq (g2 := F0 m 96 ls [.int (nI w_.1.length)]) (by rw [Nat.add_sub_cancel_left]) ?_
    refine lv_istore (lv' := [(4, .int (nI w_.1.length)), (0, .ref (ad 3)), (1, .int (nI 1)), (2, .int (nI at_)), (3, .int (nI qb))]) hx hb dX2_cell_96 hl (by decide) rfl (fun ls hl => ?_)
    refine lv_aload_n hx hb dX2_cell_98 rfl (lv_at hl 1 rfl) ?_
    refine ct_callR (ct_runV (As := []) (rest := []) B (met_X2_lookT l E ad tray trayed fed place picked pcnt column O (code, splace) T size j me (meant + w_.1.length) (upd starts cnt (nI meant)) lens cnt cols R t H.size htx hsz_ (by omega)) (lw_V q353 q355 qs6 q50 q356) (n := 0) ⟨by decide, by decide, by decide +kernel⟩ rfl ⟨rfl, rfl, (Nat.le_of_ble_eq_true rfl), (Nat.le_of_ble_eq_true rfl), (Nat.le_of_ble_eq_true rfl), (Nat.le_of_ble_eq_true rfl)⟩ h.2.2 hA (ct_recv B h.1 kX2 3 rfl) h.1 hl.1 (Nat.le_of_ble_eq_true rfl) dX2_cell_99) (fun v hv => ?_)
    subst hv
    refine W.eq (g2 := F0 m 102 ls [.int (lkI t j)]) rfl ?_
    refine lv_bipush (v := nI 44) hx hb dX2_cell_102 (by decide) ?_
    refine k_icmp_eq (tgt := 116) hx hb dX2_cell_104 (by decide) htb (by decide) (fun c44e => ?_) (fun c44e => ?_)
    · have hend : endsAt t j := ⟨c44e.1, Or.inl c44e.2⟩
      refine lv_iconst (v := nI 1) hx hb dX2_cell_116 (by decide) ?_
      refine lv_goto (tgt := 121) hx hb dX2_cell_117 (by decide) ?_
      refine lv_istore (lv' := [(5, .int (nI 1)), (4, .int (nI w_.1.length)), (0, .ref (ad 3)), (1, .int (nI 1)), (2, .int (nI at_)), (3, .int (nI qb))]) hx hb dX2_cell_121 hl (by decide) rfl (fun ls hl => ?_)
      refine lv_iload hx hb dX2_cell_123 (lv_at hl 0 rfl) ?_
      refine n_if_ne (tgt := 137) hx hb dX2_cell_125 (by decide) (by omega) (fun c_2 => ?_) (fun c_2 => absurd c_2 (by omega))
      refine lv_iload hx hb dX2_cell_137 (lv_at hl 1 rfl) ?_
      refine lv_iload_n hx hb dX2_cell_139 rfl (lv_at hl 3 rfl) ?_
      refine n_if_eq (tgt := 148) hx hb dX2_cell_140 (by decide) (by omega) (fun c_3 => absurd c_3 (by omega)) (fun c_3 => ?_)
      refine lv_bipush (v := nI 20) hx hb dX2_cell_143 (by decide) ?_
      refine lv_goto (tgt := 150) hx hb dX2_cell_145 (by decide) ?_
      refine n_icmp_gt (tgt := 162) hx hb dX2_cell_150 (by decide) (by omega) (by omega) (fun c_4 => ?_) (fun c_4 => ?_)
      · refine lv_aload_n hx hb dX2_cell_162 rfl (lv_at hl 2 rfl) ?_
        refine lv_iload_n hx hb dX2_cell_163 rfl (lv_at hl 4 rfl) ?_
        refine ct_callQ (ct_runV (As := [.int (nI at_)]) (rest := []) B (met_X2_wrong l E ad (tray, trayed, fed, place, picked, pcnt, column) O code splace T ((some (ad 1)), size, j, me, meant + w_.1.length, (upd starts cnt (nI meant)), lens, cnt, cols) R (nI at_) H.size) (lw_V q341 q343 qs4 q50 q344) (n := 1) ⟨by decide, by decide, by decide +kernel⟩ rfl ⟨rfl, rfl, (Nat.le_of_ble_eq_true rfl), (Nat.le_of_ble_eq_true rfl), (Nat.le_of_ble_eq_true rfl), (Nat.le_of_ble_eq_true rfl)⟩ h.2.2 hA (ct_recv B h.1 kX2 3 rfl) ⟨h.1, (ct_D0 h hA)⟩ hl.1 (Nat.le_of_ble_eq_true rfl) dX2_cell_164) h.2.2 (ct_sub h hAn) (ct_sub h hAn) (fun v H locs hv hz hk hS => ?_)
        obtain ⟨rfl, hP1⟩ := hv
        have h : Hs E A s.heap (xw E ad (tray, trayed, fed, place, picked, pcnt, column) O (20, (nI at_)) T ((some (ad 1)), size, j, me, meant + w_.1.length, (upd starts cnt (nI meant)), lens, cnt, cols) R) H locs := ct_again h hP1 rfl hS
        clear hP1 hS hz hk
        refine W.eq (g2 := F0 m 167 ls [.ref (ad 20)]) rfl ?_
        exact ct_athrow B hno h.2.2 ⟨at_, ((some (ad 1)), size, j, me, meant + w_.1.length, (upd starts cnt (nI meant)), lens, cnt, cols), rfl, h.1, by rw [nameAt_i hwd, if_neg (fun q9 => q9 hend), if_pos (by omega)]⟩ dX2_cell_167
      · refine lv_iload_n hx hb dX2_cell_153 rfl (lv_at hl 3 rfl) ?_
        refine n_if_eq (tgt := 168) hx hb dX2_cell_154 (by decide) (by omega) (fun c_5 => absurd c_5 (by omega)) (fun c_5 => ?_)
        refine lv_iload hx hb dX2_cell_157 (lv_at hl 1 rfl) ?_
        refine n_if_ne (tgt := 168) hx hb dX2_cell_159 (by decide) (by omega) (fun c_6 => ?_) (fun c_6 => ?_)
        · refine lv_aload_n hx hb dX2_cell_168 rfl (lv_at hl 2 rfl) ?_
          refine ct_get (v := .ref (ad 9)) B h.1 kX2 3 rfl 10 (Nat.le_of_ble_eq_true rfl) q225 rfl dX2_cell_169 ?_
          refine lv_aload_n hx hb dX2_cell_172 rfl (lv_at hl 2 rfl) ?_
          refine ct_get (v := .int (nI cnt)) B h.1 kX2 3 rfl 11 (Nat.le_of_ble_eq_true rfl) q226 rfl dX2_cell_173 ?_
          refine lv_iload hx hb dX2_cell_176 (lv_at hl 1 rfl) ?_
          refine n_if_ne (tgt := 189) hx hb dX2_cell_178 (by decide) (by omega) (fun cn0 => ?_) (fun cn0 => ?_)
          · refine lv_iload_n hx hb dX2_cell_189 rfl (lv_at hl 5 rfl) ?_
            refine n_if_eq (tgt := 201) hx hb dX2_cell_190 (by decide) (by omega) (fun cq1 => ?_) (fun cq1 => ?_)
            · have hq2 : w_.2 = false := by rcases hqb with ⟨q9, _⟩ | ⟨_, q9⟩; omega; exact q9
              refine lv_iload hx hb dX2_cell_201 (lv_at hl 1 rfl) ?_
              refine W.eq (g2 := F0 m 203 ls [.int (encL w_), .int (nI cnt), .ref (ad 9)]) (by rw [enc_u (by omega) hq2] <;> rfl) ?_
              refine lv_i2b (v := (encL w_)) hx hb dX2_cell_203 (enc_i8 (by omega)) ?_
              refine ct_bast (ws' := xw E ad (tray, trayed, fed, place, picked, pcnt, column) O (code, splace) T ((some (ad 1)), size, j, me, meant + w_.1.length, (upd starts cnt (nI meant)), (upd lens cnt (encL w_)), cnt, cols) R) B h 9 rfl hc8 (by omega) (congrArg (fun z9 => (xw E ad (tray, trayed, fed, place, picked, pcnt, column) O (code, splace) T ((some (ad 1)), size, j, me, meant + w_.1.length, (upd starts cnt (nI meant)), z9, cnt, cols) R : va_W)) ((by rw [enc_b (by omega)] : upd lens cnt (vp_nar .byte (encL w_)) = upd lens cnt (encL w_)))) dX2_cell_204 (fun H locs h => ?_)
              have hpw2 : pWs me (upd starts cnt (nI meant)) (upd lens cnt (encL w_)) (acc ++ [w_]) := pWs_snoc hpw (fun j hj => hme j (by omega)) (fun k hk => ⟨upd_n (by omega), upd_n (by omega)⟩) (by rw [← hcn, ← hmt]; exact pAt_of upd_s upd_s hmw hwr (by omega) (by omega))
              refine lv_iconst (v := nI 0) hx hb dX2_cell_205 (by decide) ?_
              refine lv_istore (lv' := [(6, .int (nI 0)), (5, .int (nI 1)), (4, .int (nI w_.1.length)), (0, .ref (ad 3)), (1, .int (nI 1)), (2, .int (nI at_)), (3, .int (nI qb))]) hx hb dX2_cell_206 hl (by decide) rfl (fun ls hl => ?_)
              refine ct_loop (σ := Nat) (fun k ls => lv_has ls 7 [(6, .int (nI k)), (5, .int (nI 1)), (4, .int (nI w_.1.length)), (0, .ref (ad 3)), (1, .int (nI 1)), (2, .int (nI at_)), (3, .int (nI qb))] ∧ (k ≤ cnt) ∧ (∀ j, j < k → (acc.getD j ([], false)).1 ≠ w_.1)) (fun k => cnt - k) (g := fun k ls => F0 m 208 ls []) (x0 := 0) (ls0 := ls) ?_ ⟨lv_sub hl [0, 1, 2, 3, 4, 5, 6] rfl, Nat.zero_le _, fun j hj => absurd hj (Nat.not_lt_zero j)⟩
              clear hl
              intro k ls hI ih_7
              obtain ⟨hl, hk, hno1⟩ := hI
              refine W.eq (g2 := F0 m 208 ls []) rfl ?_
              refine lv_iload hx hb dX2_cell_208 (lv_at hl 0 rfl) ?_
              refine lv_aload_n hx hb dX2_cell_210 rfl (lv_at hl 3 rfl) ?_
              refine ct_get (v := .int (nI cnt)) B h.1 kX2 3 rfl 11 (Nat.le_of_ble_eq_true rfl) q226 rfl dX2_cell_211 ?_
              refine n_icmp_ge (tgt := 246) hx hb dX2_cell_214 (by decide) (by omega) (by omega) (fun c_8 => ?_) (fun c_8 => ?_)
              · have hno2 : ∀ j, j < cnt → (acc.getD j ([], false)).1 ≠ w_.1 := fun j hj => hno1 j (by omega)
                refine lv_aload_n hx hb dX2_cell_246 rfl (lv_at hl 3 rfl) ?_
                refine lv_dup hx hb dX2_cell_247 rfl ?_
                refine ct_get (v := .int (nI cnt)) B h.1 kX2 3 rfl 11 (Nat.le_of_ble_eq_true rfl) q226 rfl dX2_cell_248 ?_
                refine lv_iconst (v := nI 1) hx hb dX2_cell_251 (by decide) ?_
                refine n_iadd hx hb dX2_cell_252 ?_
                refine ct_put (ws' := xw E ad (tray, trayed, fed, place, picked, pcnt, column) O (code, splace) T ((some (ad 1)), size, j, me, meant + w_.1.length, (upd starts cnt (nI meant)), (upd lens cnt (encL w_)), cnt + 1, cols) R) B h kX2 3 rfl 11 (Nat.le_of_ble_eq_true rfl) q226 rfl rfl rfl (Nat.le_of_ble_eq_true rfl) rfl dX2_cell_253 (fun H locs h => ?_)
                exact ct_toX (ct_vret B h.2.2 ⟨w_, j, me, (upd starts cnt (nI meant)), (upd lens cnt (encL w_)), rfl, h.1, by rw [nameAt_i hwd, if_neg (fun q9 => q9 hend), if_neg (fun q9 => by rcases q9 with z9 | z9 | z9; omega; omega; exact noSame hcn hno2 z9)], hpw2, by have := hend.1; omega⟩ dX2_cell_256)
              · refine lv_iload_n hx hb dX2_cell_217 rfl (lv_at hl 4 rfl) ?_
                refine n_if_eq (tgt := 246) hx hb dX2_cell_218 (by decide) (by omega) (fun c_9 => absurd c_9 (by omega)) (fun c_9 => ?_)
                refine lv_aload_n hx hb dX2_cell_221 rfl (lv_at hl 3 rfl) ?_
                refine lv_iload hx hb dX2_cell_222 (lv_at hl 0 rfl) ?_
                refine lv_aload_n hx hb dX2_cell_224 rfl (lv_at hl 3 rfl) ?_
                refine ct_get (v := .int (nI cnt)) B h.1 kX2 3 rfl 11 (Nat.le_of_ble_eq_true rfl) q226 rfl dX2_cell_225 ?_
                refine ct_callR (ct_runV (As := [.int (nI k), .int (nI cnt)]) (rest := []) B (met_X2_isSame l E ad (tray, trayed, fed, place, picked, pcnt, column) O (code, splace) T (some (ad 1)) size j me (meant + w_.1.length) (upd starts cnt (nI meant)) (upd lens cnt (encL w_)) cnt cols R k cnt (tot (acc.take k)) meant (acc.getD k ([], false)) w_ H.size (by omega) (by omega) (pWs_l hpw2 (by omega)) (pWs_r hpw2 hcn hmt)) (lw_V q365 q367 qs9 q50 q368) (n := 2) ⟨by decide, by decide, by decide +kernel⟩ rfl ⟨rfl, rfl, (Nat.le_of_ble_eq_true rfl), (Nat.le_of_ble_eq_true rfl), (Nat.le_of_ble_eq_true rfl), (Nat.le_of_ble_eq_true rfl)⟩ h.2.2 hA (ct_recv B h.1 kX2 3 rfl) h.1 hl.1 (Nat.le_of_ble_eq_true rfl) dX2_cell_228) (fun v hv => ?_)
                subst hv
                refine W.eq (g2 := F0 m 231 ls [.int (if (acc.getD k ([], false)).1 = w_.1 then 1 else 0)]) rfl ?_
                refine b_if_eq (tgt := 240) hx hb dX2_cell_231 (by decide) (fun csame => ?_) (fun csame => ?_)
                · refine n_iinc (n := 1) (lv' := [(6, .int (nI (k + 1))), (5, .int (nI 1)), (4, .int (nI w_.1.length)), (0, .ref (ad 3)), (1, .int (nI 1)), (2, .int (nI at_)), (3, .int (nI qb))]) hx hb dX2_cell_240 hl (k := 0) rfl rfl (by decide) (by decide) rfl (fun ls hl => ?_)
                  refine lv_goto (tgt := 208) hx hb dX2_cell_243 (by decide) ?_
                  exact ih_7 (k + 1) ls (by omega) ⟨lv_sub hl [0, 1, 2, 3, 4, 5, 6] rfl, by omega, fun j hj => by rcases Nat.lt_succ_iff_lt_or_eq.mp hj with q9 | q9; exact hno1 j q9; rw [q9]; exact csame⟩
                · refine lv_aload_n hx hb dX2_cell_234 rfl (lv_at hl 3 rfl) ?_
                  refine lv_iload_n hx hb dX2_cell_235 rfl (lv_at hl 5 rfl) ?_
                  refine ct_callQ (ct_runV (As := [.int (nI at_)]) (rest := []) B (met_X2_wrong l E ad (tray, trayed, fed, place, picked, pcnt, column) O code splace T ((some (ad 1)), size, j, me, meant + w_.1.length, (upd starts cnt (nI meant)), (upd lens cnt (encL w_)), cnt, cols) R (nI at_) H.size) (lw_V q341 q343 qs4 q50 q344) (n := 1) ⟨by decide, by decide, by decide +kernel⟩ rfl ⟨rfl, rfl, (Nat.le_of_ble_eq_true rfl), (Nat.le_of_ble_eq_true rfl), (Nat.le_of_ble_eq_true rfl), (Nat.le_of_ble_eq_true rfl)⟩ h.2.2 hA (ct_recv B h.1 kX2 3 rfl) ⟨h.1, (ct_D0 h hA)⟩ hl.1 (Nat.le_of_ble_eq_true rfl) dX2_cell_236) h.2.2 (ct_sub h hAn) (ct_sub h hAn) (fun v H locs hv hz hk hS => ?_)
                  obtain ⟨rfl, hP1⟩ := hv
                  have h : Hs E A s.heap (xw E ad (tray, trayed, fed, place, picked, pcnt, column) O (20, (nI at_)) T ((some (ad 1)), size, j, me, meant + w_.1.length, (upd starts cnt (nI meant)), (upd lens cnt (encL w_)), cnt, cols) R) H locs := ct_again h hP1 rfl hS
                  clear hP1 hS hz hk
                  refine W.eq (g2 := F0 m 239 ls [.ref (ad 20)]) rfl ?_
                  exact ct_athrow B hno h.2.2 ⟨at_, ((some (ad 1)), size, j, me, meant + w_.1.length, (upd starts cnt (nI meant)), (upd lens cnt (encL w_)), cnt, cols), rfl, h.1, by rw [nameAt_i hwd, if_neg (fun q9 => q9 hend), if_pos (Or.inr (Or.inr (someSame (by omega) csame)))]⟩ dX2_cell_239
            · have hq2 : w_.2 = true := by rcases hqb with ⟨_, q9⟩ | ⟨q9, _⟩; exact q9; omega
              refine lv_iload hx hb dX2_cell_193 (lv_at hl 1 rfl) ?_
              refine lv_bipush (v := nI 64) hx hb dX2_cell_195 (by decide) ?_
              refine n_iadd hx hb dX2_cell_197 ?_
              refine lv_goto (tgt := 203) hx hb dX2_cell_198 (by decide) ?_
              refine W.eq (g2 := F0 m 203 ls [.int (encL w_), .int (nI cnt), .ref (ad 9)]) (by rw [enc_q hq2] <;> rfl) ?_
              refine lv_i2b (v := (encL w_)) hx hb dX2_cell_203 (enc_i8 (by omega)) ?_
              refine ct_bast (ws' := xw E ad (tray, trayed, fed, place, picked, pcnt, column) O (code, splace) T ((some (ad 1)), size, j, me, meant + w_.1.length, (upd starts cnt (nI meant)), (upd lens cnt (encL w_)), cnt, cols) R) B h 9 rfl hc8 (by omega) (congrArg (fun z9 => (xw E ad (tray, trayed, fed, place, picked, pcnt, column) O (code, splace) T ((some (ad 1)), size, j, me, meant + w_.1.length, (upd starts cnt (nI meant)), z9, cnt, cols) R : va_W)) ((by rw [enc_b (by omega)] : upd lens cnt (vp_nar .byte (encL w_)) = upd lens cnt (encL w_)))) dX2_cell_204 (fun H locs h => ?_)
              have hpw2 : pWs me (upd starts cnt (nI meant)) (upd lens cnt (encL w_)) (acc ++ [w_]) := pWs_snoc hpw (fun j hj => hme j (by omega)) (fun k hk => ⟨upd_n (by omega), upd_n (by omega)⟩) (by rw [← hcn, ← hmt]; exact pAt_of upd_s upd_s hmw hwr (by omega) (by omega))
              refine lv_iconst (v := nI 0) hx hb dX2_cell_205 (by decide) ?_
              refine lv_istore (lv' := [(6, .int (nI 0)), (5, .int (nI 1)), (4, .int (nI w_.1.length)), (0, .ref (ad 3)), (1, .int (nI 1)), (2, .int (nI at_)), (3, .int (nI qb))]) hx hb dX2_cell_206 hl (by decide) rfl (fun ls hl => ?_)
              refine ct_loop (σ := Nat) (fun k ls => lv_has ls 7 [(6, .int (nI k)), (5, .int (nI 1)), (4, .int (nI w_.1.length)), (0, .ref (ad 3)), (1, .int (nI 1)), (2, .int (nI at_)), (3, .int (nI qb))] ∧ (k ≤ cnt) ∧ (∀ j, j < k → (acc.getD j ([], false)).1 ≠ w_.1)) (fun k => cnt - k) (g := fun k ls => F0 m 208 ls []) (x0 := 0) (ls0 := ls) ?_ ⟨lv_sub hl [0, 1, 2, 3, 4, 5, 6] rfl, Nat.zero_le _, fun j hj => absurd hj (Nat.not_lt_zero j)⟩
              clear hl
              intro k ls hI ih_10
              obtain ⟨hl, hk, hno1⟩ := hI
              refine W.eq (g2 := F0 m 208 ls []) rfl ?_
              refine lv_iload hx hb dX2_cell_208 (lv_at hl 0 rfl) ?_
              refine lv_aload_n hx hb dX2_cell_210 rfl (lv_at hl 3 rfl) ?_
              refine ct_get (v := .int (nI cnt)) B h.1 kX2 3 rfl 11 (Nat.le_of_ble_eq_true rfl) q226 rfl dX2_cell_211 ?_
              refine n_icmp_ge (tgt := 246) hx hb dX2_cell_214 (by decide) (by omega) (by omega) (fun c_11 => ?_) (fun c_11 => ?_)
              · have hno2 : ∀ j, j < cnt → (acc.getD j ([], false)).1 ≠ w_.1 := fun j hj => hno1 j (by omega)
                refine lv_aload_n hx hb dX2_cell_246 rfl (lv_at hl 3 rfl) ?_
                refine lv_dup hx hb dX2_cell_247 rfl ?_
                refine ct_get (v := .int (nI cnt)) B h.1 kX2 3 rfl 11 (Nat.le_of_ble_eq_true rfl) q226 rfl dX2_cell_248 ?_
                refine lv_iconst (v := nI 1) hx hb dX2_cell_251 (by decide) ?_
                refine n_iadd hx hb dX2_cell_252 ?_
                refine ct_put (ws' := xw E ad (tray, trayed, fed, place, picked, pcnt, column) O (code, splace) T ((some (ad 1)), size, j, me, meant + w_.1.length, (upd starts cnt (nI meant)), (upd lens cnt (encL w_)), cnt + 1, cols) R) B h kX2 3 rfl 11 (Nat.le_of_ble_eq_true rfl) q226 rfl rfl rfl (Nat.le_of_ble_eq_true rfl) rfl dX2_cell_253 (fun H locs h => ?_)
                exact ct_toX (ct_vret B h.2.2 ⟨w_, j, me, (upd starts cnt (nI meant)), (upd lens cnt (encL w_)), rfl, h.1, by rw [nameAt_i hwd, if_neg (fun q9 => q9 hend), if_neg (fun q9 => by rcases q9 with z9 | z9 | z9; omega; omega; exact noSame hcn hno2 z9)], hpw2, by have := hend.1; omega⟩ dX2_cell_256)
              · refine lv_iload_n hx hb dX2_cell_217 rfl (lv_at hl 4 rfl) ?_
                refine n_if_eq (tgt := 246) hx hb dX2_cell_218 (by decide) (by omega) (fun c_12 => absurd c_12 (by omega)) (fun c_12 => ?_)
                refine lv_aload_n hx hb dX2_cell_221 rfl (lv_at hl 3 rfl) ?_
                refine lv_iload hx hb dX2_cell_222 (lv_at hl 0 rfl) ?_
                refine lv_aload_n hx hb dX2_cell_224 rfl (lv_at hl 3 rfl) ?_
                refine ct_get (v := .int (nI cnt)) B h.1 kX2 3 rfl 11 (Nat.le_of_ble_eq_true rfl) q226 rfl dX2_cell_225 ?_
                refine ct_callR (ct_runV (As := [.int (nI k), .int (nI cnt)]) (rest := []) B (met_X2_isSame l E ad (tray, trayed, fed, place, picked, pcnt, column) O (code, splace) T (some (ad 1)) size j me (meant + w_.1.length) (upd starts cnt (nI meant)) (upd lens cnt (encL w_)) cnt cols R k cnt (tot (acc.take k)) meant (acc.getD k ([], false)) w_ H.size (by omega) (by omega) (pWs_l hpw2 (by omega)) (pWs_r hpw2 hcn hmt)) (lw_V q365 q367 qs9 q50 q368) (n := 2) ⟨by decide, by decide, by decide +kernel⟩ rfl ⟨rfl, rfl, (Nat.le_of_ble_eq_true rfl), (Nat.le_of_ble_eq_true rfl), (Nat.le_of_ble_eq_true rfl), (Nat.le_of_ble_eq_true rfl)⟩ h.2.2 hA (ct_recv B h.1 kX2 3 rfl) h.1 hl.1 (Nat.le_of_ble_eq_true rfl) dX2_cell_228) (fun v hv => ?_)
                subst hv
                refine W.eq (g2 := F0 m 231 ls [.int (if (acc.getD k ([], false)).1 = w_.1 then 1 else 0)]) rfl ?_
                refine b_if_eq (tgt := 240) hx hb dX2_cell_231 (by decide) (fun csame => ?_) (fun csame => ?_)
                · refine n_iinc (n := 1) (lv' := [(6, .int (nI (k + 1))), (5, .int (nI 1)), (4, .int (nI w_.1.length)), (0, .ref (ad 3)), (1, .int (nI 1)), (2, .int (nI at_)), (3, .int (nI qb))]) hx hb dX2_cell_240 hl (k := 0) rfl rfl (by decide) (by decide) rfl (fun ls hl => ?_)
                  refine lv_goto (tgt := 208) hx hb dX2_cell_243 (by decide) ?_
                  exact ih_10 (k + 1) ls (by omega) ⟨lv_sub hl [0, 1, 2, 3, 4, 5, 6] rfl, by omega, fun j hj => by rcases Nat.lt_succ_iff_lt_or_eq.mp hj with q9 | q9; exact hno1 j q9; rw [q9]; exact csame⟩
                · refine lv_aload_n hx hb dX2_cell_234 rfl (lv_at hl 3 rfl) ?_
                  refine lv_iload_n hx hb dX2_cell_235 rfl (lv_at hl 5 rfl) ?_
                  refine ct_callQ (ct_runV (As := [.int (nI at_)]) (rest := []) B (met_X2_wrong l E ad (tray, trayed, fed, place, picked, pcnt, column) O code splace T ((some (ad 1)), size, j, me, meant + w_.1.length, (upd starts cnt (nI meant)), (upd lens cnt (encL w_)), cnt, cols) R (nI at_) H.size) (lw_V q341 q343 qs4 q50 q344) (n := 1) ⟨by decide, by decide, by decide +kernel⟩ rfl ⟨rfl, rfl, (Nat.le_of_ble_eq_true rfl), (Nat.le_of_ble_eq_true rfl), (Nat.le_of_ble_eq_true rfl), (Nat.le_of_ble_eq_true rfl)⟩ h.2.2 hA (ct_recv B h.1 kX2 3 rfl) ⟨h.1, (ct_D0 h hA)⟩ hl.1 (Nat.le_of_ble_eq_true rfl) dX2_cell_236) h.2.2 (ct_sub h hAn) (ct_sub h hAn) (fun v H locs hv hz hk hS => ?_)
                  obtain ⟨rfl, hP1⟩ := hv
                  have h : Hs E A s.heap (xw E ad (tray, trayed, fed, place, picked, pcnt, column) O (20, (nI at_)) T ((some (ad 1)), size, j, me, meant + w_.1.length, (upd starts cnt (nI meant)), (upd lens cnt (encL w_)), cnt, cols) R) H locs := ct_again h hP1 rfl hS
                  clear hP1 hS hz hk
                  refine W.eq (g2 := F0 m 239 ls [.ref (ad 20)]) rfl ?_
                  exact ct_athrow B hno h.2.2 ⟨at_, ((some (ad 1)), size, j, me, meant + w_.1.length, (upd starts cnt (nI meant)), (upd lens cnt (encL w_)), cnt, cols), rfl, h.1, by rw [nameAt_i hwd, if_neg (fun q9 => q9 hend), if_pos (Or.inr (Or.inr (someSame (by omega) csame)))]⟩ dX2_cell_239
          · refine lv_iload_n hx hb dX2_cell_181 rfl (lv_at hl 5 rfl) ?_
            refine n_if_ne (tgt := 189) hx hb dX2_cell_182 (by decide) (by omega) (fun cq0 => ?_) (fun cq0 => ?_)
            · refine lv_iload_n hx hb dX2_cell_189 rfl (lv_at hl 5 rfl) ?_
              refine n_if_eq (tgt := 201) hx hb dX2_cell_190 (by decide) (by omega) (fun cq1 => ?_) (fun cq1 => ?_)
              · have hq2 : w_.2 = false := by rcases hqb with ⟨q9, _⟩ | ⟨_, q9⟩; omega; exact q9
                refine lv_iload hx hb dX2_cell_201 (lv_at hl 1 rfl) ?_
                refine W.eq (g2 := F0 m 203 ls [.int (encL w_), .int (nI cnt), .ref (ad 9)]) (by rw [enc_u (by omega) hq2] <;> rfl) ?_
                refine lv_i2b (v := (encL w_)) hx hb dX2_cell_203 (enc_i8 (by omega)) ?_
                refine ct_bast (ws' := xw E ad (tray, trayed, fed, place, picked, pcnt, column) O (code, splace) T ((some (ad 1)), size, j, me, meant + w_.1.length, (upd starts cnt (nI meant)), (upd lens cnt (encL w_)), cnt, cols) R) B h 9 rfl hc8 (by omega) (congrArg (fun z9 => (xw E ad (tray, trayed, fed, place, picked, pcnt, column) O (code, splace) T ((some (ad 1)), size, j, me, meant + w_.1.length, (upd starts cnt (nI meant)), z9, cnt, cols) R : va_W)) ((by rw [enc_b (by omega)] : upd lens cnt (vp_nar .byte (encL w_)) = upd lens cnt (encL w_)))) dX2_cell_204 (fun H locs h => ?_)
                have hpw2 : pWs me (upd starts cnt (nI meant)) (upd lens cnt (encL w_)) (acc ++ [w_]) := pWs_snoc hpw (fun j hj => hme j (by omega)) (fun k hk => ⟨upd_n (by omega), upd_n (by omega)⟩) (by rw [← hcn, ← hmt]; exact pAt_of upd_s upd_s hmw hwr (by omega) (by omega))
                refine lv_iconst (v := nI 0) hx hb dX2_cell_205 (by decide) ?_
                refine lv_istore (lv' := [(6, .int (nI 0)), (5, .int (nI 1)), (4, .int (nI w_.1.length)), (0, .ref (ad 3)), (1, .int (nI 1)), (2, .int (nI at_)), (3, .int (nI qb))]) hx hb dX2_cell_206 hl (by decide) rfl (fun ls hl => ?_)
                refine ct_loop (σ := Nat) (fun k ls => lv_has ls 7 [(6, .int (nI k)), (5, .int (nI 1)), (4, .int (nI w_.1.length)), (0, .ref (ad 3)), (1, .int (nI 1)), (2, .int (nI at_)), (3, .int (nI qb))] ∧ (k ≤ cnt) ∧ (∀ j, j < k → (acc.getD j ([], false)).1 ≠ w_.1)) (fun k => cnt - k) (g := fun k ls => F0 m 208 ls []) (x0 := 0) (ls0 := ls) ?_ ⟨lv_sub hl [0, 1, 2, 3, 4, 5, 6] rfl, Nat.zero_le _, fun j hj => absurd hj (Nat.not_lt_zero j)⟩
                clear hl
                intro k ls hI ih_13
                obtain ⟨hl, hk, hno1⟩ := hI
                refine W.eq (g2 := F0 m 208 ls []) rfl ?_
                refine lv_iload hx hb dX2_cell_208 (lv_at hl 0 rfl) ?_
                refine lv_aload_n hx hb dX2_cell_210 rfl (lv_at hl 3 rfl) ?_
                refine ct_get (v := .int (nI cnt)) B h.1 kX2 3 rfl 11 (Nat.le_of_ble_eq_true rfl) q226 rfl dX2_cell_211 ?_
                refine n_icmp_ge (tgt := 246) hx hb dX2_cell_214 (by decide) (by omega) (by omega) (fun c_14 => ?_) (fun c_14 => ?_)
                · have hno2 : ∀ j, j < cnt → (acc.getD j ([], false)).1 ≠ w_.1 := fun j hj => hno1 j (by omega)
                  refine lv_aload_n hx hb dX2_cell_246 rfl (lv_at hl 3 rfl) ?_
                  refine lv_dup hx hb dX2_cell_247 rfl ?_
                  refine ct_get (v := .int (nI cnt)) B h.1 kX2 3 rfl 11 (Nat.le_of_ble_eq_true rfl) q226 rfl dX2_cell_248 ?_
                  refine lv_iconst (v := nI 1) hx hb dX2_cell_251 (by decide) ?_
                  refine n_iadd hx hb dX2_cell_252 ?_
                  refine ct_put (ws' := xw E ad (tray, trayed, fed, place, picked, pcnt, column) O (code, splace) T ((some (ad 1)), size, j, me, meant + w_.1.length, (upd starts cnt (nI meant)), (upd lens cnt (encL w_)), cnt + 1, cols) R) B h kX2 3 rfl 11 (Nat.le_of_ble_eq_true rfl) q226 rfl rfl rfl (Nat.le_of_ble_eq_true rfl) rfl dX2_cell_253 (fun H locs h => ?_)
                  exact ct_toX (ct_vret B h.2.2 ⟨w_, j, me, (upd starts cnt (nI meant)), (upd lens cnt (encL w_)), rfl, h.1, by rw [nameAt_i hwd, if_neg (fun q9 => q9 hend), if_neg (fun q9 => by rcases q9 with z9 | z9 | z9; omega; omega; exact noSame hcn hno2 z9)], hpw2, by have := hend.1; omega⟩ dX2_cell_256)
                · refine lv_iload_n hx hb dX2_cell_217 rfl (lv_at hl 4 rfl) ?_
                  refine n_if_eq (tgt := 246) hx hb dX2_cell_218 (by decide) (by omega) (fun c_15 => absurd c_15 (by omega)) (fun c_15 => ?_)
                  refine lv_aload_n hx hb dX2_cell_221 rfl (lv_at hl 3 rfl) ?_
                  refine lv_iload hx hb dX2_cell_222 (lv_at hl 0 rfl) ?_
                  refine lv_aload_n hx hb dX2_cell_224 rfl (lv_at hl 3 rfl) ?_
                  refine ct_get (v := .int (nI cnt)) B h.1 kX2 3 rfl 11 (Nat.le_of_ble_eq_true rfl) q226 rfl dX2_cell_225 ?_
                  refine ct_callR (ct_runV (As := [.int (nI k), .int (nI cnt)]) (rest := []) B (met_X2_isSame l E ad (tray, trayed, fed, place, picked, pcnt, column) O (code, splace) T (some (ad 1)) size j me (meant + w_.1.length) (upd starts cnt (nI meant)) (upd lens cnt (encL w_)) cnt cols R k cnt (tot (acc.take k)) meant (acc.getD k ([], false)) w_ H.size (by omega) (by omega) (pWs_l hpw2 (by omega)) (pWs_r hpw2 hcn hmt)) (lw_V q365 q367 qs9 q50 q368) (n := 2) ⟨by decide, by decide, by decide +kernel⟩ rfl ⟨rfl, rfl, (Nat.le_of_ble_eq_true rfl), (Nat.le_of_ble_eq_true rfl), (Nat.le_of_ble_eq_true rfl), (Nat.le_of_ble_eq_true rfl)⟩ h.2.2 hA (ct_recv B h.1 kX2 3 rfl) h.1 hl.1 (Nat.le_of_ble_eq_true rfl) dX2_cell_228) (fun v hv => ?_)
                  subst hv
                  refine W.eq (g2 := F0 m 231 ls [.int (if (acc.getD k ([], false)).1 = w_.1 then 1 else 0)]) rfl ?_
                  refine b_if_eq (tgt := 240) hx hb dX2_cell_231 (by decide) (fun csame => ?_) (fun csame => ?_)
                  · refine n_iinc (n := 1) (lv' := [(6, .int (nI (k + 1))), (5, .int (nI 1)), (4, .int (nI w_.1.length)), (0, .ref (ad 3)), (1, .int (nI 1)), (2, .int (nI at_)), (3, .int (nI qb))]) hx hb dX2_cell_240 hl (k := 0) rfl rfl (by decide) (by decide) rfl (fun ls hl => ?_)
                    refine lv_goto (tgt := 208) hx hb dX2_cell_243 (by decide) ?_
                    exact ih_13 (k + 1) ls (by omega) ⟨lv_sub hl [0, 1, 2, 3, 4, 5, 6] rfl, by omega, fun j hj => by rcases Nat.lt_succ_iff_lt_or_eq.mp hj with q9 | q9; exact hno1 j q9; rw [q9]; exact csame⟩
                  · refine lv_aload_n hx hb dX2_cell_234 rfl (lv_at hl 3 rfl) ?_
                    refine lv_iload_n hx hb dX2_cell_235 rfl (lv_at hl 5 rfl) ?_
                    refine ct_callQ (ct_runV (As := [.int (nI at_)]) (rest := []) B (met_X2_wrong l E ad (tray, trayed, fed, place, picked, pcnt, column) O code splace T ((some (ad 1)), size, j, me, meant + w_.1.length, (upd starts cnt (nI meant)), (upd lens cnt (encL w_)), cnt, cols) R (nI at_) H.size) (lw_V q341 q343 qs4 q50 q344) (n := 1) ⟨by decide, by decide, by decide +kernel⟩ rfl ⟨rfl, rfl, (Nat.le_of_ble_eq_true rfl), (Nat.le_of_ble_eq_true rfl), (Nat.le_of_ble_eq_true rfl), (Nat.le_of_ble_eq_true rfl)⟩ h.2.2 hA (ct_recv B h.1 kX2 3 rfl) ⟨h.1, (ct_D0 h hA)⟩ hl.1 (Nat.le_of_ble_eq_true rfl) dX2_cell_236) h.2.2 (ct_sub h hAn) (ct_sub h hAn) (fun v H locs hv hz hk hS => ?_)
                    obtain ⟨rfl, hP1⟩ := hv
                    have h : Hs E A s.heap (xw E ad (tray, trayed, fed, place, picked, pcnt, column) O (20, (nI at_)) T ((some (ad 1)), size, j, me, meant + w_.1.length, (upd starts cnt (nI meant)), (upd lens cnt (encL w_)), cnt, cols) R) H locs := ct_again h hP1 rfl hS
                    clear hP1 hS hz hk
                    refine W.eq (g2 := F0 m 239 ls [.ref (ad 20)]) rfl ?_
                    exact ct_athrow B hno h.2.2 ⟨at_, ((some (ad 1)), size, j, me, meant + w_.1.length, (upd starts cnt (nI meant)), (upd lens cnt (encL w_)), cnt, cols), rfl, h.1, by rw [nameAt_i hwd, if_neg (fun q9 => q9 hend), if_pos (Or.inr (Or.inr (someSame (by omega) csame)))]⟩ dX2_cell_239
              · have hq2 : w_.2 = true := by rcases hqb with ⟨_, q9⟩ | ⟨q9, _⟩; exact q9; omega
                refine lv_iload hx hb dX2_cell_193 (lv_at hl 1 rfl) ?_
                refine lv_bipush (v := nI 64) hx hb dX2_cell_195 (by decide) ?_
                refine n_iadd hx hb dX2_cell_197 ?_
                refine lv_goto (tgt := 203) hx hb dX2_cell_198 (by decide) ?_
                refine W.eq (g2 := F0 m 203 ls [.int (encL w_), .int (nI cnt), .ref (ad 9)]) (by rw [enc_q hq2] <;> rfl) ?_
                refine lv_i2b (v := (encL w_)) hx hb dX2_cell_203 (enc_i8 (by omega)) ?_
                refine ct_bast (ws' := xw E ad (tray, trayed, fed, place, picked, pcnt, column) O (code, splace) T ((some (ad 1)), size, j, me, meant + w_.1.length, (upd starts cnt (nI meant)), (upd lens cnt (encL w_)), cnt, cols) R) B h 9 rfl hc8 (by omega) (congrArg (fun z9 => (xw E ad (tray, trayed, fed, place, picked, pcnt, column) O (code, splace) T ((some (ad 1)), size, j, me, meant + w_.1.length, (upd starts cnt (nI meant)), z9, cnt, cols) R : va_W)) ((by rw [enc_b (by omega)] : upd lens cnt (vp_nar .byte (encL w_)) = upd lens cnt (encL w_)))) dX2_cell_204 (fun H locs h => ?_)
                have hpw2 : pWs me (upd starts cnt (nI meant)) (upd lens cnt (encL w_)) (acc ++ [w_]) := pWs_snoc hpw (fun j hj => hme j (by omega)) (fun k hk => ⟨upd_n (by omega), upd_n (by omega)⟩) (by rw [← hcn, ← hmt]; exact pAt_of upd_s upd_s hmw hwr (by omega) (by omega))
                refine lv_iconst (v := nI 0) hx hb dX2_cell_205 (by decide) ?_
                refine lv_istore (lv' := [(6, .int (nI 0)), (5, .int (nI 1)), (4, .int (nI w_.1.length)), (0, .ref (ad 3)), (1, .int (nI 1)), (2, .int (nI at_)), (3, .int (nI qb))]) hx hb dX2_cell_206 hl (by decide) rfl (fun ls hl => ?_)
                refine ct_loop (σ := Nat) (fun k ls => lv_has ls 7 [(6, .int (nI k)), (5, .int (nI 1)), (4, .int (nI w_.1.length)), (0, .ref (ad 3)), (1, .int (nI 1)), (2, .int (nI at_)), (3, .int (nI qb))] ∧ (k ≤ cnt) ∧ (∀ j, j < k → (acc.getD j ([], false)).1 ≠ w_.1)) (fun k => cnt - k) (g := fun k ls => F0 m 208 ls []) (x0 := 0) (ls0 := ls) ?_ ⟨lv_sub hl [0, 1, 2, 3, 4, 5, 6] rfl, Nat.zero_le _, fun j hj => absurd hj (Nat.not_lt_zero j)⟩
                clear hl
                intro k ls hI ih_16
                obtain ⟨hl, hk, hno1⟩ := hI
                refine W.eq (g2 := F0 m 208 ls []) rfl ?_
                refine lv_iload hx hb dX2_cell_208 (lv_at hl 0 rfl) ?_
                refine lv_aload_n hx hb dX2_cell_210 rfl (lv_at hl 3 rfl) ?_
                refine ct_get (v := .int (nI cnt)) B h.1 kX2 3 rfl 11 (Nat.le_of_ble_eq_true rfl) q226 rfl dX2_cell_211 ?_
                refine n_icmp_ge (tgt := 246) hx hb dX2_cell_214 (by decide) (by omega) (by omega) (fun c_17 => ?_) (fun c_17 => ?_)
                · have hno2 : ∀ j, j < cnt → (acc.getD j ([], false)).1 ≠ w_.1 := fun j hj => hno1 j (by omega)
                  refine lv_aload_n hx hb dX2_cell_246 rfl (lv_at hl 3 rfl) ?_
                  refine lv_dup hx hb dX2_cell_247 rfl ?_
                  refine ct_get (v := .int (nI cnt)) B h.1 kX2 3 rfl 11 (Nat.le_of_ble_eq_true rfl) q226 rfl dX2_cell_248 ?_
                  refine lv_iconst (v := nI 1) hx hb dX2_cell_251 (by decide) ?_
                  refine n_iadd hx hb dX2_cell_252 ?_
                  refine ct_put (ws' := xw E ad (tray, trayed, fed, place, picked, pcnt, column) O (code, splace) T ((some (ad 1)), size, j, me, meant + w_.1.length, (upd starts cnt (nI meant)), (upd lens cnt (encL w_)), cnt + 1, cols) R) B h kX2 3 rfl 11 (Nat.le_of_ble_eq_true rfl) q226 rfl rfl rfl (Nat.le_of_ble_eq_true rfl) rfl dX2_cell_253 (fun H locs h => ?_)
                  exact ct_toX (ct_vret B h.2.2 ⟨w_, j, me, (upd starts cnt (nI meant)), (upd lens cnt (encL w_)), rfl, h.1, by rw [nameAt_i hwd, if_neg (fun q9 => q9 hend), if_neg (fun q9 => by rcases q9 with z9 | z9 | z9; omega; omega; exact noSame hcn hno2 z9)], hpw2, by have := hend.1; omega⟩ dX2_cell_256)
                · refine lv_iload_n hx hb dX2_cell_217 rfl (lv_at hl 4 rfl) ?_
                  refine n_if_eq (tgt := 246) hx hb dX2_cell_218 (by decide) (by omega) (fun c_18 => absurd c_18 (by omega)) (fun c_18 => ?_)
                  refine lv_aload_n hx hb dX2_cell_221 rfl (lv_at hl 3 rfl) ?_
                  refine lv_iload hx hb dX2_cell_222 (lv_at hl 0 rfl) ?_
                  refine lv_aload_n hx hb dX2_cell_224 rfl (lv_at hl 3 rfl) ?_
                  refine ct_get (v := .int (nI cnt)) B h.1 kX2 3 rfl 11 (Nat.le_of_ble_eq_true rfl) q226 rfl dX2_cell_225 ?_
                  refine ct_callR (ct_runV (As := [.int (nI k), .int (nI cnt)]) (rest := []) B (met_X2_isSame l E ad (tray, trayed, fed, place, picked, pcnt, column) O (code, splace) T (some (ad 1)) size j me (meant + w_.1.length) (upd starts cnt (nI meant)) (upd lens cnt (encL w_)) cnt cols R k cnt (tot (acc.take k)) meant (acc.getD k ([], false)) w_ H.size (by omega) (by omega) (pWs_l hpw2 (by omega)) (pWs_r hpw2 hcn hmt)) (lw_V q365 q367 qs9 q50 q368) (n := 2) ⟨by decide, by decide, by decide +kernel⟩ rfl ⟨rfl, rfl, (Nat.le_of_ble_eq_true rfl), (Nat.le_of_ble_eq_true rfl), (Nat.le_of_ble_eq_true rfl), (Nat.le_of_ble_eq_true rfl)⟩ h.2.2 hA (ct_recv B h.1 kX2 3 rfl) h.1 hl.1 (Nat.le_of_ble_eq_true rfl) dX2_cell_228) (fun v hv => ?_)
                  subst hv
                  refine W.eq (g2 := F0 m 231 ls [.int (if (acc.getD k ([], false)).1 = w_.1 then 1 else 0)]) rfl ?_
                  refine b_if_eq (tgt := 240) hx hb dX2_cell_231 (by decide) (fun csame => ?_) (fun csame => ?_)
                  · refine n_iinc (n := 1) (lv' := [(6, .int (nI (k + 1))), (5, .int (nI 1)), (4, .int (nI w_.1.length)), (0, .ref (ad 3)), (1, .int (nI 1)), (2, .int (nI at_)), (3, .int (nI qb))]) hx hb dX2_cell_240 hl (k := 0) rfl rfl (by decide) (by decide) rfl (fun ls hl => ?_)
                    refine lv_goto (tgt := 208) hx hb dX2_cell_243 (by decide) ?_
                    exact ih_16 (k + 1) ls (by omega) ⟨lv_sub hl [0, 1, 2, 3, 4, 5, 6] rfl, by omega, fun j hj => by rcases Nat.lt_succ_iff_lt_or_eq.mp hj with q9 | q9; exact hno1 j q9; rw [q9]; exact csame⟩
                  · refine lv_aload_n hx hb dX2_cell_234 rfl (lv_at hl 3 rfl) ?_
                    refine lv_iload_n hx hb dX2_cell_235 rfl (lv_at hl 5 rfl) ?_
                    refine ct_callQ (ct_runV (As := [.int (nI at_)]) (rest := []) B (met_X2_wrong l E ad (tray, trayed, fed, place, picked, pcnt, column) O code splace T ((some (ad 1)), size, j, me, meant + w_.1.length, (upd starts cnt (nI meant)), (upd lens cnt (encL w_)), cnt, cols) R (nI at_) H.size) (lw_V q341 q343 qs4 q50 q344) (n := 1) ⟨by decide, by decide, by decide +kernel⟩ rfl ⟨rfl, rfl, (Nat.le_of_ble_eq_true rfl), (Nat.le_of_ble_eq_true rfl), (Nat.le_of_ble_eq_true rfl), (Nat.le_of_ble_eq_true rfl)⟩ h.2.2 hA (ct_recv B h.1 kX2 3 rfl) ⟨h.1, (ct_D0 h hA)⟩ hl.1 (Nat.le_of_ble_eq_true rfl) dX2_cell_236) h.2.2 (ct_sub h hAn) (ct_sub h hAn) (fun v H locs hv hz hk hS => ?_)
                    obtain ⟨rfl, hP1⟩ := hv
                    have h : Hs E A s.heap (xw E ad (tray, trayed, fed, place, picked, pcnt, column) O (20, (nI at_)) T ((some (ad 1)), size, j, me, meant + w_.1.length, (upd starts cnt (nI meant)), (upd lens cnt (encL w_)), cnt, cols) R) H locs := ct_again h hP1 rfl hS
                    clear hP1 hS hz hk
                    refine W.eq (g2 := F0 m 239 ls [.ref (ad 20)]) rfl ?_
                    exact ct_athrow B hno h.2.2 ⟨at_, ((some (ad 1)), size, j, me, meant + w_.1.length, (upd starts cnt (nI meant)), (upd lens cnt (encL w_)), cnt, cols), rfl, h.1, by rw [nameAt_i hwd, if_neg (fun q9 => q9 hend), if_pos (Or.inr (Or.inr (someSame (by omega) csame)))]⟩ dX2_cell_239
            · have hq2 : w_.2 = false := by rcases hqb with ⟨q9, _⟩ | ⟨_, q9⟩; omega; exact q9
              refine lv_iconst (v := (-1)) hx hb dX2_cell_185 (by decide) ?_
              refine lv_goto (tgt := 203) hx hb dX2_cell_186 (by decide) ?_
              refine W.eq (g2 := F0 m 203 ls [.int (encL w_), .int (nI cnt), .ref (ad 9)]) (by rw [enc_m1 (by omega) hq2] <;> rfl) ?_
              refine lv_i2b (v := (encL w_)) hx hb dX2_cell_203 (enc_i8 (by omega)) ?_
              refine ct_bast (ws' := xw E ad (tray, trayed, fed, place, picked, pcnt, column) O (code, splace) T ((some (ad 1)), size, j, me, meant + w_.1.length, (upd starts cnt (nI meant)), (upd lens cnt (encL w_)), cnt, cols) R) B h 9 rfl hc8 (by omega) (congrArg (fun z9 => (xw E ad (tray, trayed, fed, place, picked, pcnt, column) O (code, splace) T ((some (ad 1)), size, j, me, meant + w_.1.length, (upd starts cnt (nI meant)), z9, cnt, cols) R : va_W)) ((by rw [enc_b (by omega)] : upd lens cnt (vp_nar .byte (encL w_)) = upd lens cnt (encL w_)))) dX2_cell_204 (fun H locs h => ?_)
              have hpw2 : pWs me (upd starts cnt (nI meant)) (upd lens cnt (encL w_)) (acc ++ [w_]) := pWs_snoc hpw (fun j hj => hme j (by omega)) (fun k hk => ⟨upd_n (by omega), upd_n (by omega)⟩) (by rw [← hcn, ← hmt]; exact pAt_of upd_s upd_s hmw hwr (by omega) (by omega))
              refine lv_iconst (v := nI 0) hx hb dX2_cell_205 (by decide) ?_
              refine lv_istore (lv' := [(6, .int (nI 0)), (5, .int (nI 1)), (4, .int (nI w_.1.length)), (0, .ref (ad 3)), (1, .int (nI 1)), (2, .int (nI at_)), (3, .int (nI qb))]) hx hb dX2_cell_206 hl (by decide) rfl (fun ls hl => ?_)
              refine ct_loop (σ := Nat) (fun k ls => lv_has ls 7 [(6, .int (nI k)), (5, .int (nI 1)), (4, .int (nI w_.1.length)), (0, .ref (ad 3)), (1, .int (nI 1)), (2, .int (nI at_)), (3, .int (nI qb))] ∧ (k ≤ cnt) ∧ (∀ j, j < k → (acc.getD j ([], false)).1 ≠ w_.1)) (fun k => cnt - k) (g := fun k ls => F0 m 208 ls []) (x0 := 0) (ls0 := ls) ?_ ⟨lv_sub hl [0, 1, 2, 3, 4, 5, 6] rfl, Nat.zero_le _, fun j hj => absurd hj (Nat.not_lt_zero j)⟩
              clear hl
              intro k ls hI ih_19
              obtain ⟨hl, hk, hno1⟩ := hI
              refine W.eq (g2 := F0 m 208 ls []) rfl ?_
              refine lv_iload hx hb dX2_cell_208 (lv_at hl 0 rfl) ?_
              refine lv_aload_n hx hb dX2_cell_210 rfl (lv_at hl 3 rfl) ?_
              refine ct_get (v := .int (nI cnt)) B h.1 kX2 3 rfl 11 (Nat.le_of_ble_eq_true rfl) q226 rfl dX2_cell_211 ?_
              refine n_icmp_ge (tgt := 246) hx hb dX2_cell_214 (by decide) (by omega) (by omega) (fun c_20 => ?_) (fun c_20 => ?_)
              · have hno2 : ∀ j, j < cnt → (acc.getD j ([], false)).1 ≠ w_.1 := fun j hj => hno1 j (by omega)
                refine lv_aload_n hx hb dX2_cell_246 rfl (lv_at hl 3 rfl) ?_
                refine lv_dup hx hb dX2_cell_247 rfl ?_
                refine ct_get (v := .int (nI cnt)) B h.1 kX2 3 rfl 11 (Nat.le_of_ble_eq_true rfl) q226 rfl dX2_cell_248 ?_
                refine lv_iconst (v := nI 1) hx hb dX2_cell_251 (by decide) ?_
                refine n_iadd hx hb dX2_cell_252 ?_
                refine ct_put (ws' := xw E ad (tray, trayed, fed, place, picked, pcnt, column) O (code, splace) T ((some (ad 1)), size, j, me, meant + w_.1.length, (upd starts cnt (nI meant)), (upd lens cnt (encL w_)), cnt + 1, cols) R) B h kX2 3 rfl 11 (Nat.le_of_ble_eq_true rfl) q226 rfl rfl rfl (Nat.le_of_ble_eq_true rfl) rfl dX2_cell_253 (fun H locs h => ?_)
                exact ct_toX (ct_vret B h.2.2 ⟨w_, j, me, (upd starts cnt (nI meant)), (upd lens cnt (encL w_)), rfl, h.1, by rw [nameAt_i hwd, if_neg (fun q9 => q9 hend), if_neg (fun q9 => by rcases q9 with z9 | z9 | z9; omega; omega; exact noSame hcn hno2 z9)], hpw2, by have := hend.1; omega⟩ dX2_cell_256)
              · refine lv_iload_n hx hb dX2_cell_217 rfl (lv_at hl 4 rfl) ?_
                refine n_if_eq (tgt := 246) hx hb dX2_cell_218 (by decide) (by omega) (fun c_21 => absurd c_21 (by omega)) (fun c_21 => ?_)
                refine lv_aload_n hx hb dX2_cell_221 rfl (lv_at hl 3 rfl) ?_
                refine lv_iload hx hb dX2_cell_222 (lv_at hl 0 rfl) ?_
                refine lv_aload_n hx hb dX2_cell_224 rfl (lv_at hl 3 rfl) ?_
                refine ct_get (v := .int (nI cnt)) B h.1 kX2 3 rfl 11 (Nat.le_of_ble_eq_true rfl) q226 rfl dX2_cell_225 ?_
                refine ct_callR (ct_runV (As := [.int (nI k), .int (nI cnt)]) (rest := []) B (met_X2_isSame l E ad (tray, trayed, fed, place, picked, pcnt, column) O (code, splace) T (some (ad 1)) size j me (meant + w_.1.length) (upd starts cnt (nI meant)) (upd lens cnt (encL w_)) cnt cols R k cnt (tot (acc.take k)) meant (acc.getD k ([], false)) w_ H.size (by omega) (by omega) (pWs_l hpw2 (by omega)) (pWs_r hpw2 hcn hmt)) (lw_V q365 q367 qs9 q50 q368) (n := 2) ⟨by decide, by decide, by decide +kernel⟩ rfl ⟨rfl, rfl, (Nat.le_of_ble_eq_true rfl), (Nat.le_of_ble_eq_true rfl), (Nat.le_of_ble_eq_true rfl), (Nat.le_of_ble_eq_true rfl)⟩ h.2.2 hA (ct_recv B h.1 kX2 3 rfl) h.1 hl.1 (Nat.le_of_ble_eq_true rfl) dX2_cell_228) (fun v hv => ?_)
                subst hv
                refine W.eq (g2 := F0 m 231 ls [.int (if (acc.getD k ([], false)).1 = w_.1 then 1 else 0)]) rfl ?_
                refine b_if_eq (tgt := 240) hx hb dX2_cell_231 (by decide) (fun csame => ?_) (fun csame => ?_)
                · refine n_iinc (n := 1) (lv' := [(6, .int (nI (k + 1))), (5, .int (nI 1)), (4, .int (nI w_.1.length)), (0, .ref (ad 3)), (1, .int (nI 1)), (2, .int (nI at_)), (3, .int (nI qb))]) hx hb dX2_cell_240 hl (k := 0) rfl rfl (by decide) (by decide) rfl (fun ls hl => ?_)
                  refine lv_goto (tgt := 208) hx hb dX2_cell_243 (by decide) ?_
                  exact ih_19 (k + 1) ls (by omega) ⟨lv_sub hl [0, 1, 2, 3, 4, 5, 6] rfl, by omega, fun j hj => by rcases Nat.lt_succ_iff_lt_or_eq.mp hj with q9 | q9; exact hno1 j q9; rw [q9]; exact csame⟩
                · refine lv_aload_n hx hb dX2_cell_234 rfl (lv_at hl 3 rfl) ?_
                  refine lv_iload_n hx hb dX2_cell_235 rfl (lv_at hl 5 rfl) ?_
                  refine ct_callQ (ct_runV (As := [.int (nI at_)]) (rest := []) B (met_X2_wrong l E ad (tray, trayed, fed, place, picked, pcnt, column) O code splace T ((some (ad 1)), size, j, me, meant + w_.1.length, (upd starts cnt (nI meant)), (upd lens cnt (encL w_)), cnt, cols) R (nI at_) H.size) (lw_V q341 q343 qs4 q50 q344) (n := 1) ⟨by decide, by decide, by decide +kernel⟩ rfl ⟨rfl, rfl, (Nat.le_of_ble_eq_true rfl), (Nat.le_of_ble_eq_true rfl), (Nat.le_of_ble_eq_true rfl), (Nat.le_of_ble_eq_true rfl)⟩ h.2.2 hA (ct_recv B h.1 kX2 3 rfl) ⟨h.1, (ct_D0 h hA)⟩ hl.1 (Nat.le_of_ble_eq_true rfl) dX2_cell_236) h.2.2 (ct_sub h hAn) (ct_sub h hAn) (fun v H locs hv hz hk hS => ?_)
                  obtain ⟨rfl, hP1⟩ := hv
                  have h : Hs E A s.heap (xw E ad (tray, trayed, fed, place, picked, pcnt, column) O (20, (nI at_)) T ((some (ad 1)), size, j, me, meant + w_.1.length, (upd starts cnt (nI meant)), (upd lens cnt (encL w_)), cnt, cols) R) H locs := ct_again h hP1 rfl hS
                  clear hP1 hS hz hk
                  refine W.eq (g2 := F0 m 239 ls [.ref (ad 20)]) rfl ?_
                  exact ct_athrow B hno h.2.2 ⟨at_, ((some (ad 1)), size, j, me, meant + w_.1.length, (upd starts cnt (nI meant)), (upd lens cnt (encL w_)), cnt, cols), rfl, h.1, by rw [nameAt_i hwd, if_neg (fun q9 => q9 hend), if_pos (Or.inr (Or.inr (someSame (by omega) csame)))]⟩ dX2_cell_239
        · refine lv_aload_n hx hb dX2_cell_162 rfl (lv_at hl 2 rfl) ?_
          refine lv_iload_n hx hb dX2_cell_163 rfl (lv_at hl 4 rfl) ?_
          refine ct_callQ (ct_runV (As := [.int (nI at_)]) (rest := []) B (met_X2_wrong l E ad (tray, trayed, fed, place, picked, pcnt, column) O code splace T ((some (ad 1)), size, j, me, meant + w_.1.length, (upd starts cnt (nI meant)), lens, cnt, cols) R (nI at_) H.size) (lw_V q341 q343 qs4 q50 q344) (n := 1) ⟨by decide, by decide, by decide +kernel⟩ rfl ⟨rfl, rfl, (Nat.le_of_ble_eq_true rfl), (Nat.le_of_ble_eq_true rfl), (Nat.le_of_ble_eq_true rfl), (Nat.le_of_ble_eq_true rfl)⟩ h.2.2 hA (ct_recv B h.1 kX2 3 rfl) ⟨h.1, (ct_D0 h hA)⟩ hl.1 (Nat.le_of_ble_eq_true rfl) dX2_cell_164) h.2.2 (ct_sub h hAn) (ct_sub h hAn) (fun v H locs hv hz hk hS => ?_)
          obtain ⟨rfl, hP1⟩ := hv
          have h : Hs E A s.heap (xw E ad (tray, trayed, fed, place, picked, pcnt, column) O (20, (nI at_)) T ((some (ad 1)), size, j, me, meant + w_.1.length, (upd starts cnt (nI meant)), lens, cnt, cols) R) H locs := ct_again h hP1 rfl hS
          clear hP1 hS hz hk
          refine W.eq (g2 := F0 m 167 ls [.ref (ad 20)]) rfl ?_
          exact ct_athrow B hno h.2.2 ⟨at_, ((some (ad 1)), size, j, me, meant + w_.1.length, (upd starts cnt (nI meant)), lens, cnt, cols), rfl, h.1, by rw [nameAt_i hwd, if_neg (fun q9 => q9 hend), if_pos (by omega)]⟩ dX2_cell_167
    · refine lv_aload_n hx hb dX2_cell_107 rfl (lv_at hl 1 rfl) ?_
      refine ct_callR (ct_runV (As := []) (rest := []) B (met_X2_lookT l E ad tray trayed fed place picked pcnt column O (code, splace) T size j me (meant + w_.1.length) (upd starts cnt (nI meant)) lens cnt cols R t H.size htx hsz_ (by omega)) (lw_V q353 q355 qs6 q50 q356) (n := 0) ⟨by decide, by decide, by decide +kernel⟩ rfl ⟨rfl, rfl, (Nat.le_of_ble_eq_true rfl), (Nat.le_of_ble_eq_true rfl), (Nat.le_of_ble_eq_true rfl), (Nat.le_of_ble_eq_true rfl)⟩ h.2.2 hA (ct_recv B h.1 kX2 3 rfl) h.1 hl.1 (Nat.le_of_ble_eq_true rfl) dX2_cell_108) (fun v hv => ?_)
      subst hv
      refine W.eq (g2 := F0 m 111 ls [.int (lkI t j)]) rfl ?_
      refine lv_bipush (v := nI 10) hx hb dX2_cell_111 (by decide) ?_
      refine k_icmp_ne (tgt := 120) hx hb dX2_cell_113 (by decide) htb (by decide) (fun c10e => ?_) (fun c10e => ?_)
      · refine lv_iconst (v := nI 0) hx hb dX2_cell_120 (by decide) ?_
        refine lv_istore (lv' := [(5, .int (nI 0)), (4, .int (nI w_.1.length)), (0, .ref (ad 3)), (1, .int (nI 1)), (2, .int (nI at_)), (3, .int (nI qb))]) hx hb dX2_cell_121 hl (by decide) rfl (fun ls hl => ?_)
        refine lv_iload hx hb dX2_cell_123 (lv_at hl 0 rfl) ?_
        refine n_if_ne (tgt := 137) hx hb dX2_cell_125 (by decide) (by omega) (fun c_22 => absurd c_22 (by omega)) (fun c_22 => ?_)
        refine lv_aload_n hx hb dX2_cell_128 rfl (lv_at hl 2 rfl) ?_
        refine lv_aload_n hx hb dX2_cell_129 rfl (lv_at hl 2 rfl) ?_
        refine ct_get (v := .int (nI j)) B h.1 kX2 3 rfl 6 (Nat.le_of_ble_eq_true rfl) q221 rfl dX2_cell_130 ?_
        refine ct_callQ (ct_runV (As := [.int (nI j)]) (rest := []) B (met_X2_wrong l E ad (tray, trayed, fed, place, picked, pcnt, column) O code splace T ((some (ad 1)), size, j, me, meant + w_.1.length, (upd starts cnt (nI meant)), lens, cnt, cols) R (nI j) H.size) (lw_V q341 q343 qs4 q50 q344) (n := 1) ⟨by decide, by decide, by decide +kernel⟩ rfl ⟨rfl, rfl, (Nat.le_of_ble_eq_true rfl), (Nat.le_of_ble_eq_true rfl), (Nat.le_of_ble_eq_true rfl), (Nat.le_of_ble_eq_true rfl)⟩ h.2.2 hA (ct_recv B h.1 kX2 3 rfl) ⟨h.1, (ct_D0 h hA)⟩ hl.1 (Nat.le_of_ble_eq_true rfl) dX2_cell_133) h.2.2 (ct_sub h hAn) (ct_sub h hAn) (fun v H locs hv hz hk hS => ?_)
        obtain ⟨rfl, hP1⟩ := hv
        have h : Hs E A s.heap (xw E ad (tray, trayed, fed, place, picked, pcnt, column) O (20, (nI j)) T ((some (ad 1)), size, j, me, meant + w_.1.length, (upd starts cnt (nI meant)), lens, cnt, cols) R) H locs := ct_again h hP1 rfl hS
        clear hP1 hS hz hk
        refine W.eq (g2 := F0 m 136 ls [.ref (ad 20)]) rfl ?_
        exact ct_athrow B hno h.2.2 ⟨j, ((some (ad 1)), size, j, me, meant + w_.1.length, (upd starts cnt (nI meant)), lens, cnt, cols), rfl, h.1, by rw [nameAt_i hwd, if_pos (by intro q9; rcases q9.2 with z9 | z9; exact c44e ⟨q9.1, z9⟩; exact c10e ⟨q9.1, z9⟩)]⟩ dX2_cell_136
      · have hend : endsAt t j := ⟨c10e.1, Or.inr c10e.2⟩
        refine lv_iconst (v := nI 1) hx hb dX2_cell_116 (by decide) ?_
        refine lv_goto (tgt := 121) hx hb dX2_cell_117 (by decide) ?_
        refine lv_istore (lv' := [(5, .int (nI 1)), (4, .int (nI w_.1.length)), (0, .ref (ad 3)), (1, .int (nI 1)), (2, .int (nI at_)), (3, .int (nI qb))]) hx hb dX2_cell_121 hl (by decide) rfl (fun ls hl => ?_)
        refine lv_iload hx hb dX2_cell_123 (lv_at hl 0 rfl) ?_
        refine n_if_ne (tgt := 137) hx hb dX2_cell_125 (by decide) (by omega) (fun c_23 => ?_) (fun c_23 => absurd c_23 (by omega))
        refine lv_iload hx hb dX2_cell_137 (lv_at hl 1 rfl) ?_
        refine lv_iload_n hx hb dX2_cell_139 rfl (lv_at hl 3 rfl) ?_
        refine n_if_eq (tgt := 148) hx hb dX2_cell_140 (by decide) (by omega) (fun c_24 => absurd c_24 (by omega)) (fun c_24 => ?_)
        refine lv_bipush (v := nI 20) hx hb dX2_cell_143 (by decide) ?_
        refine lv_goto (tgt := 150) hx hb dX2_cell_145 (by decide) ?_
        refine n_icmp_gt (tgt := 162) hx hb dX2_cell_150 (by decide) (by omega) (by omega) (fun c_25 => ?_) (fun c_25 => ?_)
        · refine lv_aload_n hx hb dX2_cell_162 rfl (lv_at hl 2 rfl) ?_
          refine lv_iload_n hx hb dX2_cell_163 rfl (lv_at hl 4 rfl) ?_
          refine ct_callQ (ct_runV (As := [.int (nI at_)]) (rest := []) B (met_X2_wrong l E ad (tray, trayed, fed, place, picked, pcnt, column) O code splace T ((some (ad 1)), size, j, me, meant + w_.1.length, (upd starts cnt (nI meant)), lens, cnt, cols) R (nI at_) H.size) (lw_V q341 q343 qs4 q50 q344) (n := 1) ⟨by decide, by decide, by decide +kernel⟩ rfl ⟨rfl, rfl, (Nat.le_of_ble_eq_true rfl), (Nat.le_of_ble_eq_true rfl), (Nat.le_of_ble_eq_true rfl), (Nat.le_of_ble_eq_true rfl)⟩ h.2.2 hA (ct_recv B h.1 kX2 3 rfl) ⟨h.1, (ct_D0 h hA)⟩ hl.1 (Nat.le_of_ble_eq_true rfl) dX2_cell_164) h.2.2 (ct_sub h hAn) (ct_sub h hAn) (fun v H locs hv hz hk hS => ?_)
          obtain ⟨rfl, hP1⟩ := hv
          have h : Hs E A s.heap (xw E ad (tray, trayed, fed, place, picked, pcnt, column) O (20, (nI at_)) T ((some (ad 1)), size, j, me, meant + w_.1.length, (upd starts cnt (nI meant)), lens, cnt, cols) R) H locs := ct_again h hP1 rfl hS
          clear hP1 hS hz hk
          refine W.eq (g2 := F0 m 167 ls [.ref (ad 20)]) rfl ?_
          exact ct_athrow B hno h.2.2 ⟨at_, ((some (ad 1)), size, j, me, meant + w_.1.length, (upd starts cnt (nI meant)), lens, cnt, cols), rfl, h.1, by rw [nameAt_i hwd, if_neg (fun q9 => q9 hend), if_pos (by omega)]⟩ dX2_cell_167
        · refine lv_iload_n hx hb dX2_cell_153 rfl (lv_at hl 3 rfl) ?_
          refine n_if_eq (tgt := 168) hx hb dX2_cell_154 (by decide) (by omega) (fun c_26 => absurd c_26 (by omega)) (fun c_26 => ?_)
          refine lv_iload hx hb dX2_cell_157 (lv_at hl 1 rfl) ?_
          refine n_if_ne (tgt := 168) hx hb dX2_cell_159 (by decide) (by omega) (fun c_27 => ?_) (fun c_27 => ?_)
          · refine lv_aload_n hx hb dX2_cell_168 rfl (lv_at hl 2 rfl) ?_
            refine ct_get (v := .ref (ad 9)) B h.1 kX2 3 rfl 10 (Nat.le_of_ble_eq_true rfl) q225 rfl dX2_cell_169 ?_
            refine lv_aload_n hx hb dX2_cell_172 rfl (lv_at hl 2 rfl) ?_
            refine ct_get (v := .int (nI cnt)) B h.1 kX2 3 rfl 11 (Nat.le_of_ble_eq_true rfl) q226 rfl dX2_cell_173 ?_
            refine lv_iload hx hb dX2_cell_176 (lv_at hl 1 rfl) ?_
            refine n_if_ne (tgt := 189) hx hb dX2_cell_178 (by decide) (by omega) (fun cn0 => ?_) (fun cn0 => ?_)
            · refine lv_iload_n hx hb dX2_cell_189 rfl (lv_at hl 5 rfl) ?_
              refine n_if_eq (tgt := 201) hx hb dX2_cell_190 (by decide) (by omega) (fun cq1 => ?_) (fun cq1 => ?_)
              · have hq2 : w_.2 = false := by rcases hqb with ⟨q9, _⟩ | ⟨_, q9⟩; omega; exact q9
                refine lv_iload hx hb dX2_cell_201 (lv_at hl 1 rfl) ?_
                refine W.eq (g2 := F0 m 203 ls [.int (encL w_), .int (nI cnt), .ref (ad 9)]) (by rw [enc_u (by omega) hq2] <;> rfl) ?_
                refine lv_i2b (v := (encL w_)) hx hb dX2_cell_203 (enc_i8 (by omega)) ?_
                refine ct_bast (ws' := xw E ad (tray, trayed, fed, place, picked, pcnt, column) O (code, splace) T ((some (ad 1)), size, j, me, meant + w_.1.length, (upd starts cnt (nI meant)), (upd lens cnt (encL w_)), cnt, cols) R) B h 9 rfl hc8 (by omega) (congrArg (fun z9 => (xw E ad (tray, trayed, fed, place, picked, pcnt, column) O (code, splace) T ((some (ad 1)), size, j, me, meant + w_.1.length, (upd starts cnt (nI meant)), z9, cnt, cols) R : va_W)) ((by rw [enc_b (by omega)] : upd lens cnt (vp_nar .byte (encL w_)) = upd lens cnt (encL w_)))) dX2_cell_204 (fun H locs h => ?_)
                have hpw2 : pWs me (upd starts cnt (nI meant)) (upd lens cnt (encL w_)) (acc ++ [w_]) := pWs_snoc hpw (fun j hj => hme j (by omega)) (fun k hk => ⟨upd_n (by omega), upd_n (by omega)⟩) (by rw [← hcn, ← hmt]; exact pAt_of upd_s upd_s hmw hwr (by omega) (by omega))
                refine lv_iconst (v := nI 0) hx hb dX2_cell_205 (by decide) ?_
                refine lv_istore (lv' := [(6, .int (nI 0)), (5, .int (nI 1)), (4, .int (nI w_.1.length)), (0, .ref (ad 3)), (1, .int (nI 1)), (2, .int (nI at_)), (3, .int (nI qb))]) hx hb dX2_cell_206 hl (by decide) rfl (fun ls hl => ?_)
                refine ct_loop (σ := Nat) (fun k ls => lv_has ls 7 [(6, .int (nI k)), (5, .int (nI 1)), (4, .int (nI w_.1.length)), (0, .ref (ad 3)), (1, .int (nI 1)), (2, .int (nI at_)), (3, .int (nI qb))] ∧ (k ≤ cnt) ∧ (∀ j, j < k → (acc.getD j ([], false)).1 ≠ w_.1)) (fun k => cnt - k) (g := fun k ls => F0 m 208 ls []) (x0 := 0) (ls0 := ls) ?_ ⟨lv_sub hl [0, 1, 2, 3, 4, 5, 6] rfl, Nat.zero_le _, fun j hj => absurd hj (Nat.not_lt_zero j)⟩
                clear hl
                intro k ls hI ih_28
                obtain ⟨hl, hk, hno1⟩ := hI
                refine W.eq (g2 := F0 m 208 ls []) rfl ?_
                refine lv_iload hx hb dX2_cell_208 (lv_at hl 0 rfl) ?_
                refine lv_aload_n hx hb dX2_cell_210 rfl (lv_at hl 3 rfl) ?_
                refine ct_get (v := .int (nI cnt)) B h.1 kX2 3 rfl 11 (Nat.le_of_ble_eq_true rfl) q226 rfl dX2_cell_211 ?_
                refine n_icmp_ge (tgt := 246) hx hb dX2_cell_214 (by decide) (by omega) (by omega) (fun c_29 => ?_) (fun c_29 => ?_)
                · have hno2 : ∀ j, j < cnt → (acc.getD j ([], false)).1 ≠ w_.1 := fun j hj => hno1 j (by omega)
                  refine lv_aload_n hx hb dX2_cell_246 rfl (lv_at hl 3 rfl) ?_
                  refine lv_dup hx hb dX2_cell_247 rfl ?_
                  refine ct_get (v := .int (nI cnt)) B h.1 kX2 3 rfl 11 (Nat.le_of_ble_eq_true rfl) q226 rfl dX2_cell_248 ?_
                  refine lv_iconst (v := nI 1) hx hb dX2_cell_251 (by decide) ?_
                  refine n_iadd hx hb dX2_cell_252 ?_
                  refine ct_put (ws' := xw E ad (tray, trayed, fed, place, picked, pcnt, column) O (code, splace) T ((some (ad 1)), size, j, me, meant + w_.1.length, (upd starts cnt (nI meant)), (upd lens cnt (encL w_)), cnt + 1, cols) R) B h kX2 3 rfl 11 (Nat.le_of_ble_eq_true rfl) q226 rfl rfl rfl (Nat.le_of_ble_eq_true rfl) rfl dX2_cell_253 (fun H locs h => ?_)
                  exact ct_toX (ct_vret B h.2.2 ⟨w_, j, me, (upd starts cnt (nI meant)), (upd lens cnt (encL w_)), rfl, h.1, by rw [nameAt_i hwd, if_neg (fun q9 => q9 hend), if_neg (fun q9 => by rcases q9 with z9 | z9 | z9; omega; omega; exact noSame hcn hno2 z9)], hpw2, by have := hend.1; omega⟩ dX2_cell_256)
                · refine lv_iload_n hx hb dX2_cell_217 rfl (lv_at hl 4 rfl) ?_
                  refine n_if_eq (tgt := 246) hx hb dX2_cell_218 (by decide) (by omega) (fun c_30 => absurd c_30 (by omega)) (fun c_30 => ?_)
                  refine lv_aload_n hx hb dX2_cell_221 rfl (lv_at hl 3 rfl) ?_
                  refine lv_iload hx hb dX2_cell_222 (lv_at hl 0 rfl) ?_
                  refine lv_aload_n hx hb dX2_cell_224 rfl (lv_at hl 3 rfl) ?_
                  refine ct_get (v := .int (nI cnt)) B h.1 kX2 3 rfl 11 (Nat.le_of_ble_eq_true rfl) q226 rfl dX2_cell_225 ?_
                  refine ct_callR (ct_runV (As := [.int (nI k), .int (nI cnt)]) (rest := []) B (met_X2_isSame l E ad (tray, trayed, fed, place, picked, pcnt, column) O (code, splace) T (some (ad 1)) size j me (meant + w_.1.length) (upd starts cnt (nI meant)) (upd lens cnt (encL w_)) cnt cols R k cnt (tot (acc.take k)) meant (acc.getD k ([], false)) w_ H.size (by omega) (by omega) (pWs_l hpw2 (by omega)) (pWs_r hpw2 hcn hmt)) (lw_V q365 q367 qs9 q50 q368) (n := 2) ⟨by decide, by decide, by decide +kernel⟩ rfl ⟨rfl, rfl, (Nat.le_of_ble_eq_true rfl), (Nat.le_of_ble_eq_true rfl), (Nat.le_of_ble_eq_true rfl), (Nat.le_of_ble_eq_true rfl)⟩ h.2.2 hA (ct_recv B h.1 kX2 3 rfl) h.1 hl.1 (Nat.le_of_ble_eq_true rfl) dX2_cell_228) (fun v hv => ?_)
                  subst hv
                  refine W.eq (g2 := F0 m 231 ls [.int (if (acc.getD k ([], false)).1 = w_.1 then 1 else 0)]) rfl ?_
                  refine b_if_eq (tgt := 240) hx hb dX2_cell_231 (by decide) (fun csame => ?_) (fun csame => ?_)
                  · refine n_iinc (n := 1) (lv' := [(6, .int (nI (k + 1))), (5, .int (nI 1)), (4, .int (nI w_.1.length)), (0, .ref (ad 3)), (1, .int (nI 1)), (2, .int (nI at_)), (3, .int (nI qb))]) hx hb dX2_cell_240 hl (k := 0) rfl rfl (by decide) (by decide) rfl (fun ls hl => ?_)
                    refine lv_goto (tgt := 208) hx hb dX2_cell_243 (by decide) ?_
                    exact ih_28 (k + 1) ls (by omega) ⟨lv_sub hl [0, 1, 2, 3, 4, 5, 6] rfl, by omega, fun j hj => by rcases Nat.lt_succ_iff_lt_or_eq.mp hj with q9 | q9; exact hno1 j q9; rw [q9]; exact csame⟩
                  · refine lv_aload_n hx hb dX2_cell_234 rfl (lv_at hl 3 rfl) ?_
                    refine lv_iload_n hx hb dX2_cell_235 rfl (lv_at hl 5 rfl) ?_
                    refine ct_callQ (ct_runV (As := [.int (nI at_)]) (rest := []) B (met_X2_wrong l E ad (tray, trayed, fed, place, picked, pcnt, column) O code splace T ((some (ad 1)), size, j, me, meant + w_.1.length, (upd starts cnt (nI meant)), (upd lens cnt (encL w_)), cnt, cols) R (nI at_) H.size) (lw_V q341 q343 qs4 q50 q344) (n := 1) ⟨by decide, by decide, by decide +kernel⟩ rfl ⟨rfl, rfl, (Nat.le_of_ble_eq_true rfl), (Nat.le_of_ble_eq_true rfl), (Nat.le_of_ble_eq_true rfl), (Nat.le_of_ble_eq_true rfl)⟩ h.2.2 hA (ct_recv B h.1 kX2 3 rfl) ⟨h.1, (ct_D0 h hA)⟩ hl.1 (Nat.le_of_ble_eq_true rfl) dX2_cell_236) h.2.2 (ct_sub h hAn) (ct_sub h hAn) (fun v H locs hv hz hk hS => ?_)
                    obtain ⟨rfl, hP1⟩ := hv
                    have h : Hs E A s.heap (xw E ad (tray, trayed, fed, place, picked, pcnt, column) O (20, (nI at_)) T ((some (ad 1)), size, j, me, meant + w_.1.length, (upd starts cnt (nI meant)), (upd lens cnt (encL w_)), cnt, cols) R) H locs := ct_again h hP1 rfl hS
                    clear hP1 hS hz hk
                    refine W.eq (g2 := F0 m 239 ls [.ref (ad 20)]) rfl ?_
                    exact ct_athrow B hno h.2.2 ⟨at_, ((some (ad 1)), size, j, me, meant + w_.1.length, (upd starts cnt (nI meant)), (upd lens cnt (encL w_)), cnt, cols), rfl, h.1, by rw [nameAt_i hwd, if_neg (fun q9 => q9 hend), if_pos (Or.inr (Or.inr (someSame (by omega) csame)))]⟩ dX2_cell_239
              · have hq2 : w_.2 = true := by rcases hqb with ⟨_, q9⟩ | ⟨q9, _⟩; exact q9; omega
                refine lv_iload hx hb dX2_cell_193 (lv_at hl 1 rfl) ?_
                refine lv_bipush (v := nI 64) hx hb dX2_cell_195 (by decide) ?_
                refine n_iadd hx hb dX2_cell_197 ?_
                refine lv_goto (tgt := 203) hx hb dX2_cell_198 (by decide) ?_
                refine W.eq (g2 := F0 m 203 ls [.int (encL w_), .int (nI cnt), .ref (ad 9)]) (by rw [enc_q hq2] <;> rfl) ?_
                refine lv_i2b (v := (encL w_)) hx hb dX2_cell_203 (enc_i8 (by omega)) ?_
                refine ct_bast (ws' := xw E ad (tray, trayed, fed, place, picked, pcnt, column) O (code, splace) T ((some (ad 1)), size, j, me, meant + w_.1.length, (upd starts cnt (nI meant)), (upd lens cnt (encL w_)), cnt, cols) R) B h 9 rfl hc8 (by omega) (congrArg (fun z9 => (xw E ad (tray, trayed, fed, place, picked, pcnt, column) O (code, splace) T ((some (ad 1)), size, j, me, meant + w_.1.length, (upd starts cnt (nI meant)), z9, cnt, cols) R : va_W)) ((by rw [enc_b (by omega)] : upd lens cnt (vp_nar .byte (encL w_)) = upd lens cnt (encL w_)))) dX2_cell_204 (fun H locs h => ?_)
                have hpw2 : pWs me (upd starts cnt (nI meant)) (upd lens cnt (encL w_)) (acc ++ [w_]) := pWs_snoc hpw (fun j hj => hme j (by omega)) (fun k hk => ⟨upd_n (by omega), upd_n (by omega)⟩) (by rw [← hcn, ← hmt]; exact pAt_of upd_s upd_s hmw hwr (by omega) (by omega))
                refine lv_iconst (v := nI 0) hx hb dX2_cell_205 (by decide) ?_
                refine lv_istore (lv' := [(6, .int (nI 0)), (5, .int (nI 1)), (4, .int (nI w_.1.length)), (0, .ref (ad 3)), (1, .int (nI 1)), (2, .int (nI at_)), (3, .int (nI qb))]) hx hb dX2_cell_206 hl (by decide) rfl (fun ls hl => ?_)
                refine ct_loop (σ := Nat) (fun k ls => lv_has ls 7 [(6, .int (nI k)), (5, .int (nI 1)), (4, .int (nI w_.1.length)), (0, .ref (ad 3)), (1, .int (nI 1)), (2, .int (nI at_)), (3, .int (nI qb))] ∧ (k ≤ cnt) ∧ (∀ j, j < k → (acc.getD j ([], false)).1 ≠ w_.1)) (fun k => cnt - k) (g := fun k ls => F0 m 208 ls []) (x0 := 0) (ls0 := ls) ?_ ⟨lv_sub hl [0, 1, 2, 3, 4, 5, 6] rfl, Nat.zero_le _, fun j hj => absurd hj (Nat.not_lt_zero j)⟩
                clear hl
                intro k ls hI ih_31
                obtain ⟨hl, hk, hno1⟩ := hI
                refine W.eq (g2 := F0 m 208 ls []) rfl ?_
                refine lv_iload hx hb dX2_cell_208 (lv_at hl 0 rfl) ?_
                refine lv_aload_n hx hb dX2_cell_210 rfl (lv_at hl 3 rfl) ?_
                refine ct_get (v := .int (nI cnt)) B h.1 kX2 3 rfl 11 (Nat.le_of_ble_eq_true rfl) q226 rfl dX2_cell_211 ?_
                refine n_icmp_ge (tgt := 246) hx hb dX2_cell_214 (by decide) (by omega) (by omega) (fun c_32 => ?_) (fun c_32 => ?_)
                · have hno2 : ∀ j, j < cnt → (acc.getD j ([], false)).1 ≠ w_.1 := fun j hj => hno1 j (by omega)
                  refine lv_aload_n hx hb dX2_cell_246 rfl (lv_at hl 3 rfl) ?_
                  refine lv_dup hx hb dX2_cell_247 rfl ?_
                  refine ct_get (v := .int (nI cnt)) B h.1 kX2 3 rfl 11 (Nat.le_of_ble_eq_true rfl) q226 rfl dX2_cell_248 ?_
                  refine lv_iconst (v := nI 1) hx hb dX2_cell_251 (by decide) ?_
                  refine n_iadd hx hb dX2_cell_252 ?_
                  refine ct_put (ws' := xw E ad (tray, trayed, fed, place, picked, pcnt, column) O (code, splace) T ((some (ad 1)), size, j, me, meant + w_.1.length, (upd starts cnt (nI meant)), (upd lens cnt (encL w_)), cnt + 1, cols) R) B h kX2 3 rfl 11 (Nat.le_of_ble_eq_true rfl) q226 rfl rfl rfl (Nat.le_of_ble_eq_true rfl) rfl dX2_cell_253 (fun H locs h => ?_)
                  exact ct_toX (ct_vret B h.2.2 ⟨w_, j, me, (upd starts cnt (nI meant)), (upd lens cnt (encL w_)), rfl, h.1, by rw [nameAt_i hwd, if_neg (fun q9 => q9 hend), if_neg (fun q9 => by rcases q9 with z9 | z9 | z9; omega; omega; exact noSame hcn hno2 z9)], hpw2, by have := hend.1; omega⟩ dX2_cell_256)
                · refine lv_iload_n hx hb dX2_cell_217 rfl (lv_at hl 4 rfl) ?_
                  refine n_if_eq (tgt := 246) hx hb dX2_cell_218 (by decide) (by omega) (fun c_33 => absurd c_33 (by omega)) (fun c_33 => ?_)
                  refine lv_aload_n hx hb dX2_cell_221 rfl (lv_at hl 3 rfl) ?_
                  refine lv_iload hx hb dX2_cell_222 (lv_at hl 0 rfl) ?_
                  refine lv_aload_n hx hb dX2_cell_224 rfl (lv_at hl 3 rfl) ?_
                  refine ct_get (v := .int (nI cnt)) B h.1 kX2 3 rfl 11 (Nat.le_of_ble_eq_true rfl) q226 rfl dX2_cell_225 ?_
                  refine ct_callR (ct_runV (As := [.int (nI k), .int (nI cnt)]) (rest := []) B (met_X2_isSame l E ad (tray, trayed, fed, place, picked, pcnt, column) O (code, splace) T (some (ad 1)) size j me (meant + w_.1.length) (upd starts cnt (nI meant)) (upd lens cnt (encL w_)) cnt cols R k cnt (tot (acc.take k)) meant (acc.getD k ([], false)) w_ H.size (by omega) (by omega) (pWs_l hpw2 (by omega)) (pWs_r hpw2 hcn hmt)) (lw_V q365 q367 qs9 q50 q368) (n := 2) ⟨by decide, by decide, by decide +kernel⟩ rfl ⟨rfl, rfl, (Nat.le_of_ble_eq_true rfl), (Nat.le_of_ble_eq_true rfl), (Nat.le_of_ble_eq_true rfl), (Nat.le_of_ble_eq_true rfl)⟩ h.2.2 hA (ct_recv B h.1 kX2 3 rfl) h.1 hl.1 (Nat.le_of_ble_eq_true rfl) dX2_cell_228) (fun v hv => ?_)
                  subst hv
                  refine W.eq (g2 := F0 m 231 ls [.int (if (acc.getD k ([], false)).1 = w_.1 then 1 else 0)]) rfl ?_
                  refine b_if_eq (tgt := 240) hx hb dX2_cell_231 (by decide) (fun csame => ?_) (fun csame => ?_)
                  · refine n_iinc (n := 1) (lv' := [(6, .int (nI (k + 1))), (5, .int (nI 1)), (4, .int (nI w_.1.length)), (0, .ref (ad 3)), (1, .int (nI 1)), (2, .int (nI at_)), (3, .int (nI qb))]) hx hb dX2_cell_240 hl (k := 0) rfl rfl (by decide) (by decide) rfl (fun ls hl => ?_)
                    refine lv_goto (tgt := 208) hx hb dX2_cell_243 (by decide) ?_
                    exact ih_31 (k + 1) ls (by omega) ⟨lv_sub hl [0, 1, 2, 3, 4, 5, 6] rfl, by omega, fun j hj => by rcases Nat.lt_succ_iff_lt_or_eq.mp hj with q9 | q9; exact hno1 j q9; rw [q9]; exact csame⟩
                  · refine lv_aload_n hx hb dX2_cell_234 rfl (lv_at hl 3 rfl) ?_
                    refine lv_iload_n hx hb dX2_cell_235 rfl (lv_at hl 5 rfl) ?_
                    refine ct_callQ (ct_runV (As := [.int (nI at_)]) (rest := []) B (met_X2_wrong l E ad (tray, trayed, fed, place, picked, pcnt, column) O code splace T ((some (ad 1)), size, j, me, meant + w_.1.length, (upd starts cnt (nI meant)), (upd lens cnt (encL w_)), cnt, cols) R (nI at_) H.size) (lw_V q341 q343 qs4 q50 q344) (n := 1) ⟨by decide, by decide, by decide +kernel⟩ rfl ⟨rfl, rfl, (Nat.le_of_ble_eq_true rfl), (Nat.le_of_ble_eq_true rfl), (Nat.le_of_ble_eq_true rfl), (Nat.le_of_ble_eq_true rfl)⟩ h.2.2 hA (ct_recv B h.1 kX2 3 rfl) ⟨h.1, (ct_D0 h hA)⟩ hl.1 (Nat.le_of_ble_eq_true rfl) dX2_cell_236) h.2.2 (ct_sub h hAn) (ct_sub h hAn) (fun v H locs hv hz hk hS => ?_)
                    obtain ⟨rfl, hP1⟩ := hv
                    have h : Hs E A s.heap (xw E ad (tray, trayed, fed, place, picked, pcnt, column) O (20, (nI at_)) T ((some (ad 1)), size, j, me, meant + w_.1.length, (upd starts cnt (nI meant)), (upd lens cnt (encL w_)), cnt, cols) R) H locs := ct_again h hP1 rfl hS
                    clear hP1 hS hz hk
                    refine W.eq (g2 := F0 m 239 ls [.ref (ad 20)]) rfl ?_
                    exact ct_athrow B hno h.2.2 ⟨at_, ((some (ad 1)), size, j, me, meant + w_.1.length, (upd starts cnt (nI meant)), (upd lens cnt (encL w_)), cnt, cols), rfl, h.1, by rw [nameAt_i hwd, if_neg (fun q9 => q9 hend), if_pos (Or.inr (Or.inr (someSame (by omega) csame)))]⟩ dX2_cell_239
            · refine lv_iload_n hx hb dX2_cell_181 rfl (lv_at hl 5 rfl) ?_
              refine n_if_ne (tgt := 189) hx hb dX2_cell_182 (by decide) (by omega) (fun cq0 => ?_) (fun cq0 => ?_)
              · refine lv_iload_n hx hb dX2_cell_189 rfl (lv_at hl 5 rfl) ?_
                refine n_if_eq (tgt := 201) hx hb dX2_cell_190 (by decide) (by omega) (fun cq1 => ?_) (fun cq1 => ?_)
                · have hq2 : w_.2 = false := by rcases hqb with ⟨q9, _⟩ | ⟨_, q9⟩; omega; exact q9
                  refine lv_iload hx hb dX2_cell_201 (lv_at hl 1 rfl) ?_
                  refine W.eq (g2 := F0 m 203 ls [.int (encL w_), .int (nI cnt), .ref (ad 9)]) (by rw [enc_u (by omega) hq2] <;> rfl) ?_
                  refine lv_i2b (v := (encL w_)) hx hb dX2_cell_203 (enc_i8 (by omega)) ?_
                  refine ct_bast (ws' := xw E ad (tray, trayed, fed, place, picked, pcnt, column) O (code, splace) T ((some (ad 1)), size, j, me, meant + w_.1.length, (upd starts cnt (nI meant)), (upd lens cnt (encL w_)), cnt, cols) R) B h 9 rfl hc8 (by omega) (congrArg (fun z9 => (xw E ad (tray, trayed, fed, place, picked, pcnt, column) O (code, splace) T ((some (ad 1)), size, j, me, meant + w_.1.length, (upd starts cnt (nI meant)), z9, cnt, cols) R : va_W)) ((by rw [enc_b (by omega)] : upd lens cnt (vp_nar .byte (encL w_)) = upd lens cnt (encL w_)))) dX2_cell_204 (fun H locs h => ?_)
                  have hpw2 : pWs me (upd starts cnt (nI meant)) (upd lens cnt (encL w_)) (acc ++ [w_]) := pWs_snoc hpw (fun j hj => hme j (by omega)) (fun k hk => ⟨upd_n (by omega), upd_n (by omega)⟩) (by rw [← hcn, ← hmt]; exact pAt_of upd_s upd_s hmw hwr (by omega) (by omega))
                  refine lv_iconst (v := nI 0) hx hb dX2_cell_205 (by decide) ?_
                  refine lv_istore (lv' := [(6, .int (nI 0)), (5, .int (nI 1)), (4, .int (nI w_.1.length)), (0, .ref (ad 3)), (1, .int (nI 1)), (2, .int (nI at_)), (3, .int (nI qb))]) hx hb dX2_cell_206 hl (by decide) rfl (fun ls hl => ?_)
                  refine ct_loop (σ := Nat) (fun k ls => lv_has ls 7 [(6, .int (nI k)), (5, .int (nI 1)), (4, .int (nI w_.1.length)), (0, .ref (ad 3)), (1, .int (nI 1)), (2, .int (nI at_)), (3, .int (nI qb))] ∧ (k ≤ cnt) ∧ (∀ j, j < k → (acc.getD j ([], false)).1 ≠ w_.1)) (fun k => cnt - k) (g := fun k ls => F0 m 208 ls []) (x0 := 0) (ls0 := ls) ?_ ⟨lv_sub hl [0, 1, 2, 3, 4, 5, 6] rfl, Nat.zero_le _, fun j hj => absurd hj (Nat.not_lt_zero j)⟩
                  clear hl
                  intro k ls hI ih_34
                  obtain ⟨hl, hk, hno1⟩ := hI
                  refine W.eq (g2 := F0 m 208 ls []) rfl ?_
                  refine lv_iload hx hb dX2_cell_208 (lv_at hl 0 rfl) ?_
                  refine lv_aload_n hx hb dX2_cell_210 rfl (lv_at hl 3 rfl) ?_
                  refine ct_get (v := .int (nI cnt)) B h.1 kX2 3 rfl 11 (Nat.le_of_ble_eq_true rfl) q226 rfl dX2_cell_211 ?_
                  refine n_icmp_ge (tgt := 246) hx hb dX2_cell_214 (by decide) (by omega) (by omega) (fun c_35 => ?_) (fun c_35 => ?_)
                  · have hno2 : ∀ j, j < cnt → (acc.getD j ([], false)).1 ≠ w_.1 := fun j hj => hno1 j (by omega)
                    refine lv_aload_n hx hb dX2_cell_246 rfl (lv_at hl 3 rfl) ?_
                    refine lv_dup hx hb dX2_cell_247 rfl ?_
                    refine ct_get (v := .int (nI cnt)) B h.1 kX2 3 rfl 11 (Nat.le_of_ble_eq_true rfl) q226 rfl dX2_cell_248 ?_
                    refine lv_iconst (v := nI 1) hx hb dX2_cell_251 (by decide) ?_
                    refine n_iadd hx hb dX2_cell_252 ?_
                    refine ct_put (ws' := xw E ad (tray, trayed, fed, place, picked, pcnt, column) O (code, splace) T ((some (ad 1)), size, j, me, meant + w_.1.length, (upd starts cnt (nI meant)), (upd lens cnt (encL w_)), cnt + 1, cols) R) B h kX2 3 rfl 11 (Nat.le_of_ble_eq_true rfl) q226 rfl rfl rfl (Nat.le_of_ble_eq_true rfl) rfl dX2_cell_253 (fun H locs h => ?_)
                    exact ct_toX (ct_vret B h.2.2 ⟨w_, j, me, (upd starts cnt (nI meant)), (upd lens cnt (encL w_)), rfl, h.1, by rw [nameAt_i hwd, if_neg (fun q9 => q9 hend), if_neg (fun q9 => by rcases q9 with z9 | z9 | z9; omega; omega; exact noSame hcn hno2 z9)], hpw2, by have := hend.1; omega⟩ dX2_cell_256)
                  · refine lv_iload_n hx hb dX2_cell_217 rfl (lv_at hl 4 rfl) ?_
                    refine n_if_eq (tgt := 246) hx hb dX2_cell_218 (by decide) (by omega) (fun c_36 => absurd c_36 (by omega)) (fun c_36 => ?_)
                    refine lv_aload_n hx hb dX2_cell_221 rfl (lv_at hl 3 rfl) ?_
                    refine lv_iload hx hb dX2_cell_222 (lv_at hl 0 rfl) ?_
                    refine lv_aload_n hx hb dX2_cell_224 rfl (lv_at hl 3 rfl) ?_
                    refine ct_get (v := .int (nI cnt)) B h.1 kX2 3 rfl 11 (Nat.le_of_ble_eq_true rfl) q226 rfl dX2_cell_225 ?_
                    refine ct_callR (ct_runV (As := [.int (nI k), .int (nI cnt)]) (rest := []) B (met_X2_isSame l E ad (tray, trayed, fed, place, picked, pcnt, column) O (code, splace) T (some (ad 1)) size j me (meant + w_.1.length) (upd starts cnt (nI meant)) (upd lens cnt (encL w_)) cnt cols R k cnt (tot (acc.take k)) meant (acc.getD k ([], false)) w_ H.size (by omega) (by omega) (pWs_l hpw2 (by omega)) (pWs_r hpw2 hcn hmt)) (lw_V q365 q367 qs9 q50 q368) (n := 2) ⟨by decide, by decide, by decide +kernel⟩ rfl ⟨rfl, rfl, (Nat.le_of_ble_eq_true rfl), (Nat.le_of_ble_eq_true rfl), (Nat.le_of_ble_eq_true rfl), (Nat.le_of_ble_eq_true rfl)⟩ h.2.2 hA (ct_recv B h.1 kX2 3 rfl) h.1 hl.1 (Nat.le_of_ble_eq_true rfl) dX2_cell_228) (fun v hv => ?_)
                    subst hv
                    refine W.eq (g2 := F0 m 231 ls [.int (if (acc.getD k ([], false)).1 = w_.1 then 1 else 0)]) rfl ?_
                    refine b_if_eq (tgt := 240) hx hb dX2_cell_231 (by decide) (fun csame => ?_) (fun csame => ?_)
                    · refine n_iinc (n := 1) (lv' := [(6, .int (nI (k + 1))), (5, .int (nI 1)), (4, .int (nI w_.1.length)), (0, .ref (ad 3)), (1, .int (nI 1)), (2, .int (nI at_)), (3, .int (nI qb))]) hx hb dX2_cell_240 hl (k := 0) rfl rfl (by decide) (by decide) rfl (fun ls hl => ?_)
                      refine lv_goto (tgt := 208) hx hb dX2_cell_243 (by decide) ?_
                      exact ih_34 (k + 1) ls (by omega) ⟨lv_sub hl [0, 1, 2, 3, 4, 5, 6] rfl, by omega, fun j hj => by rcases Nat.lt_succ_iff_lt_or_eq.mp hj with q9 | q9; exact hno1 j q9; rw [q9]; exact csame⟩
                    · refine lv_aload_n hx hb dX2_cell_234 rfl (lv_at hl 3 rfl) ?_
                      refine lv_iload_n hx hb dX2_cell_235 rfl (lv_at hl 5 rfl) ?_
                      refine ct_callQ (ct_runV (As := [.int (nI at_)]) (rest := []) B (met_X2_wrong l E ad (tray, trayed, fed, place, picked, pcnt, column) O code splace T ((some (ad 1)), size, j, me, meant + w_.1.length, (upd starts cnt (nI meant)), (upd lens cnt (encL w_)), cnt, cols) R (nI at_) H.size) (lw_V q341 q343 qs4 q50 q344) (n := 1) ⟨by decide, by decide, by decide +kernel⟩ rfl ⟨rfl, rfl, (Nat.le_of_ble_eq_true rfl), (Nat.le_of_ble_eq_true rfl), (Nat.le_of_ble_eq_true rfl), (Nat.le_of_ble_eq_true rfl)⟩ h.2.2 hA (ct_recv B h.1 kX2 3 rfl) ⟨h.1, (ct_D0 h hA)⟩ hl.1 (Nat.le_of_ble_eq_true rfl) dX2_cell_236) h.2.2 (ct_sub h hAn) (ct_sub h hAn) (fun v H locs hv hz hk hS => ?_)
                      obtain ⟨rfl, hP1⟩ := hv
                      have h : Hs E A s.heap (xw E ad (tray, trayed, fed, place, picked, pcnt, column) O (20, (nI at_)) T ((some (ad 1)), size, j, me, meant + w_.1.length, (upd starts cnt (nI meant)), (upd lens cnt (encL w_)), cnt, cols) R) H locs := ct_again h hP1 rfl hS
                      clear hP1 hS hz hk
                      refine W.eq (g2 := F0 m 239 ls [.ref (ad 20)]) rfl ?_
                      exact ct_athrow B hno h.2.2 ⟨at_, ((some (ad 1)), size, j, me, meant + w_.1.length, (upd starts cnt (nI meant)), (upd lens cnt (encL w_)), cnt, cols), rfl, h.1, by rw [nameAt_i hwd, if_neg (fun q9 => q9 hend), if_pos (Or.inr (Or.inr (someSame (by omega) csame)))]⟩ dX2_cell_239
                · have hq2 : w_.2 = true := by rcases hqb with ⟨_, q9⟩ | ⟨q9, _⟩; exact q9; omega
                  refine lv_iload hx hb dX2_cell_193 (lv_at hl 1 rfl) ?_
                  refine lv_bipush (v := nI 64) hx hb dX2_cell_195 (by decide) ?_
                  refine n_iadd hx hb dX2_cell_197 ?_
                  refine lv_goto (tgt := 203) hx hb dX2_cell_198 (by decide) ?_
                  refine W.eq (g2 := F0 m 203 ls [.int (encL w_), .int (nI cnt), .ref (ad 9)]) (by rw [enc_q hq2] <;> rfl) ?_
                  refine lv_i2b (v := (encL w_)) hx hb dX2_cell_203 (enc_i8 (by omega)) ?_
                  refine ct_bast (ws' := xw E ad (tray, trayed, fed, place, picked, pcnt, column) O (code, splace) T ((some (ad 1)), size, j, me, meant + w_.1.length, (upd starts cnt (nI meant)), (upd lens cnt (encL w_)), cnt, cols) R) B h 9 rfl hc8 (by omega) (congrArg (fun z9 => (xw E ad (tray, trayed, fed, place, picked, pcnt, column) O (code, splace) T ((some (ad 1)), size, j, me, meant + w_.1.length, (upd starts cnt (nI meant)), z9, cnt, cols) R : va_W)) ((by rw [enc_b (by omega)] : upd lens cnt (vp_nar .byte (encL w_)) = upd lens cnt (encL w_)))) dX2_cell_204 (fun H locs h => ?_)
                  have hpw2 : pWs me (upd starts cnt (nI meant)) (upd lens cnt (encL w_)) (acc ++ [w_]) := pWs_snoc hpw (fun j hj => hme j (by omega)) (fun k hk => ⟨upd_n (by omega), upd_n (by omega)⟩) (by rw [← hcn, ← hmt]; exact pAt_of upd_s upd_s hmw hwr (by omega) (by omega))
                  refine lv_iconst (v := nI 0) hx hb dX2_cell_205 (by decide) ?_
                  refine lv_istore (lv' := [(6, .int (nI 0)), (5, .int (nI 1)), (4, .int (nI w_.1.length)), (0, .ref (ad 3)), (1, .int (nI 1)), (2, .int (nI at_)), (3, .int (nI qb))]) hx hb dX2_cell_206 hl (by decide) rfl (fun ls hl => ?_)
                  refine ct_loop (σ := Nat) (fun k ls => lv_has ls 7 [(6, .int (nI k)), (5, .int (nI 1)), (4, .int (nI w_.1.length)), (0, .ref (ad 3)), (1, .int (nI 1)), (2, .int (nI at_)), (3, .int (nI qb))] ∧ (k ≤ cnt) ∧ (∀ j, j < k → (acc.getD j ([], false)).1 ≠ w_.1)) (fun k => cnt - k) (g := fun k ls => F0 m 208 ls []) (x0 := 0) (ls0 := ls) ?_ ⟨lv_sub hl [0, 1, 2, 3, 4, 5, 6] rfl, Nat.zero_le _, fun j hj => absurd hj (Nat.not_lt_zero j)⟩
                  clear hl
                  intro k ls hI ih_37
                  obtain ⟨hl, hk, hno1⟩ := hI
                  refine W.eq (g2 := F0 m 208 ls []) rfl ?_
                  refine lv_iload hx hb dX2_cell_208 (lv_at hl 0 rfl) ?_
                  refine lv_aload_n hx hb dX2_cell_210 rfl (lv_at hl 3 rfl) ?_
                  refine ct_get (v := .int (nI cnt)) B h.1 kX2 3 rfl 11 (Nat.le_of_ble_eq_true rfl) q226 rfl dX2_cell_211 ?_
                  refine n_icmp_ge (tgt := 246) hx hb dX2_cell_214 (by decide) (by omega) (by omega) (fun c_38 => ?_) (fun c_38 => ?_)
                  · have hno2 : ∀ j, j < cnt → (acc.getD j ([], false)).1 ≠ w_.1 := fun j hj => hno1 j (by omega)
                    refine lv_aload_n hx hb dX2_cell_246 rfl (lv_at hl 3 rfl) ?_
                    refine lv_dup hx hb dX2_cell_247 rfl ?_
                    refine ct_get (v := .int (nI cnt)) B h.1 kX2 3 rfl 11 (Nat.le_of_ble_eq_true rfl) q226 rfl dX2_cell_248 ?_
                    refine lv_iconst (v := nI 1) hx hb dX2_cell_251 (by decide) ?_
                    refine n_iadd hx hb dX2_cell_252 ?_
                    refine ct_put (ws' := xw E ad (tray, trayed, fed, place, picked, pcnt, column) O (code, splace) T ((some (ad 1)), size, j, me, meant + w_.1.length, (upd starts cnt (nI meant)), (upd lens cnt (encL w_)), cnt + 1, cols) R) B h kX2 3 rfl 11 (Nat.le_of_ble_eq_true rfl) q226 rfl rfl rfl (Nat.le_of_ble_eq_true rfl) rfl dX2_cell_253 (fun H locs h => ?_)
                    exact ct_toX (ct_vret B h.2.2 ⟨w_, j, me, (upd starts cnt (nI meant)), (upd lens cnt (encL w_)), rfl, h.1, by rw [nameAt_i hwd, if_neg (fun q9 => q9 hend), if_neg (fun q9 => by rcases q9 with z9 | z9 | z9; omega; omega; exact noSame hcn hno2 z9)], hpw2, by have := hend.1; omega⟩ dX2_cell_256)
                  · refine lv_iload_n hx hb dX2_cell_217 rfl (lv_at hl 4 rfl) ?_
                    refine n_if_eq (tgt := 246) hx hb dX2_cell_218 (by decide) (by omega) (fun c_39 => absurd c_39 (by omega)) (fun c_39 => ?_)
                    refine lv_aload_n hx hb dX2_cell_221 rfl (lv_at hl 3 rfl) ?_
                    refine lv_iload hx hb dX2_cell_222 (lv_at hl 0 rfl) ?_
                    refine lv_aload_n hx hb dX2_cell_224 rfl (lv_at hl 3 rfl) ?_
                    refine ct_get (v := .int (nI cnt)) B h.1 kX2 3 rfl 11 (Nat.le_of_ble_eq_true rfl) q226 rfl dX2_cell_225 ?_
                    refine ct_callR (ct_runV (As := [.int (nI k), .int (nI cnt)]) (rest := []) B (met_X2_isSame l E ad (tray, trayed, fed, place, picked, pcnt, column) O (code, splace) T (some (ad 1)) size j me (meant + w_.1.length) (upd starts cnt (nI meant)) (upd lens cnt (encL w_)) cnt cols R k cnt (tot (acc.take k)) meant (acc.getD k ([], false)) w_ H.size (by omega) (by omega) (pWs_l hpw2 (by omega)) (pWs_r hpw2 hcn hmt)) (lw_V q365 q367 qs9 q50 q368) (n := 2) ⟨by decide, by decide, by decide +kernel⟩ rfl ⟨rfl, rfl, (Nat.le_of_ble_eq_true rfl), (Nat.le_of_ble_eq_true rfl), (Nat.le_of_ble_eq_true rfl), (Nat.le_of_ble_eq_true rfl)⟩ h.2.2 hA (ct_recv B h.1 kX2 3 rfl) h.1 hl.1 (Nat.le_of_ble_eq_true rfl) dX2_cell_228) (fun v hv => ?_)
                    subst hv
                    refine W.eq (g2 := F0 m 231 ls [.int (if (acc.getD k ([], false)).1 = w_.1 then 1 else 0)]) rfl ?_
                    refine b_if_eq (tgt := 240) hx hb dX2_cell_231 (by decide) (fun csame => ?_) (fun csame => ?_)
                    · refine n_iinc (n := 1) (lv' := [(6, .int (nI (k + 1))), (5, .int (nI 1)), (4, .int (nI w_.1.length)), (0, .ref (ad 3)), (1, .int (nI 1)), (2, .int (nI at_)), (3, .int (nI qb))]) hx hb dX2_cell_240 hl (k := 0) rfl rfl (by decide) (by decide) rfl (fun ls hl => ?_)
                      refine lv_goto (tgt := 208) hx hb dX2_cell_243 (by decide) ?_
                      exact ih_37 (k + 1) ls (by omega) ⟨lv_sub hl [0, 1, 2, 3, 4, 5, 6] rfl, by omega, fun j hj => by rcases Nat.lt_succ_iff_lt_or_eq.mp hj with q9 | q9; exact hno1 j q9; rw [q9]; exact csame⟩
                    · refine lv_aload_n hx hb dX2_cell_234 rfl (lv_at hl 3 rfl) ?_
                      refine lv_iload_n hx hb dX2_cell_235 rfl (lv_at hl 5 rfl) ?_
                      refine ct_callQ (ct_runV (As := [.int (nI at_)]) (rest := []) B (met_X2_wrong l E ad (tray, trayed, fed, place, picked, pcnt, column) O code splace T ((some (ad 1)), size, j, me, meant + w_.1.length, (upd starts cnt (nI meant)), (upd lens cnt (encL w_)), cnt, cols) R (nI at_) H.size) (lw_V q341 q343 qs4 q50 q344) (n := 1) ⟨by decide, by decide, by decide +kernel⟩ rfl ⟨rfl, rfl, (Nat.le_of_ble_eq_true rfl), (Nat.le_of_ble_eq_true rfl), (Nat.le_of_ble_eq_true rfl), (Nat.le_of_ble_eq_true rfl)⟩ h.2.2 hA (ct_recv B h.1 kX2 3 rfl) ⟨h.1, (ct_D0 h hA)⟩ hl.1 (Nat.le_of_ble_eq_true rfl) dX2_cell_236) h.2.2 (ct_sub h hAn) (ct_sub h hAn) (fun v H locs hv hz hk hS => ?_)
                      obtain ⟨rfl, hP1⟩ := hv
                      have h : Hs E A s.heap (xw E ad (tray, trayed, fed, place, picked, pcnt, column) O (20, (nI at_)) T ((some (ad 1)), size, j, me, meant + w_.1.length, (upd starts cnt (nI meant)), (upd lens cnt (encL w_)), cnt, cols) R) H locs := ct_again h hP1 rfl hS
                      clear hP1 hS hz hk
                      refine W.eq (g2 := F0 m 239 ls [.ref (ad 20)]) rfl ?_
                      exact ct_athrow B hno h.2.2 ⟨at_, ((some (ad 1)), size, j, me, meant + w_.1.length, (upd starts cnt (nI meant)), (upd lens cnt (encL w_)), cnt, cols), rfl, h.1, by rw [nameAt_i hwd, if_neg (fun q9 => q9 hend), if_pos (Or.inr (Or.inr (someSame (by omega) csame)))]⟩ dX2_cell_239
              · have hq2 : w_.2 = false := by rcases hqb with ⟨q9, _⟩ | ⟨_, q9⟩; omega; exact q9
                refine lv_iconst (v := (-1)) hx hb dX2_cell_185 (by decide) ?_
                refine lv_goto (tgt := 203) hx hb dX2_cell_186 (by decide) ?_
                refine W.eq (g2 := F0 m 203 ls [.int (encL w_), .int (nI cnt), .ref (ad 9)]) (by rw [enc_m1 (by omega) hq2] <;> rfl) ?_
                refine lv_i2b (v := (encL w_)) hx hb dX2_cell_203 (enc_i8 (by omega)) ?_
                refine ct_bast (ws' := xw E ad (tray, trayed, fed, place, picked, pcnt, column) O (code, splace) T ((some (ad 1)), size, j, me, meant + w_.1.length, (upd starts cnt (nI meant)), (upd lens cnt (encL w_)), cnt, cols) R) B h 9 rfl hc8 (by omega) (congrArg (fun z9 => (xw E ad (tray, trayed, fed, place, picked, pcnt, column) O (code, splace) T ((some (ad 1)), size, j, me, meant + w_.1.length, (upd starts cnt (nI meant)), z9, cnt, cols) R : va_W)) ((by rw [enc_b (by omega)] : upd lens cnt (vp_nar .byte (encL w_)) = upd lens cnt (encL w_)))) dX2_cell_204 (fun H locs h => ?_)
                have hpw2 : pWs me (upd starts cnt (nI meant)) (upd lens cnt (encL w_)) (acc ++ [w_]) := pWs_snoc hpw (fun j hj => hme j (by omega)) (fun k hk => ⟨upd_n (by omega), upd_n (by omega)⟩) (by rw [← hcn, ← hmt]; exact pAt_of upd_s upd_s hmw hwr (by omega) (by omega))
                refine lv_iconst (v := nI 0) hx hb dX2_cell_205 (by decide) ?_
                refine lv_istore (lv' := [(6, .int (nI 0)), (5, .int (nI 1)), (4, .int (nI w_.1.length)), (0, .ref (ad 3)), (1, .int (nI 1)), (2, .int (nI at_)), (3, .int (nI qb))]) hx hb dX2_cell_206 hl (by decide) rfl (fun ls hl => ?_)
                refine ct_loop (σ := Nat) (fun k ls => lv_has ls 7 [(6, .int (nI k)), (5, .int (nI 1)), (4, .int (nI w_.1.length)), (0, .ref (ad 3)), (1, .int (nI 1)), (2, .int (nI at_)), (3, .int (nI qb))] ∧ (k ≤ cnt) ∧ (∀ j, j < k → (acc.getD j ([], false)).1 ≠ w_.1)) (fun k => cnt - k) (g := fun k ls => F0 m 208 ls []) (x0 := 0) (ls0 := ls) ?_ ⟨lv_sub hl [0, 1, 2, 3, 4, 5, 6] rfl, Nat.zero_le _, fun j hj => absurd hj (Nat.not_lt_zero j)⟩
                clear hl
                intro k ls hI ih_40
                obtain ⟨hl, hk, hno1⟩ := hI
                refine W.eq (g2 := F0 m 208 ls []) rfl ?_
                refine lv_iload hx hb dX2_cell_208 (lv_at hl 0 rfl) ?_
                refine lv_aload_n hx hb dX2_cell_210 rfl (lv_at hl 3 rfl) ?_
                refine ct_get (v := .int (nI cnt)) B h.1 kX2 3 rfl 11 (Nat.le_of_ble_eq_true rfl) q226 rfl dX2_cell_211 ?_
                refine n_icmp_ge (tgt := 246) hx hb dX2_cell_214 (by decide) (by omega) (by omega) (fun c_41 => ?_) (fun c_41 => ?_)
                · have hno2 : ∀ j, j < cnt → (acc.getD j ([], false)).1 ≠ w_.1 := fun j hj => hno1 j (by omega)
                  refine lv_aload_n hx hb dX2_cell_246 rfl (lv_at hl 3 rfl) ?_
                  refine lv_dup hx hb dX2_cell_247 rfl ?_
                  refine ct_get (v := .int (nI cnt)) B h.1 kX2 3 rfl 11 (Nat.le_of_ble_eq_true rfl) q226 rfl dX2_cell_248 ?_
                  refine lv_iconst (v := nI 1) hx hb dX2_cell_251 (by decide) ?_
                  refine n_iadd hx hb dX2_cell_252 ?_
                  refine ct_put (ws' := xw E ad (tray, trayed, fed, place, picked, pcnt, column) O (code, splace) T ((some (ad 1)), size, j, me, meant + w_.1.length, (upd starts cnt (nI meant)), (upd lens cnt (encL w_)), cnt + 1, cols) R) B h kX2 3 rfl 11 (Nat.le_of_ble_eq_true rfl) q226 rfl rfl rfl (Nat.le_of_ble_eq_true rfl) rfl dX2_cell_253 (fun H locs h => ?_)
                  exact ct_toX (ct_vret B h.2.2 ⟨w_, j, me, (upd starts cnt (nI meant)), (upd lens cnt (encL w_)), rfl, h.1, by rw [nameAt_i hwd, if_neg (fun q9 => q9 hend), if_neg (fun q9 => by rcases q9 with z9 | z9 | z9; omega; omega; exact noSame hcn hno2 z9)], hpw2, by have := hend.1; omega⟩ dX2_cell_256)
                · refine lv_iload_n hx hb dX2_cell_217 rfl (lv_at hl 4 rfl) ?_
                  refine n_if_eq (tgt := 246) hx hb dX2_cell_218 (by decide) (by omega) (fun c_42 => absurd c_42 (by omega)) (fun c_42 => ?_)
                  refine lv_aload_n hx hb dX2_cell_221 rfl (lv_at hl 3 rfl) ?_
                  refine lv_iload hx hb dX2_cell_222 (lv_at hl 0 rfl) ?_
                  refine lv_aload_n hx hb dX2_cell_224 rfl (lv_at hl 3 rfl) ?_
                  refine ct_get (v := .int (nI cnt)) B h.1 kX2 3 rfl 11 (Nat.le_of_ble_eq_true rfl) q226 rfl dX2_cell_225 ?_
                  refine ct_callR (ct_runV (As := [.int (nI k), .int (nI cnt)]) (rest := []) B (met_X2_isSame l E ad (tray, trayed, fed, place, picked, pcnt, column) O (code, splace) T (some (ad 1)) size j me (meant + w_.1.length) (upd starts cnt (nI meant)) (upd lens cnt (encL w_)) cnt cols R k cnt (tot (acc.take k)) meant (acc.getD k ([], false)) w_ H.size (by omega) (by omega) (pWs_l hpw2 (by omega)) (pWs_r hpw2 hcn hmt)) (lw_V q365 q367 qs9 q50 q368) (n := 2) ⟨by decide, by decide, by decide +kernel⟩ rfl ⟨rfl, rfl, (Nat.le_of_ble_eq_true rfl), (Nat.le_of_ble_eq_true rfl), (Nat.le_of_ble_eq_true rfl), (Nat.le_of_ble_eq_true rfl)⟩ h.2.2 hA (ct_recv B h.1 kX2 3 rfl) h.1 hl.1 (Nat.le_of_ble_eq_true rfl) dX2_cell_228) (fun v hv => ?_)
                  subst hv
                  refine W.eq (g2 := F0 m 231 ls [.int (if (acc.getD k ([], false)).1 = w_.1 then 1 else 0)]) rfl ?_
                  refine b_if_eq (tgt := 240) hx hb dX2_cell_231 (by decide) (fun csame => ?_) (fun csame => ?_)
                  · refine n_iinc (n := 1) (lv' := [(6, .int (nI (k + 1))), (5, .int (nI 1)), (4, .int (nI w_.1.length)), (0, .ref (ad 3)), (1, .int (nI 1)), (2, .int (nI at_)), (3, .int (nI qb))]) hx hb dX2_cell_240 hl (k := 0) rfl rfl (by decide) (by decide) rfl (fun ls hl => ?_)
                    refine lv_goto (tgt := 208) hx hb dX2_cell_243 (by decide) ?_
                    exact ih_40 (k + 1) ls (by omega) ⟨lv_sub hl [0, 1, 2, 3, 4, 5, 6] rfl, by omega, fun j hj => by rcases Nat.lt_succ_iff_lt_or_eq.mp hj with q9 | q9; exact hno1 j q9; rw [q9]; exact csame⟩
                  · refine lv_aload_n hx hb dX2_cell_234 rfl (lv_at hl 3 rfl) ?_
                    refine lv_iload_n hx hb dX2_cell_235 rfl (lv_at hl 5 rfl) ?_
                    refine ct_callQ (ct_runV (As := [.int (nI at_)]) (rest := []) B (met_X2_wrong l E ad (tray, trayed, fed, place, picked, pcnt, column) O code splace T ((some (ad 1)), size, j, me, meant + w_.1.length, (upd starts cnt (nI meant)), (upd lens cnt (encL w_)), cnt, cols) R (nI at_) H.size) (lw_V q341 q343 qs4 q50 q344) (n := 1) ⟨by decide, by decide, by decide +kernel⟩ rfl ⟨rfl, rfl, (Nat.le_of_ble_eq_true rfl), (Nat.le_of_ble_eq_true rfl), (Nat.le_of_ble_eq_true rfl), (Nat.le_of_ble_eq_true rfl)⟩ h.2.2 hA (ct_recv B h.1 kX2 3 rfl) ⟨h.1, (ct_D0 h hA)⟩ hl.1 (Nat.le_of_ble_eq_true rfl) dX2_cell_236) h.2.2 (ct_sub h hAn) (ct_sub h hAn) (fun v H locs hv hz hk hS => ?_)
                    obtain ⟨rfl, hP1⟩ := hv
                    have h : Hs E A s.heap (xw E ad (tray, trayed, fed, place, picked, pcnt, column) O (20, (nI at_)) T ((some (ad 1)), size, j, me, meant + w_.1.length, (upd starts cnt (nI meant)), (upd lens cnt (encL w_)), cnt, cols) R) H locs := ct_again h hP1 rfl hS
                    clear hP1 hS hz hk
                    refine W.eq (g2 := F0 m 239 ls [.ref (ad 20)]) rfl ?_
                    exact ct_athrow B hno h.2.2 ⟨at_, ((some (ad 1)), size, j, me, meant + w_.1.length, (upd starts cnt (nI meant)), (upd lens cnt (encL w_)), cnt, cols), rfl, h.1, by rw [nameAt_i hwd, if_neg (fun q9 => q9 hend), if_pos (Or.inr (Or.inr (someSame (by omega) csame)))]⟩ dX2_cell_239
          · refine lv_aload_n hx hb dX2_cell_162 rfl (lv_at hl 2 rfl) ?_
            refine lv_iload_n hx hb dX2_cell_163 rfl (lv_at hl 4 rfl) ?_
            refine ct_callQ (ct_runV (As := [.int (nI at_)]) (rest := []) B (met_X2_wrong l E ad (tray, trayed, fed, place, picked, pcnt, column) O code splace T ((some (ad 1)), size, j, me, meant + w_.1.length, (upd starts cnt (nI meant)), lens, cnt, cols) R (nI at_) H.size) (lw_V q341 q343 qs4 q50 q344) (n := 1) ⟨by decide, by decide, by decide +kernel⟩ rfl ⟨rfl, rfl, (Nat.le_of_ble_eq_true rfl), (Nat.le_of_ble_eq_true rfl), (Nat.le_of_ble_eq_true rfl), (Nat.le_of_ble_eq_true rfl)⟩ h.2.2 hA (ct_recv B h.1 kX2 3 rfl) ⟨h.1, (ct_D0 h hA)⟩ hl.1 (Nat.le_of_ble_eq_true rfl) dX2_cell_164) h.2.2 (ct_sub h hAn) (ct_sub h hAn) (fun v H locs hv hz hk hS => ?_)
            obtain ⟨rfl, hP1⟩ := hv
            have h : Hs E A s.heap (xw E ad (tray, trayed, fed, place, picked, pcnt, column) O (20, (nI at_)) T ((some (ad 1)), size, j, me, meant + w_.1.length, (upd starts cnt (nI meant)), lens, cnt, cols) R) H locs := ct_again h hP1 rfl hS
            clear hP1 hS hz hk
            refine W.eq (g2 := F0 m 167 ls [.ref (ad 20)]) rfl ?_
            exact ct_athrow B hno h.2.2 ⟨at_, ((some (ad 1)), size, j, me, meant + w_.1.length, (upd starts cnt (nI meant)), lens, cnt, cols), rfl, h.1, by rw [nameAt_i hwd, if_neg (fun q9 => q9 hend), if_pos (by omega)]⟩ dX2_cell_167
  · refine lv_aload_n hx hb dX2_cell_13 rfl (lv_at hl 0 rfl) ?_
    refine ct_callR (ct_runV (As := []) (rest := []) B (met_X2_lookT l E ad tray trayed fed place picked pcnt column O (code, splace) T size at_ means meant (upd starts cnt (nI meant)) lens cnt cols R t H.size htx hsz_ (by omega)) (lw_V q353 q355 qs6 q50 q356) (n := 0) ⟨by decide, by decide, by decide +kernel⟩ rfl ⟨rfl, rfl, (Nat.le_of_ble_eq_true rfl), (Nat.le_of_ble_eq_true rfl), (Nat.le_of_ble_eq_true rfl), (Nat.le_of_ble_eq_true rfl)⟩ h.2.2 hA (ct_recv B h.1 kX2 3 rfl) h.1 hl.1 (Nat.le_of_ble_eq_true rfl) dX2_cell_14) (fun v hv => ?_)
    subst hv
    refine W.eq (g2 := F0 m 17 ls [.int (lkI t at_)]) rfl ?_
    refine lv_bipush (v := nI 34) hx hb dX2_cell_17 (by decide) ?_
    refine k_icmp_ne (tgt := 26) hx hb dX2_cell_19 (by decide) htb (by decide) (fun cq => ?_) (fun cq => ?_)
    · refine lv_iconst (v := nI 0) hx hb dX2_cell_26 (by decide) ?_
      refine lv_istore_n (lv' := [(3, .int (nI 0)), (0, .ref (ad 3)), (1, .int (nI 1)), (2, .int (nI at_))]) hx hb dX2_cell_27 rfl hl (by decide) rfl (fun ls hl => ?_)
      refine lv_iload_n hx hb dX2_cell_28 rfl (lv_at hl 0 rfl) ?_
      refine n_if_eq (tgt := 39) hx hb dX2_cell_29 (by decide) (by omega) (fun c_43 => ?_) (fun c_43 => absurd c_43 (by omega))
      refine ct_loopH (σ := Nat × Nat × List Nat × (Nat → Int32)) (fun (i, mt, u, me) H locs ls => lv_has ls 7 [(3, .int (nI 0)), (0, .ref (ad 3)), (1, .int (nI 1)), (2, .int (nI at_))] ∧ Hs E A s.heap (xw E ad (tray, trayed, fed, place, picked, pcnt, column) O (code, splace) T ((some (ad 1)), size, i, me, mt, (upd starts cnt (nI meant)), lens, cnt, cols) R) H locs ∧ (plain t at_ = u ++ plain t i) ∧ (i = at_ + u.length) ∧ (i ≤ size) ∧ (mt = meant + u.length) ∧ (∀ k, k < meant → me k = means k) ∧ (∀ k, k < u.length → me (meant + k) = nI (u.getD k 0)) ∧ (∀ x ∈ u, 32 ≤ x ∧ x ≤ 126)) (fun (i, mt, u, me) => size - i) (fun _ => 0) (fun _ => 0) (g := fun (i, mt, u, me) ls => F0 m 39 ls []) (x0 := (at_, meant, [], means)) (ls0 := ls) ?_ ⟨lv_sub hl [0, 1, 2, 3] rfl, h, rfl, rfl, hat, rfl, fun _ _ => rfl, fun j hj => absurd hj (Nat.not_lt_zero j), fun x hx => by cases hx⟩
      clear hl h
      intro x9 H locs ls hI ih_44
      obtain ⟨i, mt, u, me⟩ := x9
      obtain ⟨hl, h, hpl, hi_, hi2, hmt_, hme, hmu, hur⟩ := hI
      refine W.eq (g2 := F0 m 39 ls []) rfl ?_
      refine lv_aload_n hx hb dX2_cell_39 rfl (lv_at hl 1 rfl) ?_
      refine ct_callR (ct_runV (As := []) (rest := []) B (met_X2_lookT l E ad tray trayed fed place picked pcnt column O (code, splace) T size i me mt (upd starts cnt (nI meant)) lens cnt cols R t H.size htx hsz_ (by omega)) (lw_V q353 q355 qs6 q50 q356) (n := 0) ⟨by decide, by decide, by decide +kernel⟩ rfl ⟨rfl, rfl, (Nat.le_of_ble_eq_true rfl), (Nat.le_of_ble_eq_true rfl), (Nat.le_of_ble_eq_true rfl), (Nat.le_of_ble_eq_true rfl)⟩ h.2.2 hA (ct_recv B h.1 kX2 3 rfl) h.1 hl.1 (Nat.le_of_ble_eq_true rfl) dX2_cell_40) (fun v hv => ?_)
      subst hv
      refine W.eq (g2 := F0 m 43 ls [.int (lkI t i)]) rfl ?_
      refine lv_bipush (v := nI 32) hx hb dX2_cell_43 (by decide) ?_
      refine k_icmp_lt (tgt := 82) hx hb dX2_cell_45 (by decide) htb (by decide) (fun c32 => ?_) (fun c32 => ?_)
      · subst hmt_
        exact hJ_1 ((u, false), i, me, 0) H locs ls ⟨lv_sub hl [1, 2, 3, 0] rfl, h, word_u cq hpl (fun q9 => by have := c32 q9.1; omega) hi_, hme, hmu, hur, by dsimp only; omega, Or.inr ⟨rfl, rfl⟩⟩
      · refine lv_aload_n hx hb dX2_cell_48 rfl (lv_at hl 1 rfl) ?_
        refine ct_callR (ct_runV (As := []) (rest := []) B (met_X2_lookT l E ad tray trayed fed place picked pcnt column O (code, splace) T size i me mt (upd starts cnt (nI meant)) lens cnt cols R t H.size htx hsz_ (by omega)) (lw_V q353 q355 qs6 q50 q356) (n := 0) ⟨by decide, by decide, by decide +kernel⟩ rfl ⟨rfl, rfl, (Nat.le_of_ble_eq_true rfl), (Nat.le_of_ble_eq_true rfl), (Nat.le_of_ble_eq_true rfl), (Nat.le_of_ble_eq_true rfl)⟩ h.2.2 hA (ct_recv B h.1 kX2 3 rfl) h.1 hl.1 (Nat.le_of_ble_eq_true rfl) dX2_cell_49) (fun v hv => ?_)
        subst hv
        refine W.eq (g2 := F0 m 52 ls [.int (lkI t i)]) rfl ?_
        refine lv_bipush (v := nI 126) hx hb dX2_cell_52 (by decide) ?_
        refine k_icmp_gt (tgt := 82) hx hb dX2_cell_54 (by decide) htb (by decide) (fun c126 => ?_) (fun c126 => ?_)
        · subst hmt_
          exact hJ_1 ((u, false), i, me, 0) H locs ls ⟨lv_sub hl [1, 2, 3, 0] rfl, h, word_u cq hpl (fun q9 => by omega) hi_, hme, hmu, hur, by dsimp only; omega, Or.inr ⟨rfl, rfl⟩⟩
        · refine lv_aload_n hx hb dX2_cell_57 rfl (lv_at hl 1 rfl) ?_
          refine ct_callR (ct_runV (As := []) (rest := []) B (met_X2_lookT l E ad tray trayed fed place picked pcnt column O (code, splace) T size i me mt (upd starts cnt (nI meant)) lens cnt cols R t H.size htx hsz_ (by omega)) (lw_V q353 q355 qs6 q50 q356) (n := 0) ⟨by decide, by decide, by decide +kernel⟩ rfl ⟨rfl, rfl, (Nat.le_of_ble_eq_true rfl), (Nat.le_of_ble_eq_true rfl), (Nat.le_of_ble_eq_true rfl), (Nat.le_of_ble_eq_true rfl)⟩ h.2.2 hA (ct_recv B h.1 kX2 3 rfl) h.1 hl.1 (Nat.le_of_ble_eq_true rfl) dX2_cell_58) (fun v hv => ?_)
          subst hv
          refine W.eq (g2 := F0 m 61 ls [.int (lkI t i)]) rfl ?_
          refine lv_bipush (v := nI 34) hx hb dX2_cell_61 (by decide) ?_
          refine k_icmp_eq (tgt := 82) hx hb dX2_cell_63 (by decide) htb (by decide) (fun c34 => ?_) (fun c34 => ?_)
          · subst hmt_
            exact hJ_1 ((u, false), i, me, 0) H locs ls ⟨lv_sub hl [1, 2, 3, 0] rfl, h, word_u cq hpl (fun q9 => q9.2.2.2.1 c34.2) hi_, hme, hmu, hur, by dsimp only; omega, Or.inr ⟨rfl, rfl⟩⟩
          · refine lv_aload_n hx hb dX2_cell_66 rfl (lv_at hl 1 rfl) ?_
            refine ct_callR (ct_runV (As := []) (rest := []) B (met_X2_lookT l E ad tray trayed fed place picked pcnt column O (code, splace) T size i me mt (upd starts cnt (nI meant)) lens cnt cols R t H.size htx hsz_ (by omega)) (lw_V q353 q355 qs6 q50 q356) (n := 0) ⟨by decide, by decide, by decide +kernel⟩ rfl ⟨rfl, rfl, (Nat.le_of_ble_eq_true rfl), (Nat.le_of_ble_eq_true rfl), (Nat.le_of_ble_eq_true rfl), (Nat.le_of_ble_eq_true rfl)⟩ h.2.2 hA (ct_recv B h.1 kX2 3 rfl) h.1 hl.1 (Nat.le_of_ble_eq_true rfl) dX2_cell_67) (fun v hv => ?_)
            subst hv
            refine W.eq (g2 := F0 m 70 ls [.int (lkI t i)]) rfl ?_
            refine lv_bipush (v := nI 44) hx hb dX2_cell_70 (by decide) ?_
            refine k_icmp_eq (tgt := 82) hx hb dX2_cell_72 (by decide) htb (by decide) (fun c44 => ?_) (fun c44 => ?_)
            · subst hmt_
              exact hJ_1 ((u, false), i, me, 0) H locs ls ⟨lv_sub hl [1, 2, 3, 0] rfl, h, word_u cq hpl (fun q9 => q9.2.2.2.2 c44.2) hi_, hme, hmu, hur, by dsimp only; omega, Or.inr ⟨rfl, rfl⟩⟩
            · refine lv_aload_n hx hb dX2_cell_75 rfl (lv_at hl 1 rfl) ?_
              refine ct_callQ (ct_runV (As := []) (rest := []) B (met_X2_mean l E ad tray trayed fed place picked pcnt column O (code, splace) T size i me mt (upd starts cnt (nI meant)) lens cnt cols R  H.size (by omega) (by omega)) (lw_V q361 q363 qs8 q50 q364) (n := 0) ⟨by decide, by decide, by decide +kernel⟩ rfl ⟨rfl, rfl, (Nat.le_of_ble_eq_true rfl), (Nat.le_of_ble_eq_true rfl), (Nat.le_of_ble_eq_true rfl), (Nat.le_of_ble_eq_true rfl)⟩ h.2.2 hA (ct_recv B h.1 kX2 3 rfl) ⟨h.1, (ct_D0 h hA)⟩ hl.1 (Nat.le_of_ble_eq_true rfl) dX2_cell_76) h.2.2 (ct_sub h hAn) (ct_sub h hAn) (fun v H locs hv hz hk hS => ?_)
              obtain ⟨rfl, hP1⟩ := hv
              have h : Hs E A s.heap (xw E ad (tray, trayed, fed, place, picked, pcnt, column) O (code, splace) T ((some (ad 1)), size, i + 1, upd me mt (vp_nar .byte (tray i)), mt + 1, (upd starts cnt (nI meant)), lens, cnt, cols) R) H locs := ct_again h hP1 rfl hS
              clear hP1 hS hz hk
              refine W.eq (g2 := F0 m 79 ls []) rfl ?_
              rw [show vp_nar .byte (tray i) = nI (t.getD i 0) from by rw [txR_ok htx (by omega) (by omega)]; exact vp_b (by omega)] at h
              refine lv_goto (tgt := 39) hx hb dX2_cell_79 (by decide) ?_
              exact ih_44 ((i + 1), (mt + 1), (u ++ [t.getD i 0]), (upd me mt (nI (t.getD i 0)))) H locs ls (by dsimp only; omega) ⟨lv_sub hl [0, 1, 2, 3] rfl, h, by rw [hpl, plain_S (by omega) (by refine ⟨by omega, by omega, fun q9 => c34 ⟨by omega, q9⟩, fun q9 => c44 ⟨by omega, q9⟩⟩), List.append_assoc]; rfl, by rw [List.length_append, List.length_singleton]; omega, by omega, by rw [List.length_append, List.length_singleton]; omega, (fun j hj => by rw [upd_n (by omega)]; exact hme j hj), (me_snoc hmt_ hmu), (rg_snoc hur (by omega))⟩
    · refine lv_iconst (v := nI 1) hx hb dX2_cell_22 (by decide) ?_
      refine lv_goto (tgt := 27) hx hb dX2_cell_23 (by decide) ?_
      refine lv_istore_n (lv' := [(3, .int (nI 1)), (0, .ref (ad 3)), (1, .int (nI 1)), (2, .int (nI at_))]) hx hb dX2_cell_27 rfl hl (by decide) rfl (fun ls hl => ?_)
      refine lv_iload_n hx hb dX2_cell_28 rfl (lv_at hl 0 rfl) ?_
      refine n_if_eq (tgt := 39) hx hb dX2_cell_29 (by decide) (by omega) (fun c_45 => absurd c_45 (by omega)) (fun c_45 => ?_)
      refine lv_aload_n hx hb dX2_cell_32 rfl (lv_at hl 1 rfl) ?_
      refine ct_callX B hno (ct_runXV (As := []) (rest := []) B (met_X2_quoted l E ad tray trayed fed place picked pcnt column O code splace T size at_ means meant (upd starts cnt (nI meant)) lens cnt cols R t H.size htx hsz_ (by omega) hto) (lw_V q357 q359 qs7 q50 q360) (n := 0) ⟨by decide, by decide, by decide +kernel⟩ rfl ⟨rfl, rfl, (Nat.le_of_ble_eq_true rfl), (Nat.le_of_ble_eq_true rfl), (Nat.le_of_ble_eq_true rfl), (Nat.le_of_ble_eq_true rfl)⟩ h.2.2 hA (ct_recv B h.1 kX2 3 rfl) ⟨h.1, (ct_D0 h hA)⟩ hl.1 (Nat.le_of_ble_eq_true rfl) dX2_cell_33) h.2.2 (ct_sub h hAn) (ct_sub h hAn) (Nat.le_of_ble_eq_true rfl) (Nat.le_of_ble_eq_true rfl) (fun x H locs hv hz hk hS => ?_) (fun v H locs hv hz hk hS => ?_)
      · obtain ⟨pl_46, P2_47, rfl, hP1, hth⟩ := hv
        exact ⟨pl_46, (P2_47.1, P2_47.2.1, P2_47.2.2.1, P2_47.2.2.2.1, P2_47.2.2.2.2.1, P2_47.2.2.2.2.2.1, P2_47.2.2.2.2.2.2.1, P2_47.2.2.2.2.2.2.2.1, P2_47.2.2.2.2.2.2.2.2), rfl, hP1, nameAt_e (word_qe cq hth)⟩
      obtain ⟨u_q, i_q, me_q, rfl, hP1, hsq, hmeq, hmuq, hurq, hiq⟩ := hv
      have h : Hs E A s.heap (xw E ad (tray, trayed, fed, place, picked, pcnt, column) O (code, splace) T ((some (ad 1)), size, i_q, me_q, meant + u_q.length, (upd starts cnt (nI meant)), lens, cnt, cols) R) H locs := ct_again h hP1 rfl hS
      clear hP1 hS hz hk
      refine W.eq (g2 := F0 m 36 ls []) rfl ?_
      refine lv_goto (tgt := 82) hx hb dX2_cell_36 (by decide) ?_
      exact hJ_1 ((u_q, true), i_q, me_q, 1) H locs ls ⟨lv_sub hl [1, 2, 3, 0] rfl, h, word_q cq hsq, hmeq, hmuq, hurq, hiq, Or.inl ⟨rfl, rfl⟩⟩
