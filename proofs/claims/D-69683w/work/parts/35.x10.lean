set_option maxHeartbeats 4000000 in
set_option maxRecDepth 100000 in
theorem met_X2_line_0 (l : Launch) (E : CE) (ad : Nat → Nat) (tray : Nat → Int32) (trayed : Nat) (fed : Nat) (place : Int32) (picked : Nat → Int64) (pcnt : Nat) (column : Nat → Int64) (O : XO) (code : Int32) (splace : Int32) (T : XT) (size : Nat) (at_ : Nat) (means : Nat → Int32) (meant : Nat) (starts : Nat → Int32) (lens : Nat → Int32) (cnt : Nat) (cols : Nat) (R : XR) (t : List Nat) (acc : List Wd) (sz : Nat) (htx : txR tray size t) (hsz_ : size ≤ 16000) (hat : at_ ≤ size) (hto : meant ≤ at_) (hcn : cnt = acc.length) (hmt : meant = tot acc) (hcs : 1 ≤ cols ∧ cols ≤ 16) (hc8 : cnt + cols ≤ 8000) (hpw : pWs means starts lens acc) : MetX l yX2_line (ws_ yX2_line cX2_line 5 none) { frames := 4, cells := 0, slots := 0, locals := 91 } (ctP E [.ref (ad 3), .int (nI 0)] sz (fun H => va_P E.1 ct_cl (xw E ad (tray, trayed, fed, place, picked, pcnt, column) O (code, splace) T ((some (ad 1)), size, at_, means, meant, starts, lens, cnt, cols) R) H ∧ va_D (fun q => E.2.2.1 ≤ q) (xw E ad (tray, trayed, fed, place, picked, pcnt, column) O (code, splace) T ((some (ad 1)), size, at_, means, meant, starts, lens, cnt, cols) R))) (ctX (fun v H => ∃ ws2 : List Wd, ∃ j2 : Nat, ∃ cn2 : Nat, ∃ mt2 : Nat, ∃ me2 : Nat → Int32, ∃ st2 : Nat → Int32, ∃ le2 : Nat → Int32, v = none ∧ va_P E.1 ct_cl (xw E ad (tray, trayed, fed, place, picked, pcnt, column) O (code, splace) T ((some (ad 1)), size, j2, me2, mt2, st2, le2, cn2, cols) R) H ∧ cellLine t cols at_ [] = .inr (ws2, j2) ∧ cn2 = ((acc ++ ws2)).length ∧ mt2 = tot ((acc ++ ws2)) ∧ pWs me2 st2 le2 ((acc ++ ws2)) ∧ (mt2 ≤ j2 ∧ j2 ≤ size) ∧ ws2.length = cols) (fun x H => ∃ pl : Nat, ∃ P2 : XP, x = ad 20 ∧ va_P E.1 ct_cl (xw E ad (tray, trayed, fed, place, picked, pcnt, column) O (20, (nI pl)) T (P2.1, P2.2.1, P2.2.2.1, P2.2.2.2.1, P2.2.2.2.2.1, P2.2.2.2.2.2.1, P2.2.2.2.2.2.2.1, P2.2.2.2.2.2.2.2.1, P2.2.2.2.2.2.2.2.2) R) H ∧ cellLine t cols at_ [] = .inl pl) (va_A (xw E ad (tray, trayed, fed, place, picked, pcnt, column) O (code, splace) T ((some (ad 1)), size, at_, means, meant, starts, lens, cnt, cols) R) sz)) 0 0 (va_A (xw E ad (tray, trayed, fed, place, picked, pcnt, column) O (code, splace) T ((some (ad 1)), size, at_, means, meant, starts, lens, cnt, cols) R) sz) := by
  refine ct_startX (by decide) (Nat.le_of_ble_eq_true rfl) ?_
  intro p e s m below meth c ls B hno hsz hH hl
  obtain ⟨hP, hD⟩ := hH
  obtain ⟨A, hAe, h, hA, hAn⟩ := ct_enter B.2.2.2.2.2.2.2.2 hsz hP hD
  rw [hAe]
  refine ct_gen h (fun H locs h => ?_)
  have hx := B.1
  have hb := B.2.1
  have hl : lv_has ls 5 [(0, .ref (ad 3)), (1, .int (nI 0))] := hl
  have htb := txR_lt htx
  have htl := htx.1
  refine lv_aload_n hx hb dX2_line_0 rfl (lv_at hl 0 rfl) ?_
  refine ct_get (v := .int (nI cnt)) B h.1 kX2 3 rfl 11 (Nat.le_of_ble_eq_true rfl) q226 rfl dX2_line_1 ?_
  refine lv_istore_n (lv' := [(2, .int (nI cnt)), (0, .ref (ad 3)), (1, .int (nI 0))]) hx hb dX2_line_4 rfl hl (by decide) rfl (fun ls hl => ?_)
  refine lv_iconst (v := nI 1) hx hb dX2_line_5 (by decide) ?_
  refine lv_istore_n (lv' := [(3, .int (nI 1)), (2, .int (nI cnt)), (0, .ref (ad 3)), (1, .int (nI 0))]) hx hb dX2_line_6 rfl hl (by decide) rfl (fun ls hl => ?_)
  refine ct_loopH (σ := Nat × Nat × Nat × Nat × List Wd × (Nat → Int32) × (Nat → Int32) × (Nat → Int32)) (fun (mo, i, cn, mt, ws, me, st, le) H locs ls => lv_has ls 5 [(3, .int (nI mo)), (2, .int (nI cnt)), (0, .ref (ad 3)), (1, .int (nI 0))] ∧ Hs E A s.heap (xw E ad (tray, trayed, fed, place, picked, pcnt, column) O (code, splace) T ((some (ad 1)), size, i, me, mt, st, le, cn, cols) R) H locs ∧ (cn = (acc ++ ws).length) ∧ (mt = tot (acc ++ ws)) ∧ (pWs me st le (acc ++ ws)) ∧ (ws.length ≤ cols) ∧ (mt ≤ i ∧ i ≤ size) ∧ ((mo = 1 ∧ cellLine t cols at_ [] = cellLine t (cols - ws.length) i ws) ∨ (mo = 0 ∧ i < t.length ∧ t.getD i 0 = 10 ∧ 0 < ws.length ∧ cellLine t cols at_ [] = (if cols - ws.length ≠ 0 then .inl i else .inr (ws, i + 1))))) (fun (mo, i, cn, mt, ws, me, st, le) => cols + 1 - ws.length) (fun _ => 0) (fun _ => 0) (g := fun (mo, i, cn, mt, ws, me, st, le) ls => F0 m 7 ls []) (x0 := (1, at_, cnt, meant, [], means, starts, lens)) (ls0 := ls) ?_ ⟨lv_sub hl [0, 1, 2, 3] rfl, h, by first | exact hcn | (rw [List.append_nil]; exact hcn), by first | exact hmt | (rw [List.append_nil]; exact hmt), by first | exact hpw | (rw [List.append_nil]; exact hpw), Nat.zero_le _, by omega, Or.inl ⟨rfl, rfl⟩⟩
  clear hl h
  intro x9 H locs ls hI ih_1
  obtain ⟨mo, i, cn, mt, ws, me, st, le⟩ := x9
  obtain ⟨hl, h, hcn_, hmt_, hpw_, hwl, hi, hs_⟩ := hI
  refine W.eq (g2 := F0 m 7 ls []) rfl ?_
  refine lv_iload_n hx hb dX2_line_7 rfl (lv_at hl 0 rfl) ?_
  refine n_if_eq (tgt := 76) hx hb dX2_line_8 (by decide) (by omega) (fun cmo => ?_) (fun cmo => ?_)
  · have hs0 : i < t.length ∧ t.getD i 0 = 10 ∧ 0 < ws.length := by rcases hs_ with ⟨q9, _⟩ | ⟨_, q9, q8, q7, _⟩; exact absurd q9 (by omega); exact ⟨q9, q8, q7⟩
    have hs1 : cellLine t cols at_ [] = (if cols - ws.length ≠ 0 then .inl i else .inr (ws, i + 1)) := by rcases hs_ with ⟨q9, _⟩ | ⟨_, _, _, _, q9⟩; exact absurd q9 (by omega); exact q9
    have hcl : cn = cnt + ws.length := by rw [hcn_]; first | (rw [List.length_append]; omega) | omega
    refine lv_aload_n hx hb dX2_line_76 rfl (lv_at hl 2 rfl) ?_
    refine ct_callR (ct_runV (As := []) (rest := []) B (met_X2_lookT l E ad tray trayed fed place picked pcnt column O (code, splace) T size i me mt st le cn cols R t H.size htx hsz_ (by omega)) (lw_V q353 q355 qs6 q50 q356) (n := 0) ⟨by decide, by decide, by decide +kernel⟩ rfl ⟨rfl, rfl, (Nat.le_of_ble_eq_true rfl), (Nat.le_of_ble_eq_true rfl), (Nat.le_of_ble_eq_true rfl), (Nat.le_of_ble_eq_true rfl)⟩ h.2.2 hA (ct_recv B h.1 kX2 3 rfl) h.1 hl.1 (Nat.le_of_ble_eq_true rfl) dX2_line_77) (fun v hv => ?_)
    subst hv
    refine W.eq (g2 := F0 m 80 ls [.int (lkI t i)]) rfl ?_
    refine lv_bipush (v := nI 10) hx hb dX2_line_80 (by decide) ?_
    refine k_icmp_ne (tgt := 102) hx hb dX2_line_82 (by decide) htb (by decide) (fun c_2 => absurd c_2 (fun q9 => q9 ⟨hs0.1, hs0.2.1⟩)) (fun c_2 => ?_)
    refine lv_aload_n hx hb dX2_line_85 rfl (lv_at hl 2 rfl) ?_
    refine ct_get (v := .int (nI cn)) B h.1 kX2 3 rfl 11 (Nat.le_of_ble_eq_true rfl) q226 rfl dX2_line_86 ?_
    refine lv_iload_n hx hb dX2_line_89 rfl (lv_at hl 1 rfl) ?_
    refine n_isub hx hb (by omega) dX2_line_90 ?_
    refine lv_aload_n hx hb dX2_line_91 rfl (lv_at hl 2 rfl) ?_
    refine ct_get (v := .int (nI cols)) B h.1 kX2 3 rfl 12 (Nat.le_of_ble_eq_true rfl) q227 rfl dX2_line_92 ?_
    refine n_icmp_ge (tgt := 111) hx hb dX2_line_95 (by decide) (by omega) (by omega) (fun cfu => ?_) (fun cfu => ?_)
    · refine lv_aload_n hx hb dX2_line_111 rfl (lv_at hl 2 rfl) ?_
      refine lv_dup hx hb dX2_line_112 rfl ?_
      refine ct_get (v := .int (nI i)) B h.1 kX2 3 rfl 6 (Nat.le_of_ble_eq_true rfl) q221 rfl dX2_line_113 ?_
      refine lv_iconst (v := nI 1) hx hb dX2_line_116 (by decide) ?_
      refine n_iadd hx hb dX2_line_117 ?_
      refine ct_put (ws' := xw E ad (tray, trayed, fed, place, picked, pcnt, column) O (code, splace) T ((some (ad 1)), size, i + 1, me, mt, st, le, cn, cols) R) B h kX2 3 rfl 6 (Nat.le_of_ble_eq_true rfl) q221 rfl rfl rfl (Nat.le_of_ble_eq_true rfl) rfl dX2_line_118 (fun H locs h => ?_)
      exact ct_toX (ct_vret B h.2.2 ⟨ws, (i + 1), cn, mt, me, st, le, rfl, h.1, hs1.trans (if_neg (by omega)), hcn_, hmt_, hpw_, by omega, by omega⟩ dX2_line_121)
    · refine lv_iload_n hx hb dX2_line_98 rfl (lv_at hl 3 rfl) ?_
      refine n_if_ne (tgt := 111) hx hb dX2_line_99 (by decide) (by omega) (fun c_3 => absurd c_3 (by omega)) (fun c_3 => ?_)
      refine lv_aload_n hx hb dX2_line_102 rfl (lv_at hl 2 rfl) ?_
      refine lv_aload_n hx hb dX2_line_103 rfl (lv_at hl 2 rfl) ?_
      refine ct_get (v := .int (nI i)) B h.1 kX2 3 rfl 6 (Nat.le_of_ble_eq_true rfl) q221 rfl dX2_line_104 ?_
      refine ct_callQ (ct_runV (As := [.int (nI i)]) (rest := []) B (met_X2_wrong l E ad (tray, trayed, fed, place, picked, pcnt, column) O code splace T ((some (ad 1)), size, i, me, mt, st, le, cn, cols) R (nI i) H.size) (lw_V q341 q343 qs4 q50 q344) (n := 1) ⟨by decide, by decide, by decide +kernel⟩ rfl ⟨rfl, rfl, (Nat.le_of_ble_eq_true rfl), (Nat.le_of_ble_eq_true rfl), (Nat.le_of_ble_eq_true rfl), (Nat.le_of_ble_eq_true rfl)⟩ h.2.2 hA (ct_recv B h.1 kX2 3 rfl) ⟨h.1, (ct_D0 h hA)⟩ hl.1 (Nat.le_of_ble_eq_true rfl) dX2_line_107) h.2.2 (ct_sub h hAn) (ct_sub h hAn) (fun v H locs hv hz hk hS => ?_)
      obtain ⟨rfl, hP1⟩ := hv
      have h : Hs E A s.heap (xw E ad (tray, trayed, fed, place, picked, pcnt, column) O (20, (nI i)) T ((some (ad 1)), size, i, me, mt, st, le, cn, cols) R) H locs := ct_again h hP1 rfl hS
      clear hP1 hS hz hk
      refine W.eq (g2 := F0 m 110 ls [.ref (ad 20)]) rfl ?_
      exact ct_athrow B hno h.2.2 ⟨i, ((some (ad 1)), size, i, me, mt, st, le, cn, cols), rfl, h.1, hs1.trans (if_pos (by omega))⟩ dX2_line_110
  · have hs1 : cellLine t cols at_ [] = cellLine t (cols - ws.length) i ws := by rcases hs_ with ⟨_, q9⟩ | ⟨q9, _⟩; exact q9; exact absurd q9 cmo
    have hcl : cn = cnt + ws.length := by rw [hcn_]; first | (rw [List.length_append]; omega) | omega
    refine lv_aload_n hx hb dX2_line_11 rfl (lv_at hl 2 rfl) ?_
    refine ct_get (v := .int (nI i)) B h.1 kX2 3 rfl 6 (Nat.le_of_ble_eq_true rfl) q221 rfl dX2_line_12 ?_
    refine lv_istore (lv' := [(4, .int (nI i)), (3, .int (nI mo)), (2, .int (nI cnt)), (0, .ref (ad 3)), (1, .int (nI 0))]) hx hb dX2_line_15 hl (by decide) rfl (fun ls hl => ?_)
    refine lv_aload_n hx hb dX2_line_17 rfl (lv_at hl 3 rfl) ?_
    refine ct_get (v := .int (nI cn)) B h.1 kX2 3 rfl 11 (Nat.le_of_ble_eq_true rfl) q226 rfl dX2_line_18 ?_
    refine lv_iload_n hx hb dX2_line_21 rfl (lv_at hl 2 rfl) ?_
    refine n_isub hx hb (by omega) dX2_line_22 ?_
    refine lv_aload_n hx hb dX2_line_23 rfl (lv_at hl 3 rfl) ?_
    refine ct_get (v := .int (nI cols)) B h.1 kX2 3 rfl 12 (Nat.le_of_ble_eq_true rfl) q227 rfl dX2_line_24 ?_
    refine n_icmp_ne (tgt := 37) hx hb dX2_line_27 (by decide) (by omega) (by omega) (fun c_4 => ?_) (fun c_4 => ?_)
    · refine lv_aload_n hx hb dX2_line_37 rfl (lv_at hl 3 rfl) ?_
      refine lv_iload_n hx hb dX2_line_38 rfl (lv_at hl 4 rfl) ?_
      refine lv_iload hx hb dX2_line_39 (lv_at hl 0 rfl) ?_
      refine ct_callX B hno (ct_runXV (As := [.int (nI 0), .int (nI i)]) (rest := []) B (met_X2_cell_0 l E ad tray trayed fed place picked pcnt column O code splace T size i me mt st le cn cols R t (acc ++ ws) H.size htx hsz_ (by omega) (by omega) hcn_ hmt_ (by omega) hpw_) (lw_V q349 q351 qs5 q50 q352) (n := 2) ⟨by decide, by decide, by decide +kernel⟩ rfl ⟨rfl, rfl, (Nat.le_of_ble_eq_true rfl), (Nat.le_of_ble_eq_true rfl), (Nat.le_of_ble_eq_true rfl), (Nat.le_of_ble_eq_true rfl)⟩ h.2.2 hA (ct_recv B h.1 kX2 3 rfl) ⟨h.1, (ct_D0 h hA)⟩ hl.1 (Nat.le_of_ble_eq_true rfl) dX2_line_41) h.2.2 (ct_sub h hAn) (ct_sub h hAn) (Nat.le_of_ble_eq_true rfl) (Nat.le_of_ble_eq_true rfl) (fun x H locs hv hz hk hS => ?_) (fun v H locs hv hz hk hS => ?_)
      · obtain ⟨pl_5, P2_6, rfl, hP1, hth⟩ := hv
        exact ⟨pl_5, (P2_6.1, P2_6.2.1, P2_6.2.2.1, P2_6.2.2.2.1, P2_6.2.2.2.2.1, P2_6.2.2.2.2.2.1, P2_6.2.2.2.2.2.2.1, P2_6.2.2.2.2.2.2.2.1, P2_6.2.2.2.2.2.2.2.2), rfl, hP1, hs1.trans (cellLine_E (by omega) hth)⟩
      obtain ⟨w_c, j_c, me_c, st_c, le_c, rfl, hP1, hce, hpw2, hj2⟩ := hv
      have h : Hs E A s.heap (xw E ad (tray, trayed, fed, place, picked, pcnt, column) O (code, splace) T ((some (ad 1)), size, j_c, me_c, mt + w_c.1.length, st_c, le_c, cn + 1, cols) R) H locs := ct_again h hP1 rfl hS
      clear hP1 hS hz hk
      refine W.eq (g2 := F0 m 44 ls []) rfl ?_
      have hed := (cellAt_ends hce).1
      refine lv_aload_n hx hb dX2_line_44 rfl (lv_at hl 3 rfl) ?_
      refine ct_callR (ct_runV (As := []) (rest := []) B (met_X2_lookT l E ad tray trayed fed place picked pcnt column O (code, splace) T size j_c me_c (mt + w_c.1.length) st_c le_c (cn + 1) cols R t H.size htx hsz_ (by omega)) (lw_V q353 q355 qs6 q50 q356) (n := 0) ⟨by decide, by decide, by decide +kernel⟩ rfl ⟨rfl, rfl, (Nat.le_of_ble_eq_true rfl), (Nat.le_of_ble_eq_true rfl), (Nat.le_of_ble_eq_true rfl), (Nat.le_of_ble_eq_true rfl)⟩ h.2.2 hA (ct_recv B h.1 kX2 3 rfl) h.1 hl.1 (Nat.le_of_ble_eq_true rfl) dX2_line_45) (fun v hv => ?_)
      subst hv
      refine W.eq (g2 := F0 m 48 ls [.int (lkI t j_c)]) rfl ?_
      refine lv_bipush (v := nI 44) hx hb dX2_line_48 (by decide) ?_
      refine k_icmp_ne (tgt := 57) hx hb dX2_line_50 (by decide) htb (by decide) (fun cma => ?_) (fun cma => ?_)
      · have hn44 : ¬ t.getD j_c 0 = 44 := fun q9 => cma ⟨hed.1, q9⟩
        have h10 : t.getD j_c 0 = 10 := by rcases hed.2 with q9 | q9; exact absurd q9 hn44; exact q9
        refine lv_iconst (v := nI 0) hx hb dX2_line_57 (by decide) ?_
        refine lv_istore_n (lv' := [(3, .int (nI 0)), (4, .int (nI i)), (2, .int (nI cnt)), (0, .ref (ad 3)), (1, .int (nI 0))]) hx hb dX2_line_58 rfl hl (by decide) rfl (fun ls hl => ?_)
        refine lv_iload_n hx hb dX2_line_59 rfl (lv_at hl 0 rfl) ?_
        refine n_if_eq (tgt := 73) hx hb dX2_line_60 (by decide) (by omega) (fun c_7 => ?_) (fun c_7 => absurd c_7 (by omega))
        refine lv_goto (tgt := 7) hx hb dX2_line_73 (by decide) ?_
        exact ih_1 (0, j_c, (cn + 1), (mt + w_c.1.length), (ws ++ [w_c]), me_c, st_c, le_c) H locs ls (by dsimp only; simp only [List.length_append, List.length_singleton]; omega) ⟨lv_sub hl [0, 2, 3, 4] rfl, h, by rw [← List.append_assoc, List.length_append, List.length_singleton]; omega, by rw [← List.append_assoc, tot_snoc]; omega, by first | exact hpw2 | (rw [← List.append_assoc]; exact hpw2), by rw [List.length_append, List.length_singleton]; omega, by omega, Or.inr ⟨rfl, by omega, h10, by rw [List.length_append, List.length_singleton]; omega, hs1.trans (((cellLine_S (by omega) hce).trans (if_neg hn44)).trans (by rw [List.length_append, List.length_singleton, Nat.sub_sub]))⟩⟩
      · refine lv_iconst (v := nI 1) hx hb dX2_line_53 (by decide) ?_
        refine lv_goto (tgt := 58) hx hb dX2_line_54 (by decide) ?_
        refine lv_istore_n (lv' := [(3, .int (nI 1)), (4, .int (nI i)), (2, .int (nI cnt)), (0, .ref (ad 3)), (1, .int (nI 0))]) hx hb dX2_line_58 rfl hl (by decide) rfl (fun ls hl => ?_)
        refine lv_iload_n hx hb dX2_line_59 rfl (lv_at hl 0 rfl) ?_
        refine n_if_eq (tgt := 73) hx hb dX2_line_60 (by decide) (by omega) (fun c_8 => absurd c_8 (by omega)) (fun c_8 => ?_)
        refine lv_aload_n hx hb dX2_line_63 rfl (lv_at hl 3 rfl) ?_
        refine lv_dup hx hb dX2_line_64 rfl ?_
        refine ct_get (v := .int (nI j_c)) B h.1 kX2 3 rfl 6 (Nat.le_of_ble_eq_true rfl) q221 rfl dX2_line_65 ?_
        refine lv_iconst (v := nI 1) hx hb dX2_line_68 (by decide) ?_
        refine n_iadd hx hb dX2_line_69 ?_
        refine ct_put (ws' := xw E ad (tray, trayed, fed, place, picked, pcnt, column) O (code, splace) T ((some (ad 1)), size, j_c + 1, me_c, mt + w_c.1.length, st_c, le_c, cn + 1, cols) R) B h kX2 3 rfl 6 (Nat.le_of_ble_eq_true rfl) q221 rfl rfl rfl (Nat.le_of_ble_eq_true rfl) rfl dX2_line_70 (fun H locs h => ?_)
        refine lv_goto (tgt := 7) hx hb dX2_line_73 (by decide) ?_
        exact ih_1 (1, (j_c + 1), (cn + 1), (mt + w_c.1.length), (ws ++ [w_c]), me_c, st_c, le_c) H locs ls (by dsimp only; simp only [List.length_append, List.length_singleton]; omega) ⟨lv_sub hl [0, 2, 3, 4] rfl, h, by rw [← List.append_assoc, List.length_append, List.length_singleton]; omega, by rw [← List.append_assoc, tot_snoc]; omega, by first | exact hpw2 | (rw [← List.append_assoc]; exact hpw2), by rw [List.length_append, List.length_singleton]; omega, by omega, Or.inl ⟨rfl, hs1.trans (((cellLine_S (by omega) hce).trans (if_pos cma.2)).trans (by rw [List.length_append, List.length_singleton, Nat.sub_sub]))⟩⟩
    · refine lv_aload_n hx hb dX2_line_30 rfl (lv_at hl 3 rfl) ?_
      refine lv_iload hx hb dX2_line_31 (lv_at hl 0 rfl) ?_
      refine ct_callQ (ct_runV (As := [.int (nI i)]) (rest := []) B (met_X2_wrong l E ad (tray, trayed, fed, place, picked, pcnt, column) O code splace T ((some (ad 1)), size, i, me, mt, st, le, cn, cols) R (nI i) H.size) (lw_V q341 q343 qs4 q50 q344) (n := 1) ⟨by decide, by decide, by decide +kernel⟩ rfl ⟨rfl, rfl, (Nat.le_of_ble_eq_true rfl), (Nat.le_of_ble_eq_true rfl), (Nat.le_of_ble_eq_true rfl), (Nat.le_of_ble_eq_true rfl)⟩ h.2.2 hA (ct_recv B h.1 kX2 3 rfl) ⟨h.1, (ct_D0 h hA)⟩ hl.1 (Nat.le_of_ble_eq_true rfl) dX2_line_33) h.2.2 (ct_sub h hAn) (ct_sub h hAn) (fun v H locs hv hz hk hS => ?_)
      obtain ⟨rfl, hP1⟩ := hv
      have h : Hs E A s.heap (xw E ad (tray, trayed, fed, place, picked, pcnt, column) O (20, (nI i)) T ((some (ad 1)), size, i, me, mt, st, le, cn, cols) R) H locs := ct_again h hP1 rfl hS
      clear hP1 hS hz hk
      refine W.eq (g2 := F0 m 36 ls [.ref (ad 20)]) rfl ?_
      exact ct_athrow B hno h.2.2 ⟨i, ((some (ad 1)), size, i, me, mt, st, le, cn, cols), rfl, h.1, hs1.trans (cellLine_0 (by omega))⟩ dX2_line_36
set_option maxHeartbeats 4000000 in
set_option maxRecDepth 100000 in
theorem met_X2_line_1 (l : Launch) (E : CE) (ad : Nat → Nat) (tray : Nat → Int32) (trayed : Nat) (fed : Nat) (place : Int32) (picked : Nat → Int64) (pcnt : Nat) (column : Nat → Int64) (O : XO) (code : Int32) (splace : Int32) (T : XT) (size : Nat) (at_ : Nat) (means : Nat → Int32) (meant : Nat) (starts : Nat → Int32) (lens : Nat → Int32) (cnt : Nat) (R : XR) (t : List Nat) (sz : Nat) (htx : txR tray size t) (hsz_ : size ≤ 16000) (hat : at_ ≤ size) (hto : meant ≤ at_) (hcn : cnt = 0) (hmt : meant = 0) : MetX l yX2_line (ws_ yX2_line cX2_line 5 none) { frames := 4, cells := 0, slots := 0, locals := 91 } (ctP E [.ref (ad 3), .int (nI 1)] sz (fun H => va_P E.1 ct_cl (xw E ad (tray, trayed, fed, place, picked, pcnt, column) O (code, splace) T ((some (ad 1)), size, at_, means, meant, starts, lens, cnt, 16) R) H ∧ va_D (fun q => E.2.2.1 ≤ q) (xw E ad (tray, trayed, fed, place, picked, pcnt, column) O (code, splace) T ((some (ad 1)), size, at_, means, meant, starts, lens, cnt, 16) R))) (ctX (fun v H => ∃ ws2 : List Wd, ∃ j2 : Nat, ∃ cn2 : Nat, ∃ mt2 : Nat, ∃ me2 : Nat → Int32, ∃ st2 : Nat → Int32, ∃ le2 : Nat → Int32, v = none ∧ va_P E.1 ct_cl (xw E ad (tray, trayed, fed, place, picked, pcnt, column) O (code, splace) T ((some (ad 1)), size, j2, me2, mt2, st2, le2, cn2, 16) R) H ∧ nameLine t 16 at_ [] = .inr (ws2, j2) ∧ cn2 = (ws2).length ∧ mt2 = tot (ws2) ∧ pWs me2 st2 le2 (ws2) ∧ (mt2 ≤ j2 ∧ j2 ≤ size) ∧ (1 ≤ ws2.length ∧ ws2.length ≤ 16)) (fun x H => ∃ pl : Nat, ∃ P2 : XP, x = ad 20 ∧ va_P E.1 ct_cl (xw E ad (tray, trayed, fed, place, picked, pcnt, column) O (20, (nI pl)) T (P2.1, P2.2.1, P2.2.2.1, P2.2.2.2.1, P2.2.2.2.2.1, P2.2.2.2.2.2.1, P2.2.2.2.2.2.2.1, P2.2.2.2.2.2.2.2.1, P2.2.2.2.2.2.2.2.2) R) H ∧ nameLine t 16 at_ [] = .inl pl) (va_A (xw E ad (tray, trayed, fed, place, picked, pcnt, column) O (code, splace) T ((some (ad 1)), size, at_, means, meant, starts, lens, cnt, 16) R) sz)) 0 0 (va_A (xw E ad (tray, trayed, fed, place, picked, pcnt, column) O (code, splace) T ((some (ad 1)), size, at_, means, meant, starts, lens, cnt, 16) R) sz) := by
  refine ct_startX (by decide) (Nat.le_of_ble_eq_true rfl) ?_
  intro p e s m below meth c ls B hno hsz hH hl
  obtain ⟨hP, hD⟩ := hH
  obtain ⟨A, hAe, h, hA, hAn⟩ := ct_enter B.2.2.2.2.2.2.2.2 hsz hP hD
  rw [hAe]
  refine ct_gen h (fun H locs h => ?_)
  have hx := B.1
  have hb := B.2.1
  have hl : lv_has ls 5 [(0, .ref (ad 3)), (1, .int (nI 1))] := hl
  have htb := txR_lt htx
  have htl := htx.1
  have hpw : pWs means starts lens [] := pWs_0
  refine lv_aload_n hx hb dX2_line_0 rfl (lv_at hl 0 rfl) ?_
  refine ct_get (v := .int (nI cnt)) B h.1 kX2 3 rfl 11 (Nat.le_of_ble_eq_true rfl) q226 rfl dX2_line_1 ?_
  refine lv_istore_n (lv' := [(2, .int (nI cnt)), (0, .ref (ad 3)), (1, .int (nI 1))]) hx hb dX2_line_4 rfl hl (by decide) rfl (fun ls hl => ?_)
  refine lv_iconst (v := nI 1) hx hb dX2_line_5 (by decide) ?_
  refine lv_istore_n (lv' := [(3, .int (nI 1)), (2, .int (nI cnt)), (0, .ref (ad 3)), (1, .int (nI 1))]) hx hb dX2_line_6 rfl hl (by decide) rfl (fun ls hl => ?_)
  refine ct_loopH (σ := Nat × Nat × Nat × Nat × List Wd × (Nat → Int32) × (Nat → Int32) × (Nat → Int32)) (fun (mo, i, cn, mt, ws, me, st, le) H locs ls => lv_has ls 5 [(3, .int (nI mo)), (2, .int (nI cnt)), (0, .ref (ad 3)), (1, .int (nI 1))] ∧ Hs E A s.heap (xw E ad (tray, trayed, fed, place, picked, pcnt, column) O (code, splace) T ((some (ad 1)), size, i, me, mt, st, le, cn, 16) R) H locs ∧ (cn = ws.length) ∧ (mt = tot ws) ∧ (pWs me st le ws) ∧ (ws.length ≤ 16) ∧ (mt ≤ i ∧ i ≤ size) ∧ ((mo = 1 ∧ nameLine t 16 at_ [] = nameLine t (16 - ws.length) i ws) ∨ (mo = 0 ∧ i < t.length ∧ t.getD i 0 = 10 ∧ 0 < ws.length ∧ nameLine t 16 at_ [] = .inr (ws, i + 1)))) (fun (mo, i, cn, mt, ws, me, st, le) => 16 + 1 - ws.length) (fun _ => 0) (fun _ => 0) (g := fun (mo, i, cn, mt, ws, me, st, le) ls => F0 m 7 ls []) (x0 := (1, at_, cnt, meant, [], means, starts, lens)) (ls0 := ls) ?_ ⟨lv_sub hl [0, 1, 2, 3] rfl, h, by first | exact hcn | (rw [List.append_nil]; exact hcn), by first | exact hmt | (rw [List.append_nil]; exact hmt), by first | exact hpw | (rw [List.append_nil]; exact hpw), Nat.zero_le _, by omega, Or.inl ⟨rfl, rfl⟩⟩
  clear hl h
  intro x9 H locs ls hI ih_1
  obtain ⟨mo, i, cn, mt, ws, me, st, le⟩ := x9
  obtain ⟨hl, h, hcn_, hmt_, hpw_, hwl, hi, hs_⟩ := hI
  refine W.eq (g2 := F0 m 7 ls []) rfl ?_
  refine lv_iload_n hx hb dX2_line_7 rfl (lv_at hl 0 rfl) ?_
  refine n_if_eq (tgt := 76) hx hb dX2_line_8 (by decide) (by omega) (fun cmo => ?_) (fun cmo => ?_)
  · have hs0 : i < t.length ∧ t.getD i 0 = 10 ∧ 0 < ws.length := by rcases hs_ with ⟨q9, _⟩ | ⟨_, q9, q8, q7, _⟩; exact absurd q9 (by omega); exact ⟨q9, q8, q7⟩
    have hs1 : nameLine t 16 at_ [] = .inr (ws, i + 1) := by rcases hs_ with ⟨q9, _⟩ | ⟨_, _, _, _, q9⟩; exact absurd q9 (by omega); exact q9
    have hcl : cn = cnt + ws.length := by rw [hcn_]; first | (rw [List.length_append]; omega) | omega
    refine lv_aload_n hx hb dX2_line_76 rfl (lv_at hl 2 rfl) ?_
    refine ct_callR (ct_runV (As := []) (rest := []) B (met_X2_lookT l E ad tray trayed fed place picked pcnt column O (code, splace) T size i me mt st le cn 16 R t H.size htx hsz_ (by omega)) (lw_V q353 q355 qs6 q50 q356) (n := 0) ⟨by decide, by decide, by decide +kernel⟩ rfl ⟨rfl, rfl, (Nat.le_of_ble_eq_true rfl), (Nat.le_of_ble_eq_true rfl), (Nat.le_of_ble_eq_true rfl), (Nat.le_of_ble_eq_true rfl)⟩ h.2.2 hA (ct_recv B h.1 kX2 3 rfl) h.1 hl.1 (Nat.le_of_ble_eq_true rfl) dX2_line_77) (fun v hv => ?_)
    subst hv
    refine W.eq (g2 := F0 m 80 ls [.int (lkI t i)]) rfl ?_
    refine lv_bipush (v := nI 10) hx hb dX2_line_80 (by decide) ?_
    refine k_icmp_ne (tgt := 102) hx hb dX2_line_82 (by decide) htb (by decide) (fun c_2 => absurd c_2 (fun q9 => q9 ⟨hs0.1, hs0.2.1⟩)) (fun c_2 => ?_)
    refine lv_aload_n hx hb dX2_line_85 rfl (lv_at hl 2 rfl) ?_
    refine ct_get (v := .int (nI cn)) B h.1 kX2 3 rfl 11 (Nat.le_of_ble_eq_true rfl) q226 rfl dX2_line_86 ?_
    refine lv_iload_n hx hb dX2_line_89 rfl (lv_at hl 1 rfl) ?_
    refine n_isub hx hb (by omega) dX2_line_90 ?_
    refine lv_aload_n hx hb dX2_line_91 rfl (lv_at hl 2 rfl) ?_
    refine ct_get (v := .int (nI 16)) B h.1 kX2 3 rfl 12 (Nat.le_of_ble_eq_true rfl) q227 rfl dX2_line_92 ?_
    refine n_icmp_ge (tgt := 111) hx hb dX2_line_95 (by decide) (by omega) (by omega) (fun cfu => ?_) (fun cfu => ?_)
    · refine lv_aload_n hx hb dX2_line_111 rfl (lv_at hl 2 rfl) ?_
      refine lv_dup hx hb dX2_line_112 rfl ?_
      refine ct_get (v := .int (nI i)) B h.1 kX2 3 rfl 6 (Nat.le_of_ble_eq_true rfl) q221 rfl dX2_line_113 ?_
      refine lv_iconst (v := nI 1) hx hb dX2_line_116 (by decide) ?_
      refine n_iadd hx hb dX2_line_117 ?_
      refine ct_put (ws' := xw E ad (tray, trayed, fed, place, picked, pcnt, column) O (code, splace) T ((some (ad 1)), size, i + 1, me, mt, st, le, cn, 16) R) B h kX2 3 rfl 6 (Nat.le_of_ble_eq_true rfl) q221 rfl rfl rfl (Nat.le_of_ble_eq_true rfl) rfl dX2_line_118 (fun H locs h => ?_)
      exact ct_toX (ct_vret B h.2.2 ⟨ws, (i + 1), cn, mt, me, st, le, rfl, h.1, hs1, hcn_, hmt_, hpw_, by omega, by omega⟩ dX2_line_121)
    · refine lv_iload_n hx hb dX2_line_98 rfl (lv_at hl 3 rfl) ?_
      refine n_if_ne (tgt := 111) hx hb dX2_line_99 (by decide) (by omega) (fun c_3 => ?_) (fun c_3 => absurd c_3 (by omega))
      refine lv_aload_n hx hb dX2_line_111 rfl (lv_at hl 2 rfl) ?_
      refine lv_dup hx hb dX2_line_112 rfl ?_
      refine ct_get (v := .int (nI i)) B h.1 kX2 3 rfl 6 (Nat.le_of_ble_eq_true rfl) q221 rfl dX2_line_113 ?_
      refine lv_iconst (v := nI 1) hx hb dX2_line_116 (by decide) ?_
      refine n_iadd hx hb dX2_line_117 ?_
      refine ct_put (ws' := xw E ad (tray, trayed, fed, place, picked, pcnt, column) O (code, splace) T ((some (ad 1)), size, i + 1, me, mt, st, le, cn, 16) R) B h kX2 3 rfl 6 (Nat.le_of_ble_eq_true rfl) q221 rfl rfl rfl (Nat.le_of_ble_eq_true rfl) rfl dX2_line_118 (fun H locs h => ?_)
      exact ct_toX (ct_vret B h.2.2 ⟨ws, (i + 1), cn, mt, me, st, le, rfl, h.1, hs1, hcn_, hmt_, hpw_, by omega, by omega⟩ dX2_line_121)
  · have hs1 : nameLine t 16 at_ [] = nameLine t (16 - ws.length) i ws := by rcases hs_ with ⟨_, q9⟩ | ⟨q9, _⟩; exact q9; exact absurd q9 cmo
    have hcl : cn = cnt + ws.length := by rw [hcn_]; first | (rw [List.length_append]; omega) | omega
    refine lv_aload_n hx hb dX2_line_11 rfl (lv_at hl 2 rfl) ?_
    refine ct_get (v := .int (nI i)) B h.1 kX2 3 rfl 6 (Nat.le_of_ble_eq_true rfl) q221 rfl dX2_line_12 ?_
    refine lv_istore (lv' := [(4, .int (nI i)), (3, .int (nI mo)), (2, .int (nI cnt)), (0, .ref (ad 3)), (1, .int (nI 1))]) hx hb dX2_line_15 hl (by decide) rfl (fun ls hl => ?_)
    refine lv_aload_n hx hb dX2_line_17 rfl (lv_at hl 3 rfl) ?_
    refine ct_get (v := .int (nI cn)) B h.1 kX2 3 rfl 11 (Nat.le_of_ble_eq_true rfl) q226 rfl dX2_line_18 ?_
    refine lv_iload_n hx hb dX2_line_21 rfl (lv_at hl 2 rfl) ?_
    refine n_isub hx hb (by omega) dX2_line_22 ?_
    refine lv_aload_n hx hb dX2_line_23 rfl (lv_at hl 3 rfl) ?_
    refine ct_get (v := .int (nI 16)) B h.1 kX2 3 rfl 12 (Nat.le_of_ble_eq_true rfl) q227 rfl dX2_line_24 ?_
    refine n_icmp_ne (tgt := 37) hx hb dX2_line_27 (by decide) (by omega) (by omega) (fun c_4 => ?_) (fun c_4 => ?_)
    · refine lv_aload_n hx hb dX2_line_37 rfl (lv_at hl 3 rfl) ?_
      refine lv_iload_n hx hb dX2_line_38 rfl (lv_at hl 4 rfl) ?_
      refine lv_iload hx hb dX2_line_39 (lv_at hl 0 rfl) ?_
      refine ct_callX B hno (ct_runXV (As := [.int (nI 1), .int (nI i)]) (rest := []) B (met_X2_cell_1 l E ad tray trayed fed place picked pcnt column O code splace T size i me mt st le cn 16 R t ws H.size htx hsz_ (by omega) (by omega) hcn_ hmt_ (by omega) hpw_) (lw_V q349 q351 qs5 q50 q352) (n := 2) ⟨by decide, by decide, by decide +kernel⟩ rfl ⟨rfl, rfl, (Nat.le_of_ble_eq_true rfl), (Nat.le_of_ble_eq_true rfl), (Nat.le_of_ble_eq_true rfl), (Nat.le_of_ble_eq_true rfl)⟩ h.2.2 hA (ct_recv B h.1 kX2 3 rfl) ⟨h.1, (ct_D0 h hA)⟩ hl.1 (Nat.le_of_ble_eq_true rfl) dX2_line_41) h.2.2 (ct_sub h hAn) (ct_sub h hAn) (Nat.le_of_ble_eq_true rfl) (Nat.le_of_ble_eq_true rfl) (fun x H locs hv hz hk hS => ?_) (fun v H locs hv hz hk hS => ?_)
      · obtain ⟨pl_5, P2_6, rfl, hP1, hth⟩ := hv
        exact ⟨pl_5, (P2_6.1, P2_6.2.1, P2_6.2.2.1, P2_6.2.2.2.1, P2_6.2.2.2.2.1, P2_6.2.2.2.2.2.1, P2_6.2.2.2.2.2.2.1, P2_6.2.2.2.2.2.2.2.1, P2_6.2.2.2.2.2.2.2.2), rfl, hP1, hs1.trans (nameLine_E (by omega) hth)⟩
      obtain ⟨w_c, j_c, me_c, st_c, le_c, rfl, hP1, hce, hpw2, hj2⟩ := hv
      have h : Hs E A s.heap (xw E ad (tray, trayed, fed, place, picked, pcnt, column) O (code, splace) T ((some (ad 1)), size, j_c, me_c, mt + w_c.1.length, st_c, le_c, cn + 1, 16) R) H locs := ct_again h hP1 rfl hS
      clear hP1 hS hz hk
      refine W.eq (g2 := F0 m 44 ls []) rfl ?_
      have hed := (nameAt_ends hce).1
      refine lv_aload_n hx hb dX2_line_44 rfl (lv_at hl 3 rfl) ?_
      refine ct_callR (ct_runV (As := []) (rest := []) B (met_X2_lookT l E ad tray trayed fed place picked pcnt column O (code, splace) T size j_c me_c (mt + w_c.1.length) st_c le_c (cn + 1) 16 R t H.size htx hsz_ (by omega)) (lw_V q353 q355 qs6 q50 q356) (n := 0) ⟨by decide, by decide, by decide +kernel⟩ rfl ⟨rfl, rfl, (Nat.le_of_ble_eq_true rfl), (Nat.le_of_ble_eq_true rfl), (Nat.le_of_ble_eq_true rfl), (Nat.le_of_ble_eq_true rfl)⟩ h.2.2 hA (ct_recv B h.1 kX2 3 rfl) h.1 hl.1 (Nat.le_of_ble_eq_true rfl) dX2_line_45) (fun v hv => ?_)
      subst hv
      refine W.eq (g2 := F0 m 48 ls [.int (lkI t j_c)]) rfl ?_
      refine lv_bipush (v := nI 44) hx hb dX2_line_48 (by decide) ?_
      refine k_icmp_ne (tgt := 57) hx hb dX2_line_50 (by decide) htb (by decide) (fun cma => ?_) (fun cma => ?_)
      · have hn44 : ¬ t.getD j_c 0 = 44 := fun q9 => cma ⟨hed.1, q9⟩
        have h10 : t.getD j_c 0 = 10 := by rcases hed.2 with q9 | q9; exact absurd q9 hn44; exact q9
        refine lv_iconst (v := nI 0) hx hb dX2_line_57 (by decide) ?_
        refine lv_istore_n (lv' := [(3, .int (nI 0)), (4, .int (nI i)), (2, .int (nI cnt)), (0, .ref (ad 3)), (1, .int (nI 1))]) hx hb dX2_line_58 rfl hl (by decide) rfl (fun ls hl => ?_)
        refine lv_iload_n hx hb dX2_line_59 rfl (lv_at hl 0 rfl) ?_
        refine n_if_eq (tgt := 73) hx hb dX2_line_60 (by decide) (by omega) (fun c_7 => ?_) (fun c_7 => absurd c_7 (by omega))
        refine lv_goto (tgt := 7) hx hb dX2_line_73 (by decide) ?_
        exact ih_1 (0, j_c, (cn + 1), (mt + w_c.1.length), (ws ++ [w_c]), me_c, st_c, le_c) H locs ls (by dsimp only; simp only [List.length_append, List.length_singleton]; omega) ⟨lv_sub hl [0, 2, 3, 4] rfl, h, by rw [List.length_append, List.length_singleton]; omega, by rw [tot_snoc]; omega, by first | exact hpw2 | (rw [← List.append_assoc]; exact hpw2), by rw [List.length_append, List.length_singleton]; omega, by omega, Or.inr ⟨rfl, by omega, h10, by rw [List.length_append, List.length_singleton]; omega, hs1.trans (((nameLine_S (by omega) hce).trans (if_neg hn44)))⟩⟩
      · refine lv_iconst (v := nI 1) hx hb dX2_line_53 (by decide) ?_
        refine lv_goto (tgt := 58) hx hb dX2_line_54 (by decide) ?_
        refine lv_istore_n (lv' := [(3, .int (nI 1)), (4, .int (nI i)), (2, .int (nI cnt)), (0, .ref (ad 3)), (1, .int (nI 1))]) hx hb dX2_line_58 rfl hl (by decide) rfl (fun ls hl => ?_)
        refine lv_iload_n hx hb dX2_line_59 rfl (lv_at hl 0 rfl) ?_
        refine n_if_eq (tgt := 73) hx hb dX2_line_60 (by decide) (by omega) (fun c_8 => absurd c_8 (by omega)) (fun c_8 => ?_)
        refine lv_aload_n hx hb dX2_line_63 rfl (lv_at hl 3 rfl) ?_
        refine lv_dup hx hb dX2_line_64 rfl ?_
        refine ct_get (v := .int (nI j_c)) B h.1 kX2 3 rfl 6 (Nat.le_of_ble_eq_true rfl) q221 rfl dX2_line_65 ?_
        refine lv_iconst (v := nI 1) hx hb dX2_line_68 (by decide) ?_
        refine n_iadd hx hb dX2_line_69 ?_
        refine ct_put (ws' := xw E ad (tray, trayed, fed, place, picked, pcnt, column) O (code, splace) T ((some (ad 1)), size, j_c + 1, me_c, mt + w_c.1.length, st_c, le_c, cn + 1, 16) R) B h kX2 3 rfl 6 (Nat.le_of_ble_eq_true rfl) q221 rfl rfl rfl (Nat.le_of_ble_eq_true rfl) rfl dX2_line_70 (fun H locs h => ?_)
        refine lv_goto (tgt := 7) hx hb dX2_line_73 (by decide) ?_
        exact ih_1 (1, (j_c + 1), (cn + 1), (mt + w_c.1.length), (ws ++ [w_c]), me_c, st_c, le_c) H locs ls (by dsimp only; simp only [List.length_append, List.length_singleton]; omega) ⟨lv_sub hl [0, 2, 3, 4] rfl, h, by rw [List.length_append, List.length_singleton]; omega, by rw [tot_snoc]; omega, by first | exact hpw2 | (rw [← List.append_assoc]; exact hpw2), by rw [List.length_append, List.length_singleton]; omega, by omega, Or.inl ⟨rfl, hs1.trans (((nameLine_S (by omega) hce).trans (if_pos cma.2)).trans (by rw [List.length_append, List.length_singleton, Nat.sub_sub]))⟩⟩
    · refine lv_aload_n hx hb dX2_line_30 rfl (lv_at hl 3 rfl) ?_
      refine lv_iload hx hb dX2_line_31 (lv_at hl 0 rfl) ?_
      refine ct_callQ (ct_runV (As := [.int (nI i)]) (rest := []) B (met_X2_wrong l E ad (tray, trayed, fed, place, picked, pcnt, column) O code splace T ((some (ad 1)), size, i, me, mt, st, le, cn, 16) R (nI i) H.size) (lw_V q341 q343 qs4 q50 q344) (n := 1) ⟨by decide, by decide, by decide +kernel⟩ rfl ⟨rfl, rfl, (Nat.le_of_ble_eq_true rfl), (Nat.le_of_ble_eq_true rfl), (Nat.le_of_ble_eq_true rfl), (Nat.le_of_ble_eq_true rfl)⟩ h.2.2 hA (ct_recv B h.1 kX2 3 rfl) ⟨h.1, (ct_D0 h hA)⟩ hl.1 (Nat.le_of_ble_eq_true rfl) dX2_line_33) h.2.2 (ct_sub h hAn) (ct_sub h hAn) (fun v H locs hv hz hk hS => ?_)
      obtain ⟨rfl, hP1⟩ := hv
      have h : Hs E A s.heap (xw E ad (tray, trayed, fed, place, picked, pcnt, column) O (20, (nI i)) T ((some (ad 1)), size, i, me, mt, st, le, cn, 16) R) H locs := ct_again h hP1 rfl hS
      clear hP1 hS hz hk
      refine W.eq (g2 := F0 m 36 ls [.ref (ad 20)]) rfl ?_
      exact ct_athrow B hno h.2.2 ⟨i, ((some (ad 1)), size, i, me, mt, st, le, cn, 16), rfl, h.1, hs1.trans (nameLine_0 (by omega))⟩ dX2_line_36
