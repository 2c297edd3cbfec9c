set_option maxHeartbeats 4000000 in
set_option maxRecDepth 100000 in
theorem met_X10_line (l : Launch) (E : CE) (r9 tr tx t9 n9 c9 : Nat) (tray : Nat → Int32) (sz9 : Nat) (t : List Nat) (p0 : Int32) (i q9 by9 cols n0 d : Nat) (md : Int32) (f fn : Nat → Option Nat) (im : va_W) (sz : Nat) (htr : l.stackTraces = false) (htx : txR tray sz9 t) (hsz9 : sz9 ≤ 16000) (hi : i ≤ sz9) (hco : 1 ≤ cols ∧ cols ≤ 16) (hn0 : n0 ≤ 100000) (hby9 : by9 ≤ i) (hln : alI E im n9 cols fn) (hel0 : ∀ x, x < n0 → ∀ y, f x = some y → oI im y) : MetX l yX10_line (ws_ yX10_line cX10_line 5 none) { frames := 9, cells := 8 * lL t cols i, slots := 80 * lL t cols i + (gs (n0 + cols) - gs n0), locals := 194 } (ctP E [.ref r9] sz (fun H => va_P E.1 ct_cl (([(r9, .inr (10, [.ref tr, .ref tx, .int (nI sz9), .int (nI i), .int (nI q9), .ref t9, .int (nI by9)])), (tx, .inl (E.2.1 0, 16000, .inl tray)), (tr, .inr (7, [.int p0])), (t9, .inr (11, [.ref n9, .ref c9, .null]))] ++ alw E c9 d n0 (cp n0) md f) ++ im) H ∧ va_D (fun q => E.2.2.1 ≤ q) (([(r9, .inr (10, [.ref tr, .ref tx, .int (nI sz9), .int (nI i), .int (nI q9), .ref t9, .int (nI by9)])), (tx, .inl (E.2.1 0, 16000, .inl tray)), (tr, .inr (7, [.int p0])), (t9, .inr (11, [.ref n9, .ref c9, .null]))] ++ alw E c9 d n0 (cp n0) md f) ++ im))) (ctX (fun v H => ∃ ws : List Wd, ∃ j2 : Nat, ∃ q2 : Nat, ∃ by2 : Nat, ∃ d2 : Nat, ∃ md2 : Int32, ∃ f2 : Nat → Option Nat, ∃ im2 : va_W, v = none ∧ va_P E.1 ct_cl (([(r9, .inr (10, [.ref tr, .ref tx, .int (nI sz9), .int (nI j2), .int (nI q2), .ref t9, .int (nI by2)])), (tx, .inl (E.2.1 0, 16000, .inl tray)), (tr, .inr (7, [.int p0])), (t9, .inr (11, [.ref n9, .ref c9, .null]))] ++ alw E c9 d2 (n0 + cols) (cp (n0 + cols)) md2 f2) ++ im2) H ∧ va_D (va_A (([(r9, .inr (10, [.ref tr, .ref tx, .int (nI sz9), .int (nI i), .int (nI q9), .ref t9, .int (nI by9)])), (tx, .inl (E.2.1 0, 16000, .inl tray)), (tr, .inr (7, [.int p0])), (t9, .inr (11, [.ref n9, .ref c9, .null]))] ++ alw E c9 d n0 (cp n0) md f) ++ im) sz) (([(r9, .inr (10, [.ref tr, .ref tx, .int (nI sz9), .int (nI j2), .int (nI q2), .ref t9, .int (nI by2)])), (tx, .inl (E.2.1 0, 16000, .inl tray)), (tr, .inr (7, [.int p0])), (t9, .inr (11, [.ref n9, .ref c9, .null]))] ++ alw E c9 d2 (n0 + cols) (cp (n0 + cols)) md2 f2) ++ im2) ∧ (cellLine t cols i [] = .inr (ws, j2)) ∧ (i ≤ j2 ∧ j2 ≤ t.length) ∧ (ws.length = cols) ∧ (∀ x, x < cols → ∃ y, f2 (n0 + x) = some y ∧ cI E im2 y (ws.getD x ([], false))) ∧ (∀ x, x < n0 → f2 x = f x) ∧ (∀ y ∈ im, y ∈ im2) ∧ (by2 = by9 + tot ws ∧ by2 ≤ j2)) (fun x H => ∃ pl : Nat, exC E H x ∧ va_P E.1 ct_cl ([(tx, .inl (E.2.1 0, 16000, .inl tray)), (tr, .inr (7, [.int (nI pl)]))]) H ∧ (cellLine t cols i [] = .inl pl)) (va_A (([(r9, .inr (10, [.ref tr, .ref tx, .int (nI sz9), .int (nI i), .int (nI q9), .ref t9, .int (nI by9)])), (tx, .inl (E.2.1 0, 16000, .inl tray)), (tr, .inr (7, [.int p0])), (t9, .inr (11, [.ref n9, .ref c9, .null]))] ++ alw E c9 d n0 (cp n0) md f) ++ im) sz)) (8 * lL t cols i) (80 * lL t cols i + (gs (n0 + cols) - gs n0)) (va_A (([(r9, .inr (10, [.ref tr, .ref tx, .int (nI sz9), .int (nI i), .int (nI q9), .ref t9, .int (nI by9)])), (tx, .inl (E.2.1 0, 16000, .inl tray)), (tr, .inr (7, [.int p0])), (t9, .inr (11, [.ref n9, .ref c9, .null]))] ++ alw E c9 d n0 (cp n0) md f) ++ im) sz) := by
  refine ct_startX (by decide) (Nat.le_of_ble_eq_true rfl) ?_
  intro p e s m below meth c ls B hno hsz hH hl
  obtain ⟨hP, hD⟩ := hH
  obtain ⟨A, hAe, h, hA, hAn⟩ := ct_enter B.2.2.2.2.2.2.2.2 hsz hP hD
  rw [hAe]
  refine ct_gen h (fun H locs h => ?_)
  have hx := B.1
  have hb := B.2.1
  have hl : lv_has ls 5 [(0, .ref r9)] := hl
  have htl : t.length = sz9 := htx.1
  obtain ⟨mdn, en, hmn⟩ := hln.obj
  refine lv_iconst (v := nI 1) hx hb dX10_line_0 (by decide) ?_
  refine lv_istore_n (lv' := [(1, .int (nI 1)), (0, .ref r9)]) hx hb dX10_line_1 rfl hl (by decide) rfl (fun ls hl => ?_)
  refine lv_iconst (v := nI 0) hx hb dX10_line_2 (by decide) ?_
  refine lv_istore_n (lv' := [(2, .int (nI 0)), (1, .int (nI 1)), (0, .ref r9)]) hx hb dX10_line_3 rfl hl (by decide) rfl (fun ls hl => ?_)
  refine W.widen (k := 8 * (i - i)) (n := 80 * (i - i) + (gs (n0 + 0) - gs n0)) (by first | (dsimp only; omega) | omega) (by first | (dsimp only; omega) | omega) ?_
  refine ct_loopH (σ := Nat × Nat × Nat × List Wd × Nat × Int32 × (Nat → Option Nat) × va_W × Nat × Nat) (fun (b9, k, j0, acc, d1, md1, f1, im1, q1, by1) H locs ls => lv_has ls 5 [(2, .int (nI k)), (1, .int (nI b9)), (0, .ref r9)] ∧ Hs E A s.heap (([(r9, .inr (10, [.ref tr, .ref tx, .int (nI sz9), .int (nI j0), .int (nI q1), .ref t9, .int (nI by1)])), (tx, .inl (E.2.1 0, 16000, .inl tray)), (tr, .inr (7, [.int p0])), (t9, .inr (11, [.ref n9, .ref c9, .null]))] ++ alw E c9 d1 (n0 + k) (cp (n0 + k)) md1 f1) ++ im1) H locs ∧ (i ≤ j0 ∧ j0 ≤ sz9) ∧ ((b9 = 1 ∧ cellLine t cols i [] = cellLine t (cols - k) j0 acc) ∨ (b9 = 0 ∧ k = cols ∧ cellLine t cols i [] = .inr (acc, j0))) ∧ (k = acc.length ∧ k ≤ cols) ∧ (∀ x, x < k → ∃ y, f1 (n0 + x) = some y ∧ cI E im1 y (acc.getD x ([], false))) ∧ (∀ x, x < n0 → f1 x = f x) ∧ (∀ y ∈ im, y ∈ im1) ∧ (by1 = by9 + tot acc ∧ by1 ≤ j0)) (fun (b9, k, j0, acc, d1, md1, f1, im1, q1, by1) => 2 * (cols + 1 - k) + b9) (fun (b9, k, j0, acc, d1, md1, f1, im1, q1, by1) => 8 * (j0 - i)) (fun (b9, k, j0, acc, d1, md1, f1, im1, q1, by1) => 80 * (j0 - i) + (gs (n0 + k) - gs n0)) (g := fun (b9, k, j0, acc, d1, md1, f1, im1, q1, by1) ls => F0 m 4 ls []) (x0 := (1, 0, i, [], d, md, f, im, q9, by9)) (ls0 := ls) ?_ ⟨lv_sub hl [0, 1, 2] rfl, h, ⟨by omega, by omega⟩, Or.inl ⟨rfl, rfl⟩, ⟨rfl, by omega⟩, fun k hk => absurd hk (Nat.not_lt_zero k), fun x hx => rfl, fun y hy => hy, ⟨rfl, by omega⟩⟩
  clear hl h
  intro x9 H locs ls hI ih_1
  obtain ⟨b9, k, j0, acc, d1, md1, f1, im1, q1, by1⟩ := x9
  obtain ⟨hl, h, hj0, hcl, hk, hce, hfo, him, hby⟩ := hI
  refine W.eq (g2 := F0 m 4 ls []) rfl ?_
  have hgn := gs_le (show n0 + k ≤ n0 + cols by omega)
  have hg0 := gs_le (show n0 ≤ n0 + k by omega)
  refine lv_iload_n hx hb dX10_line_4 rfl (lv_at hl 1 rfl) ?_
  refine n_if_eq (tgt := 156) hx hb dX10_line_5 (by decide) (by rcases hcl with z9 | z9 <;> omega) (fun cb9 => ?_) (fun cb9 => ?_)
  · obtain ⟨hkc, hclr⟩ : k = cols ∧ cellLine t cols i [] = .inr (acc, j0) := by rcases hcl with z9 | z9; exact absurd z9.1 (by omega); exact z9.2
    have hlr := lL_i hclr
    rw [hkc] at h hce
    have h : Hs E A s.heap (([(r9, .inr (10, [.ref tr, .ref tx, .int (nI sz9), .int (nI j0), .int (nI q1), .ref t9, .int (nI by1)])), (tx, .inl (E.2.1 0, 16000, .inl tray)), (tr, .inr (7, [.int p0])), (t9, .inr (11, [.ref n9, .ref c9, .null]))] ++ alw E c9 d1 (n0 + cols) (cp (n0 + cols)) md1 f1) ++ im1) H locs := h
    refine W.widen (k := 8 * lL t cols i) (n := 80 * lL t cols i + (gs (n0 + cols) - gs n0)) (by first | omega | (dsimp only; omega)) (by first | omega | (dsimp only; omega)) ?_
    exact ct_toX (ct_vret B h.2.2 ⟨acc, j0, q1, by1, d1, md1, f1, im1, rfl, h.1, h.2.1, hclr, ⟨by omega, by omega⟩, hk.1.symm.trans hkc, hce, hfo, him, hby⟩ dX10_line_156)
  · have hcl0 : cellLine t cols i [] = cellLine t (cols - k) j0 acc := by rcases hcl with z9 | z9; exact z9.2; exact absurd z9.1 (by omega)
    have hb1 : b9 = 1 := by rcases hcl with z9 | z9 <;> omega
    subst hb1
    have hlL0 : j0 + 1 ≤ i + lL t cols i := by rcases Nat.lt_or_ge k cols with q9 | q9; have := line_room hcl0 (by omega) hj0.1 (by omega) (word_le (by omega)); omega; have := lL_e (hcl0.trans (cellLine_0 (by omega))); omega
    refine lv_aload_n hx hb dX10_line_8 rfl (lv_at hl 2 rfl) ?_
    refine ct_get (v := .int (nI j0)) B h.1 kX10 0 rfl 3 (Nat.le_of_ble_eq_true rfl) q1129 rfl dX10_line_9 ?_
    refine lv_istore_n (lv' := [(3, .int (nI j0)), (2, .int (nI k)), (1, .int (nI 1)), (0, .ref r9)]) hx hb dX10_line_12 rfl hl (by decide) rfl (fun ls hl => ?_)
    refine lv_iload_n hx hb dX10_line_13 rfl (lv_at hl 1 rfl) ?_
    refine lv_aload_n hx hb dX10_line_14 rfl (lv_at hl 3 rfl) ?_
    refine ct_get (v := .ref t9) B h.1 kX10 0 rfl 5 (Nat.le_of_ble_eq_true rfl) q1131 rfl dX10_line_15 ?_
    refine ct_get (v := .ref n9) B h.1 kX11 3 rfl 0 (Nat.le_of_ble_eq_true rfl) q829 rfl dX10_line_18 ?_
    refine ct_callR (ct_runV (As := []) (rest := [.int (nI k)]) B (met_J10_size l E n9 en cols mdn H.size) (lw_V q846 q847 q848 q66 q849) (n := 0) ⟨by decide, by decide, by decide +kernel⟩ rfl ⟨rfl, rfl, (Nat.le_of_ble_eq_true rfl), (Nat.le_of_ble_eq_true rfl), (by first | omega | (dsimp only; omega)), (by first | omega | (dsimp only; omega))⟩ h.2.2 hA (ct_recv B (ct_sel (ct_Pr h.1) (fun x9 h9 => him x9 (hmn x9 h9))) kJ10 0 rfl) ((ct_sel (ct_Pr h.1) (fun x9 h9 => him x9 (hmn x9 h9))).sub [0] rfl) hl.1 (Nat.le_of_ble_eq_true rfl) dX10_line_21) (fun v hv => ?_)
    subst hv
    refine W.eq (g2 := F0 m 24 ls [.int (nI cols), .int (nI k)]) rfl ?_
    refine n_icmp_ne (tgt := 33) hx hb dX10_line_24 (by decide) (by omega) (by omega) (fun ceq => ?_) (fun ceq => ?_)
    · have hlr := line_room hcl0 (by omega) (by omega) (by omega) (word_le (by omega))
      refine lv_aload_n hx hb dX10_line_33 rfl (lv_at hl 3 rfl) ?_
      have h : Hs E A s.heap ([(r9, .inr (10, [.ref tr, .ref tx, .int (nI sz9), .int (nI j0), .int (nI q1), .ref t9, .int (nI by1)])), (tx, .inl (E.2.1 0, 16000, .inl tray)), (tr, .inr (7, [.int p0]))] ++ (([(t9, .inr (11, [.ref n9, .ref c9, .null]))] ++ alw E c9 d1 (n0 + k) (cp (n0 + k)) md1 f1) ++ im1)) H locs := h
      refine ct_callX B hno (ct_runXV (As := []) (rest := []) B (met_X10_word l E r9 tr tx tray sz9 j0 q1 by1 (some t9) t p0 H.size htr htx (by omega) (by omega)) (lw_V q860 q862 qs30 q62 q863) (n := 0) ⟨by decide, by decide, by decide +kernel⟩ rfl ⟨rfl, rfl, (Nat.le_of_ble_eq_true rfl), (Nat.le_of_ble_eq_true rfl), (by first | omega | (dsimp only; omega)), (by first | omega | (dsimp only; omega))⟩ h.2.2 hA (ct_recv B h.1 kX10 0 rfl) ⟨(ct_Pl h.1), (ct_Dl (ct_D0 h hA))⟩ hl.1 (Nat.le_of_ble_eq_true rfl) dX10_line_34) h.2.2 (ct_subL h hAn) (ct_subL h hAn) (by first | omega | (dsimp only; omega)) (by first | omega | (dsimp only; omega)) (fun x H locs hv hz hk hS => ?_) (fun v H locs hv hz hk hS => ?_)
      · obtain ⟨pl_1, hex_, hP1, hth⟩ := hv
        exact ⟨pl_1, hex_, hP1, hcl0.trans (cellLine_E (by omega) (cellAt_e hth))⟩
      obtain ⟨s_w, q_w, g_w, w_w, j_w, rfl, hP1, hD1, hw_w, hg_w, hj_w, hr_w⟩ := hv
      have h : Hs E A s.heap ([(r9, .inr (10, [.ref tr, .ref tx, .int (nI sz9), .int (nI j_w), .int (nI (if w_w.2 = true then 1 else 0)), .ref t9, .int (nI by1)])), (tx, .inl (E.2.1 0, 16000, .inl tray)), (tr, .inr (7, [.int p0])), (s_w, .inr (13, [.ref q_w, .int (nI 0), .int 0, .int 0])), (q_w, .inl (E.2.1 0, w_w.1.length, .inl g_w))] ++ (([(t9, .inr (11, [.ref n9, .ref c9, .null]))] ++ alw E c9 d1 (n0 + k) (cp (n0 + k)) md1 f1) ++ im1)) H locs := ct_frL h hP1 hD1 hk hS hAn
      have h : Hs E A s.heap (([(r9, .inr (10, [.ref tr, .ref tx, .int (nI sz9), .int (nI j_w), .int (nI (if w_w.2 = true then 1 else 0)), .ref t9, .int (nI by1)])), (tx, .inl (E.2.1 0, 16000, .inl tray)), (tr, .inr (7, [.int p0])), (s_w, .inr (13, [.ref q_w, .int (nI 0), .int 0, .int 0])), (q_w, .inl (E.2.1 0, w_w.1.length, .inl g_w)), (t9, .inr (11, [.ref n9, .ref c9, .null]))] ++ alw E c9 d1 (n0 + k) (cp (n0 + k)) md1 f1) ++ im1) H locs := h
      clear hP1 hD1 hS hz hk
      refine W.eq (g2 := F0 m 37 ls [.ref s_w]) rfl ?_
      have h : Hs E A s.heap (([(r9, .inr (10, [.ref tr, .ref tx, .int (nI sz9), .int (nI j_w), .int (nI (if w_w.2 = true then 1 else 0)), .ref t9, .int (nI by1)])), (tx, .inl (E.2.1 0, 16000, .inl tray)), (tr, .inr (7, [.int p0])), (t9, .inr (11, [.ref n9, .ref c9, .null])), (s_w, .inr (13, [.ref q_w, .int (nI 0), .int 0, .int 0])), (q_w, .inl (E.2.1 0, w_w.1.length, .inl g_w))] ++ alw E c9 d1 (n0 + k) (cp (n0 + k)) md1 f1) ++ im1) H locs := ct_partM h [0, 1, 2, 5, 3, 4] rfl rfl
      have h : Hs E A s.heap ((([(r9, .inr (10, [.ref tr, .ref tx, .int (nI sz9), .int (nI j_w), .int (nI (if w_w.2 = true then 1 else 0)), .ref t9, .int (nI by1)])), (tx, .inl (E.2.1 0, 16000, .inl tray)), (tr, .inr (7, [.int p0])), (t9, .inr (11, [.ref n9, .ref c9, .null]))] ++ [(s_w, .inr (13, [.ref q_w, .int (nI 0), .int 0, .int 0])), (q_w, .inl (E.2.1 0, w_w.1.length, .inl g_w))]) ++ alw E c9 d1 (n0 + k) (cp (n0 + k)) md1 f1) ++ im1) H locs := h
      have h : Hs E A s.heap (([(r9, .inr (10, [.ref tr, .ref tx, .int (nI sz9), .int (nI j_w), .int (nI (if w_w.2 = true then 1 else 0)), .ref t9, .int (nI by1)])), (tx, .inl (E.2.1 0, 16000, .inl tray)), (tr, .inr (7, [.int p0])), (t9, .inr (11, [.ref n9, .ref c9, .null]))] ++ alw E c9 d1 (n0 + k) (cp (n0 + k)) md1 f1) ++ ([(s_w, .inr (13, [.ref q_w, .int (nI 0), .int 0, .int 0])), (q_w, .inl (E.2.1 0, w_w.1.length, .inl g_w))] ++ im1)) H locs := ct_absM h
      obtain ⟨im_n, hh_im_n⟩ : ∃ z9 : va_W, z9 = [(s_w, .inr (13, [.ref q_w, .int (nI 0), .int 0, .int 0])), (q_w, .inl (E.2.1 0, w_w.1.length, .inl g_w))] ++ im1 := ⟨_, rfl⟩
      rw [← hh_im_n] at h
      have hi_im_n : ∀ y ∈ im1, y ∈ im_n := by rw [hh_im_n]; exact fun y hy => List.mem_append_right _ hy
      have hsw : sI E im_n s_w w_w.1 := by rw [hh_im_n]; exact ⟨q_w, g_w, List.mem_cons_self, List.mem_cons_of_mem _ List.mem_cons_self, hg_w, hr_w, by omega⟩
      have hwl := wL_i hw_w
      refine lv_astore (lv' := [(4, .ref s_w), (3, .int (nI j0)), (2, .int (nI k)), (1, .int (nI 1)), (0, .ref r9)]) hx hb dX10_line_37 hl (by decide) rfl (fun ls hl => ?_)
      refine lv_aload_n hx hb dX10_line_39 rfl (lv_at hl 4 rfl) ?_
      have h : Hs E A s.heap ([(r9, .inr (10, [.ref tr, .ref tx, .int (nI sz9), .int (nI j_w), .int (nI (if w_w.2 = true then 1 else 0)), .ref t9, .int (nI by1)])), (tx, .inl (E.2.1 0, 16000, .inl tray)), (tr, .inr (7, [.int p0]))] ++ (([(t9, .inr (11, [.ref n9, .ref c9, .null]))] ++ alw E c9 d1 (n0 + k) (cp (n0 + k)) md1 f1) ++ im_n)) H locs := h
      refine ct_callX B hno (ct_runXV (As := []) (rest := []) B (met_X10_mustEnd l E r9 tr tx tray sz9 j_w (if w_w.2 = true then 1 else 0) by1 (some t9) t p0 H.size htr htx (by omega) (by omega)) (lw_V q1028 q1030 qs32 q62 q1031) (n := 0) ⟨by decide, by decide, by decide +kernel⟩ rfl ⟨rfl, rfl, (Nat.le_of_ble_eq_true rfl), (Nat.le_of_ble_eq_true rfl), (by first | omega | (dsimp only; omega)), (by first | omega | (dsimp only; omega))⟩ h.2.2 hA (ct_recv B h.1 kX10 0 rfl) ⟨(ct_Pl h.1), (ct_Dl (ct_D0 h hA))⟩ hl.1 (Nat.le_of_ble_eq_true rfl) dX10_line_40) h.2.2 (ct_subL h hAn) (ct_subL h hAn) (by first | omega | (dsimp only; omega)) (by first | omega | (dsimp only; omega)) (fun x H locs hv hz hk hS => ?_) (fun v H locs hv hz hk hS => ?_)
      · obtain ⟨pl_1, hex_, hP1, hth⟩ := hv
        exact ⟨pl_1, hex_, hP1, hcl0.trans (cellLine_E (by omega) ((cellAt_i hw_w).trans (by rw [if_pos hth.2, hth.1])))⟩
      obtain ⟨rfl, hP1, hD1, hend⟩ := hv
      have h : Hs E A s.heap ([(r9, .inr (10, [.ref tr, .ref tx, .int (nI sz9), .int (nI j_w), .int (nI (if w_w.2 = true then 1 else 0)), .ref t9, .int (nI by1)])), (tx, .inl (E.2.1 0, 16000, .inl tray)), (tr, .inr (7, [.int p0]))] ++ (([(t9, .inr (11, [.ref n9, .ref c9, .null]))] ++ alw E c9 d1 (n0 + k) (cp (n0 + k)) md1 f1) ++ im_n)) H locs := ct_frL h hP1 hD1 hk hS hAn
      have h : Hs E A s.heap (([(r9, .inr (10, [.ref tr, .ref tx, .int (nI sz9), .int (nI j_w), .int (nI (if w_w.2 = true then 1 else 0)), .ref t9, .int (nI by1)])), (tx, .inl (E.2.1 0, 16000, .inl tray)), (tr, .inr (7, [.int p0])), (t9, .inr (11, [.ref n9, .ref c9, .null]))] ++ alw E c9 d1 (n0 + k) (cp (n0 + k)) md1 f1) ++ im_n) H locs := h
      clear hP1 hD1 hS hz hk
      refine W.eq (g2 := F0 m 43 ls []) rfl ?_
      refine lv_aload hx hb dX10_line_43 (lv_at hl 0 rfl) ?_
      refine ct_callR (ct_runV (As := []) (rest := []) B (met_J4_length l E  _ s_w w_w.1 H.size) (lw_V q1036 q466 q467 q58 q468) (n := 0) ⟨by decide, by decide, by decide +kernel⟩ rfl ⟨rfl, rfl, (Nat.le_of_ble_eq_true rfl), (Nat.le_of_ble_eq_true rfl), (by first | omega | (dsimp only; omega)), (by first | omega | (dsimp only; omega))⟩ h.2.2 hA (ct_Srecv B (hsw.S (ct_Pr h.1))) (hsw.S (ct_Pr h.1)) hl.1 (Nat.le_of_ble_eq_true rfl) dX10_line_45) (fun v hv => ?_)
      subst hv
      refine W.eq (g2 := F0 m 48 ls [.int (nI w_w.1.length)]) rfl ?_
      refine lv_bipush (v := nI 40) hx hb dX10_line_48 (by decide) ?_
      refine n_icmp_le (tgt := 59) hx hb dX10_line_50 (by decide) (by omega) (by omega) (fun c40 => ?_) (fun c40 => ?_)
      · have hca : cellAt t j0 = .inr (w_w, j_w) := (cellAt_i hw_w).trans (by rw [if_neg (fun z9 => z9 hend), if_neg (by omega)])
        refine lv_aload_n hx hb dX10_line_59 rfl (lv_at hl 4 rfl) ?_
        refine ct_get (v := .ref t9) B h.1 kX10 0 rfl 5 (Nat.le_of_ble_eq_true rfl) q1131 rfl dX10_line_60 ?_
        refine ct_get (v := .ref c9) B h.1 kX11 3 rfl 1 (Nat.le_of_ble_eq_true rfl) q832 rfl dX10_line_63 ?_
        refine ct_new (fs := [.null, .int 0]) B h hAn kX12 q1111 q1112 q74 (by intro j9 hj9; rcases j9 with _ | _ | j9 <;> first | rfl | omega) (by first | omega | (dsimp only; omega)) (by first | omega | (dsimp only; omega)) dX10_line_66 (fun x_c H h hx_c => ?_)
        have h : Hs E A s.heap ([(x_c, .inr (12, [.null, .int 0]))] ++ (([(r9, .inr (10, [.ref tr, .ref tx, .int (nI sz9), .int (nI j_w), .int (nI (if w_w.2 = true then 1 else 0)), .ref t9, .int (nI by1)])), (tx, .inl (E.2.1 0, 16000, .inl tray)), (tr, .inr (7, [.int p0])), (t9, .inr (11, [.ref n9, .ref c9, .null]))] ++ alw E c9 d1 (n0 + k) (cp (n0 + k)) md1 f1) ++ im_n)) H locs := ct_Hc h
        have h : Hs E A s.heap (([(x_c, .inr (12, [.null, .int 0])), (r9, .inr (10, [.ref tr, .ref tx, .int (nI sz9), .int (nI j_w), .int (nI (if w_w.2 = true then 1 else 0)), .ref t9, .int (nI by1)])), (tx, .inl (E.2.1 0, 16000, .inl tray)), (tr, .inr (7, [.int p0])), (t9, .inr (11, [.ref n9, .ref c9, .null]))] ++ alw E c9 d1 (n0 + k) (cp (n0 + k)) md1 f1) ++ im_n) H locs := h
        refine lv_dup hx hb dX10_line_69 rfl ?_
        refine lv_aload hx hb dX10_line_70 (lv_at hl 0 rfl) ?_
        refine lv_aload_n hx hb dX10_line_72 rfl (lv_at hl 4 rfl) ?_
        refine ct_get (v := .int (nI (if w_w.2 = true then 1 else 0))) B h.1 kX10 1 rfl 4 (Nat.le_of_ble_eq_true rfl) q1130 rfl dX10_line_73 ?_
        have h : Hs E A s.heap ([(x_c, .inr (12, [.null, .int 0]))] ++ (([(r9, .inr (10, [.ref tr, .ref tx, .int (nI sz9), .int (nI j_w), .int (nI (if w_w.2 = true then 1 else 0)), .ref t9, .int (nI by1)])), (tx, .inl (E.2.1 0, 16000, .inl tray)), (tr, .inr (7, [.int p0])), (t9, .inr (11, [.ref n9, .ref c9, .null]))] ++ alw E c9 d1 (n0 + k) (cp (n0 + k)) md1 f1) ++ im_n)) H locs := h
        refine ct_callQ (ct_runI (b := x_c) (As := [.ref s_w, .int (nI (if w_w.2 = true then 1 else 0))]) (rest := [.ref x_c, .ref c9]) B (met_X12_init l E x_c s_w (if w_w.2 = true then 1 else 0) H.size (by split <;> omega)) q1115 q74 q1113 q1114 rfl (n := 2) ⟨by decide, by decide, by decide +kernel⟩ rfl ⟨rfl, rfl, (Nat.le_of_ble_eq_true rfl), (Nat.le_of_ble_eq_true rfl), (by first | omega | (dsimp only; omega)), (by first | omega | (dsimp only; omega))⟩ h.2.2 hA ⟨(ct_Pl h.1), (ct_Dl (ct_D0 h hA))⟩ hl.1 (Nat.le_of_ble_eq_true rfl) dX10_line_76) h.2.2 (ct_subL h hAn) (ct_subL h hAn) (fun v H locs hv hz hk hS => ?_)
        obtain ⟨rfl, hP1, hD1⟩ := hv
        have h : Hs E A s.heap ([(x_c, .inr (12, [.ref s_w, .int (nI (if w_w.2 = true then 1 else 0))]))] ++ (([(r9, .inr (10, [.ref tr, .ref tx, .int (nI sz9), .int (nI j_w), .int (nI (if w_w.2 = true then 1 else 0)), .ref t9, .int (nI by1)])), (tx, .inl (E.2.1 0, 16000, .inl tray)), (tr, .inr (7, [.int p0])), (t9, .inr (11, [.ref n9, .ref c9, .null]))] ++ alw E c9 d1 (n0 + k) (cp (n0 + k)) md1 f1) ++ im_n)) H locs := ct_frL h hP1 hD1 hk hS hAn
        have h : Hs E A s.heap (([(x_c, .inr (12, [.ref s_w, .int (nI (if w_w.2 = true then 1 else 0))])), (r9, .inr (10, [.ref tr, .ref tx, .int (nI sz9), .int (nI j_w), .int (nI (if w_w.2 = true then 1 else 0)), .ref t9, .int (nI by1)])), (tx, .inl (E.2.1 0, 16000, .inl tray)), (tr, .inr (7, [.int p0])), (t9, .inr (11, [.ref n9, .ref c9, .null]))] ++ alw E c9 d1 (n0 + k) (cp (n0 + k)) md1 f1) ++ im_n) H locs := h
        clear hP1 hD1 hS hz hk
        refine W.eq (g2 := F0 m 79 ls [.ref x_c, .ref c9]) rfl ?_
        have h : Hs E A s.heap (([(r9, .inr (10, [.ref tr, .ref tx, .int (nI sz9), .int (nI j_w), .int (nI (if w_w.2 = true then 1 else 0)), .ref t9, .int (nI by1)])), (tx, .inl (E.2.1 0, 16000, .inl tray)), (tr, .inr (7, [.int p0])), (t9, .inr (11, [.ref n9, .ref c9, .null])), (x_c, .inr (12, [.ref s_w, .int (nI (if w_w.2 = true then 1 else 0))]))] ++ alw E c9 d1 (n0 + k) (cp (n0 + k)) md1 f1) ++ im_n) H locs := ct_partM h [1, 2, 3, 4, 0] rfl rfl
        have h : Hs E A s.heap ((([(r9, .inr (10, [.ref tr, .ref tx, .int (nI sz9), .int (nI j_w), .int (nI (if w_w.2 = true then 1 else 0)), .ref t9, .int (nI by1)])), (tx, .inl (E.2.1 0, 16000, .inl tray)), (tr, .inr (7, [.int p0])), (t9, .inr (11, [.ref n9, .ref c9, .null]))] ++ [(x_c, .inr (12, [.ref s_w, .int (nI (if w_w.2 = true then 1 else 0))]))]) ++ alw E c9 d1 (n0 + k) (cp (n0 + k)) md1 f1) ++ im_n) H locs := h
        have h : Hs E A s.heap (([(r9, .inr (10, [.ref tr, .ref tx, .int (nI sz9), .int (nI j_w), .int (nI (if w_w.2 = true then 1 else 0)), .ref t9, .int (nI by1)])), (tx, .inl (E.2.1 0, 16000, .inl tray)), (tr, .inr (7, [.int p0])), (t9, .inr (11, [.ref n9, .ref c9, .null]))] ++ alw E c9 d1 (n0 + k) (cp (n0 + k)) md1 f1) ++ ([(x_c, .inr (12, [.ref s_w, .int (nI (if w_w.2 = true then 1 else 0))]))] ++ im_n)) H locs := ct_absM h
        obtain ⟨im_c, hh_im_c⟩ : ∃ z9 : va_W, z9 = [(x_c, .inr (12, [.ref s_w, .int (nI (if w_w.2 = true then 1 else 0))]))] ++ im_n := ⟨_, rfl⟩
        rw [← hh_im_c] at h
        have hi_im_c : ∀ y ∈ im_n, y ∈ im_c := by rw [hh_im_c]; exact fun y hy => List.mem_append_right _ hy
        have hcI : cI E im_c x_c w_w := by rw [hh_im_c]; exact ⟨s_w, List.mem_cons_self, hsw.mono (fun y hy => List.mem_cons_of_mem _ hy)⟩
        have him_c : ∀ y ∈ im1, y ∈ im_c := fun y hy => hi_im_c y (hi_im_n y hy)
        have hcpn := cp_b (n0 + k)
        have hgS : gs (n0 + (k + 1)) = gs (n0 + k) + costA (n0 + k) (cp (n0 + k)) := gs_S (n0 + k)
        have hgn1 := gs_le (show n0 + (k + 1) ≤ n0 + cols by omega)
        have hcA := cellA_le (n0 + k) (cp (n0 + k))
        have h : Hs E A s.heap ([(r9, .inr (10, [.ref tr, .ref tx, .int (nI sz9), .int (nI j_w), .int (nI (if w_w.2 = true then 1 else 0)), .ref t9, .int (nI by1)])), (tx, .inl (E.2.1 0, 16000, .inl tray)), (tr, .inr (7, [.int p0])), (t9, .inr (11, [.ref n9, .ref c9, .null]))] ++ (([] ++ alw E c9 d1 (n0 + k) (cp (n0 + k)) md1 f1) ++ im_c)) H locs := h
        refine ct_callQ (ct_runV (As := [.ref x_c]) (rest := []) B (met_J10_addA l E im_c c9 d1 (n0 + k) (cp (n0 + k)) md1 f1 x_c H.size ⟨hcpn.1, by omega⟩ (fun i9 h9 y9 e9 => by by_cases q9 : i9 < n0; exact (hel0 i9 q9 y9 (by rw [← hfo i9 q9]; exact e9)).mono (fun y hy => him_c y (him y hy)); obtain ⟨s9, z1, z2⟩ := hce (i9 - n0) (by omega); rw [show n0 + (i9 - n0) = i9 by omega] at z1; cases z1.symm.trans e9; exact (z2.mono him_c).o) hcI.o) (lw_V q1058 q1059 q1060 q66 q1061) (n := 1) ⟨by decide, by decide, by decide +kernel⟩ rfl ⟨rfl, rfl, (Nat.le_of_ble_eq_true rfl), (Nat.le_of_ble_eq_true rfl), (by first | omega | (dsimp only; omega)), (by first | omega | (dsimp only; omega))⟩ h.2.2 hA (ct_recv B (alw_o (ct_Pl (ct_Pr h.1))) kJ10 0 rfl) ⟨(ct_Pr h.1), (ct_Dr (ct_D0 h hA))⟩ hl.1 (Nat.le_of_ble_eq_true rfl) dX10_line_79) h.2.2 (ct_subR h hAn) (ct_subR h hAn) (fun v H locs hv hz hk hS => ?_)
        obtain ⟨d_a, f_a, rfl, hP1, hD1, hfo_, hfx⟩ := hv
        have h : Hs E A s.heap ([(r9, .inr (10, [.ref tr, .ref tx, .int (nI sz9), .int (nI j_w), .int (nI (if w_w.2 = true then 1 else 0)), .ref t9, .int (nI by1)])), (tx, .inl (E.2.1 0, 16000, .inl tray)), (tr, .inr (7, [.int p0])), (t9, .inr (11, [.ref n9, .ref c9, .null]))] ++ (([] ++ alw E c9 d_a ((n0 + k) + 1) (capA (n0 + k) (cp (n0 + k))) (md1 + nI 1) f_a) ++ im_c)) H locs := ct_frR h hP1 hD1 hk hS hAn
        have h : Hs E A s.heap (([(r9, .inr (10, [.ref tr, .ref tx, .int (nI sz9), .int (nI j_w), .int (nI (if w_w.2 = true then 1 else 0)), .ref t9, .int (nI by1)])), (tx, .inl (E.2.1 0, 16000, .inl tray)), (tr, .inr (7, [.int p0])), (t9, .inr (11, [.ref n9, .ref c9, .null]))] ++ alw E c9 d_a ((n0 + k) + 1) (capA (n0 + k) (cp (n0 + k))) (md1 + nI 1) f_a) ++ im_c) H locs := h
        clear hP1 hD1 hS hz hk
        refine W.eq (g2 := F0 m 82 ls [.int (nI 1)]) rfl ?_
        refine lv_pop hx hb dX10_line_82 rfl ?_
        refine lv_aload_n hx hb dX10_line_83 rfl (lv_at hl 4 rfl) ?_
        refine lv_dup hx hb dX10_line_84 rfl ?_
        refine ct_get (v := .int (nI by1)) B h.1 kX10 0 rfl 6 (Nat.le_of_ble_eq_true rfl) q1133 rfl dX10_line_85 ?_
        refine lv_aload hx hb dX10_line_88 (lv_at hl 0 rfl) ?_
        refine ct_callR (ct_runV (As := []) (rest := [.int (nI by1), .ref r9]) B (met_J4_length l E  _ s_w w_w.1 H.size) (lw_V q1036 q466 q467 q58 q468) (n := 0) ⟨by decide, by decide, by decide +kernel⟩ rfl ⟨rfl, rfl, (Nat.le_of_ble_eq_true rfl), (Nat.le_of_ble_eq_true rfl), (by first | omega | (dsimp only; omega)), (by first | omega | (dsimp only; omega))⟩ h.2.2 hA (ct_Srecv B ((hsw.mono hi_im_c).S (ct_Pr h.1))) ((hsw.mono hi_im_c).S (ct_Pr h.1)) hl.1 (Nat.le_of_ble_eq_true rfl) dX10_line_90) (fun v hv => ?_)
        subst hv
        refine W.eq (g2 := F0 m 93 ls [.int (nI w_w.1.length), .int (nI by1), .ref r9]) rfl ?_
        refine n_iadd hx hb dX10_line_93 ?_
        refine ct_put (ws' := ([(r9, .inr (10, [.ref tr, .ref tx, .int (nI sz9), .int (nI j_w), .int (nI (if w_w.2 = true then 1 else 0)), .ref t9, .int (nI (by1 + w_w.1.length))])), (tx, .inl (E.2.1 0, 16000, .inl tray)), (tr, .inr (7, [.int p0])), (t9, .inr (11, [.ref n9, .ref c9, .null]))] ++ alw E c9 d_a ((n0 + k) + 1) (capA (n0 + k) (cp (n0 + k))) (md1 + nI 1) f_a) ++ im_c) B h kX10 0 rfl 6 (Nat.le_of_ble_eq_true rfl) q1133 rfl rfl rfl (Nat.le_of_ble_eq_true rfl) rfl dX10_line_94 (fun H locs h => ?_)
        refine n_iinc (n := 1) (lv' := [(2, .int (nI (k + 1))), (4, .ref s_w), (3, .int (nI j0)), (1, .int (nI 1)), (0, .ref r9)]) hx hb dX10_line_97 hl (k := 2) rfl rfl (by decide) (by decide) rfl (fun ls hl => ?_)
        refine lv_aload_n hx hb dX10_line_100 rfl (lv_at hl 4 rfl) ?_
        refine lv_bipush (v := nI 44) hx hb dX10_line_101 (by decide) ?_
        refine ct_callR (ct_runV (As := [.int (nI 44)]) (rest := []) B (met_X10_is l E r9 tr tx tray sz9 j_w (if w_w.2 = true then 1 else 0) (by1 + w_w.1.length) (some t9) t 44 H.size htx (by omega) (by omega) (by omega)) (lw_V q894 q896 qs31 q62 q897) (n := 1) ⟨by decide, by decide, by decide +kernel⟩ rfl ⟨rfl, rfl, (Nat.le_of_ble_eq_true rfl), (Nat.le_of_ble_eq_true rfl), (by first | omega | (dsimp only; omega)), (by first | omega | (dsimp only; omega))⟩ h.2.2 hA (ct_recv B h.1 kX10 0 rfl) (h.1.sub [0, 1] rfl) hl.1 (Nat.le_of_ble_eq_true rfl) dX10_line_103) (fun v hv => ?_)
        subst hv
        refine W.eq (g2 := F0 m 106 ls [.int (if j_w < t.length ∧ t.getD j_w 0 = 44 then 1 else 0)]) rfl ?_
        by_cases hcm : j_w < t.length ∧ t.getD j_w 0 = 44
        · refine W.eq (g2 := F0 m 106 ls [.int (nI 1)]) (by rw [if_pos hcm] <;> rfl) ?_
          refine lv_istore_n (lv' := [(1, .int (nI 1)), (2, .int (nI (k + 1))), (4, .ref s_w), (3, .int (nI j0)), (0, .ref r9)]) hx hb dX10_line_106 rfl hl (by decide) rfl (fun ls hl => ?_)
          refine lv_iload_n hx hb dX10_line_107 rfl (lv_at hl 0 rfl) ?_
          refine n_if_ne (tgt := 143) hx hb dX10_line_108 (by decide) (by omega) (fun c_2 => ?_) (fun c_2 => absurd c_2 (by omega))
          refine lv_aload_n hx hb dX10_line_143 rfl (lv_at hl 4 rfl) ?_
          refine lv_dup hx hb dX10_line_144 rfl ?_
          refine ct_get (v := .int (nI j_w)) B h.1 kX10 0 rfl 3 (Nat.le_of_ble_eq_true rfl) q1129 rfl dX10_line_145 ?_
          refine lv_iconst (v := nI 1) hx hb dX10_line_148 (by decide) ?_
          refine n_iadd hx hb dX10_line_149 ?_
          refine ct_put (ws' := ([(r9, .inr (10, [.ref tr, .ref tx, .int (nI sz9), .int (nI (j_w + 1)), .int (nI (if w_w.2 = true then 1 else 0)), .ref t9, .int (nI (by1 + w_w.1.length))])), (tx, .inl (E.2.1 0, 16000, .inl tray)), (tr, .inr (7, [.int p0])), (t9, .inr (11, [.ref n9, .ref c9, .null]))] ++ alw E c9 d_a ((n0 + k) + 1) (capA (n0 + k) (cp (n0 + k))) (md1 + nI 1) f_a) ++ im_c) B h kX10 0 rfl 3 (Nat.le_of_ble_eq_true rfl) q1129 rfl rfl rfl (Nat.le_of_ble_eq_true rfl) rfl dX10_line_150 (fun H locs h => ?_)
          refine lv_goto (tgt := 4) hx hb dX10_line_153 (by decide) ?_
          refine W.widen (k := 8 * ((j_w + 1) - i)) (n := 80 * ((j_w + 1) - i) + (gs (n0 + (k + 1)) - gs n0)) (by first | (dsimp only; omega) | omega) (by first | (dsimp only; omega) | omega) ?_
          exact ih_1 (1, (k + 1), (j_w + 1), (acc ++ [w_w]), d_a, (md1 + nI 1), f_a, im_c, (if w_w.2 = true then 1 else 0), (by1 + w_w.1.length)) H locs ls (by dsimp only; omega) ⟨lv_sub hl [1, 0, 4] rfl, h, ⟨by omega, by omega⟩, Or.inl ⟨rfl, by rw [hcl0.trans (cellLine_S (by omega) hca), if_pos hcm.2]; rfl⟩, ⟨by rw [List.length_append, List.length_singleton]; omega, by omega⟩, fun x hx => by by_cases e9 : x = k; exact ⟨x_c, by rw [e9]; exact hfx, by rw [e9, hk.1, gD_r (Nat.le_refl _), Nat.sub_self]; exact hcI⟩; obtain ⟨y9, z1, z2⟩ := hce x (by omega); exact ⟨y9, by rw [hfo_ _ (by omega)]; exact z1, by rw [gD_l (by omega)]; exact z2.mono him_c⟩, fun x hx => by rw [hfo_ _ (by omega)]; exact hfo x hx, fun y hy => him_c y (him y hy), ⟨by rw [tot_snoc, ← Nat.add_assoc, ← hby.1], by omega⟩⟩
        · refine W.eq (g2 := F0 m 106 ls [.int (nI 0)]) (by rw [if_neg hcm] <;> rfl) ?_
          refine lv_istore_n (lv' := [(1, .int (nI 0)), (2, .int (nI (k + 1))), (4, .ref s_w), (3, .int (nI j0)), (0, .ref r9)]) hx hb dX10_line_106 rfl hl (by decide) rfl (fun ls hl => ?_)
          refine lv_iload_n hx hb dX10_line_107 rfl (lv_at hl 0 rfl) ?_
          refine n_if_ne (tgt := 143) hx hb dX10_line_108 (by decide) (by omega) (fun c_3 => absurd c_3 (by omega)) (fun c_3 => ?_)
          refine lv_aload_n hx hb dX10_line_111 rfl (lv_at hl 4 rfl) ?_
          refine lv_bipush (v := nI 10) hx hb dX10_line_112 (by decide) ?_
          refine ct_callR (ct_runV (As := [.int (nI 10)]) (rest := []) B (met_X10_is l E r9 tr tx tray sz9 j_w (if w_w.2 = true then 1 else 0) (by1 + w_w.1.length) (some t9) t 10 H.size htx (by omega) (by omega) (by omega)) (lw_V q894 q896 qs31 q62 q897) (n := 1) ⟨by decide, by decide, by decide +kernel⟩ rfl ⟨rfl, rfl, (Nat.le_of_ble_eq_true rfl), (Nat.le_of_ble_eq_true rfl), (by first | omega | (dsimp only; omega)), (by first | omega | (dsimp only; omega))⟩ h.2.2 hA (ct_recv B h.1 kX10 0 rfl) (h.1.sub [0, 1] rfl) hl.1 (Nat.le_of_ble_eq_true rfl) dX10_line_114) (fun v hv => ?_)
          subst hv
          refine W.eq (g2 := F0 m 117 ls [.int (if j_w < t.length ∧ t.getD j_w 0 = 10 then 1 else 0)]) rfl ?_
          refine b_if_eq (tgt := 143) hx hb dX10_line_117 (by decide) (fun c_4 => absurd c_4 (fun z9 => z9 (by rcases hend.2 with y9 | y9; exact absurd ⟨hend.1, y9⟩ hcm; exact ⟨hend.1, y9⟩))) (fun c_4 => ?_)
          refine lv_iload_n hx hb dX10_line_120 rfl (lv_at hl 1 rfl) ?_
          refine lv_aload_n hx hb dX10_line_121 rfl (lv_at hl 4 rfl) ?_
          refine ct_get (v := .ref t9) B h.1 kX10 0 rfl 5 (Nat.le_of_ble_eq_true rfl) q1131 rfl dX10_line_122 ?_
          refine ct_get (v := .ref n9) B h.1 kX11 3 rfl 0 (Nat.le_of_ble_eq_true rfl) q829 rfl dX10_line_125 ?_
          refine ct_callR (ct_runV (As := []) (rest := [.int (nI (k + 1))]) B (met_J10_size l E n9 en cols mdn H.size) (lw_V q846 q847 q848 q66 q849) (n := 0) ⟨by decide, by decide, by decide +kernel⟩ rfl ⟨rfl, rfl, (Nat.le_of_ble_eq_true rfl), (Nat.le_of_ble_eq_true rfl), (by first | omega | (dsimp only; omega)), (by first | omega | (dsimp only; omega))⟩ h.2.2 hA (ct_recv B (ct_sel (ct_Pr h.1) (fun x9 h9 => (fun y9 z9 => him_c y9 (him y9 z9)) x9 (hmn x9 h9))) kJ10 0 rfl) ((ct_sel (ct_Pr h.1) (fun x9 h9 => (fun y9 z9 => him_c y9 (him y9 z9)) x9 (hmn x9 h9))).sub [0] rfl) hl.1 (Nat.le_of_ble_eq_true rfl) dX10_line_128) (fun v hv => ?_)
          subst hv
          refine W.eq (g2 := F0 m 131 ls [.int (nI cols), .int (nI (k + 1))]) rfl ?_
          refine n_icmp_ge (tgt := 143) hx hb dX10_line_131 (by decide) (by omega) (by omega) (fun cge => ?_) (fun cge => ?_)
          · refine lv_aload_n hx hb dX10_line_143 rfl (lv_at hl 4 rfl) ?_
            refine lv_dup hx hb dX10_line_144 rfl ?_
            refine ct_get (v := .int (nI j_w)) B h.1 kX10 0 rfl 3 (Nat.le_of_ble_eq_true rfl) q1129 rfl dX10_line_145 ?_
            refine lv_iconst (v := nI 1) hx hb dX10_line_148 (by decide) ?_
            refine n_iadd hx hb dX10_line_149 ?_
            refine ct_put (ws' := ([(r9, .inr (10, [.ref tr, .ref tx, .int (nI sz9), .int (nI (j_w + 1)), .int (nI (if w_w.2 = true then 1 else 0)), .ref t9, .int (nI (by1 + w_w.1.length))])), (tx, .inl (E.2.1 0, 16000, .inl tray)), (tr, .inr (7, [.int p0])), (t9, .inr (11, [.ref n9, .ref c9, .null]))] ++ alw E c9 d_a ((n0 + k) + 1) (capA (n0 + k) (cp (n0 + k))) (md1 + nI 1) f_a) ++ im_c) B h kX10 0 rfl 3 (Nat.le_of_ble_eq_true rfl) q1129 rfl rfl rfl (Nat.le_of_ble_eq_true rfl) rfl dX10_line_150 (fun H locs h => ?_)
            refine lv_goto (tgt := 4) hx hb dX10_line_153 (by decide) ?_
            refine W.widen (k := 8 * ((j_w + 1) - i)) (n := 80 * ((j_w + 1) - i) + (gs (n0 + (k + 1)) - gs n0)) (by first | (dsimp only; omega) | omega) (by first | (dsimp only; omega) | omega) ?_
            exact ih_1 (0, (k + 1), (j_w + 1), (acc ++ [w_w]), d_a, (md1 + nI 1), f_a, im_c, (if w_w.2 = true then 1 else 0), (by1 + w_w.1.length)) H locs ls (by dsimp only; omega) ⟨lv_sub hl [1, 0, 4] rfl, h, ⟨by omega, by omega⟩, Or.inr ⟨rfl, by omega, by rw [hcl0.trans (cellLine_S (by omega) hca), if_neg (fun z9 => hcm ⟨hend.1, z9⟩), if_neg (by omega)]⟩, ⟨by rw [List.length_append, List.length_singleton]; omega, by omega⟩, fun x hx => by by_cases e9 : x = k; exact ⟨x_c, by rw [e9]; exact hfx, by rw [e9, hk.1, gD_r (Nat.le_refl _), Nat.sub_self]; exact hcI⟩; obtain ⟨y9, z1, z2⟩ := hce x (by omega); exact ⟨y9, by rw [hfo_ _ (by omega)]; exact z1, by rw [gD_l (by omega)]; exact z2.mono him_c⟩, fun x hx => by rw [hfo_ _ (by omega)]; exact hfo x hx, fun y hy => him_c y (him y hy), ⟨by rw [tot_snoc, ← Nat.add_assoc, ← hby.1], by omega⟩⟩
          · have hpl : cellLine t cols i [] = .inl j_w := hcl0.trans ((cellLine_S (by omega) hca).trans (by rw [if_neg (fun z9 => hcm ⟨hend.1, z9⟩), if_pos (by omega)]))
            refine lv_aload_n hx hb dX10_line_134 rfl (lv_at hl 4 rfl) ?_
            refine lv_aload_n hx hb dX10_line_135 rfl (lv_at hl 4 rfl) ?_
            refine ct_get (v := .int (nI j_w)) B h.1 kX10 0 rfl 3 (Nat.le_of_ble_eq_true rfl) q1129 rfl dX10_line_136 ?_
            have h : Hs E A s.heap (([(r9, .inr (10, [.ref tr, .ref tx, .int (nI sz9), .int (nI j_w), .int (nI (if w_w.2 = true then 1 else 0)), .ref t9, .int (nI (by1 + w_w.1.length))])), (tr, .inr (7, [.int p0])), (tx, .inl (E.2.1 0, 16000, .inl tray)), (t9, .inr (11, [.ref n9, .ref c9, .null]))] ++ alw E c9 d_a ((n0 + k) + 1) (capA (n0 + k) (cp (n0 + k))) (md1 + nI 1) f_a) ++ im_c) H locs := ct_partM h [0, 2, 1, 3] rfl rfl
            have h : Hs E A s.heap ([(r9, .inr (10, [.ref tr, .ref tx, .int (nI sz9), .int (nI j_w), .int (nI (if w_w.2 = true then 1 else 0)), .ref t9, .int (nI (by1 + w_w.1.length))])), (tr, .inr (7, [.int p0]))] ++ (([(tx, .inl (E.2.1 0, 16000, .inl tray)), (t9, .inr (11, [.ref n9, .ref c9, .null]))] ++ alw E c9 d_a ((n0 + k) + 1) (capA (n0 + k) (cp (n0 + k))) (md1 + nI 1) f_a) ++ im_c)) H locs := h
            refine ct_callQ (ct_runV (As := [.int (nI j_w)]) (rest := []) B (met_X10_wrong l E r9 tr tx sz9 j_w (if w_w.2 = true then 1 else 0) (by1 + w_w.1.length) (some t9) p0 (nI j_w) H.size htr) (lw_V q850 q852 qs29 q62 q853) (n := 1) ⟨by decide, by decide, by decide +kernel⟩ rfl ⟨rfl, rfl, (Nat.le_of_ble_eq_true rfl), (Nat.le_of_ble_eq_true rfl), (by first | omega | (dsimp only; omega)), (by first | omega | (dsimp only; omega))⟩ h.2.2 hA (ct_recv B h.1 kX10 0 rfl) ⟨(ct_Pl h.1), (ct_Dl (ct_D0 h hA))⟩ hl.1 (Nat.le_of_ble_eq_true rfl) dX10_line_139) h.2.2 (ct_subL h hAn) (ct_subL h hAn) (fun v H locs hv hz hk hS => ?_)
            obtain ⟨x_1, rfl, hP1, hD1, hex_⟩ := hv
            have h : Hs E A s.heap ([(r9, .inr (10, [.ref tr, .ref tx, .int (nI sz9), .int (nI j_w), .int (nI (if w_w.2 = true then 1 else 0)), .ref t9, .int (nI (by1 + w_w.1.length))])), (tr, .inr (7, [.int (nI j_w)]))] ++ (([(tx, .inl (E.2.1 0, 16000, .inl tray)), (t9, .inr (11, [.ref n9, .ref c9, .null]))] ++ alw E c9 d_a ((n0 + k) + 1) (capA (n0 + k) (cp (n0 + k))) (md1 + nI 1) f_a) ++ im_c)) H locs := ct_frL h hP1 hD1 hk hS hAn
            have h : Hs E A s.heap (([(r9, .inr (10, [.ref tr, .ref tx, .int (nI sz9), .int (nI j_w), .int (nI (if w_w.2 = true then 1 else 0)), .ref t9, .int (nI (by1 + w_w.1.length))])), (tr, .inr (7, [.int (nI j_w)])), (tx, .inl (E.2.1 0, 16000, .inl tray)), (t9, .inr (11, [.ref n9, .ref c9, .null]))] ++ alw E c9 d_a ((n0 + k) + 1) (capA (n0 + k) (cp (n0 + k))) (md1 + nI 1) f_a) ++ im_c) H locs := h
            clear hP1 hD1 hS hz hk
            refine W.eq (g2 := F0 m 142 ls [.ref x_1]) rfl ?_
            refine W.widen (k := 8 * lL t cols i) (n := 80 * lL t cols i + (gs (n0 + cols) - gs n0)) (by first | omega | (dsimp only; omega)) (by first | omega | (dsimp only; omega)) ?_
            exact ct_athrow B hno h.2.2 ⟨j_w, hex_, h.1.sub [2, 1] rfl, hpl⟩ dX10_line_142
      · have hca : cellAt t j0 = .inl j0 := (cellAt_i hw_w).trans (by rw [if_neg (fun z9 => z9 hend), if_pos (by omega)])
        have hpl : cellLine t cols i [] = .inl j0 := hcl0.trans (cellLine_E (by omega) hca)
        refine lv_aload_n hx hb dX10_line_53 rfl (lv_at hl 4 rfl) ?_
        refine lv_iload_n hx hb dX10_line_54 rfl (lv_at hl 1 rfl) ?_
        have h : Hs E A s.heap (([(r9, .inr (10, [.ref tr, .ref tx, .int (nI sz9), .int (nI j_w), .int (nI (if w_w.2 = true then 1 else 0)), .ref t9, .int (nI by1)])), (tr, .inr (7, [.int p0])), (tx, .inl (E.2.1 0, 16000, .inl tray)), (t9, .inr (11, [.ref n9, .ref c9, .null]))] ++ alw E c9 d1 (n0 + k) (cp (n0 + k)) md1 f1) ++ im_n) H locs := ct_partM h [0, 2, 1, 3] rfl rfl
        have h : Hs E A s.heap ([(r9, .inr (10, [.ref tr, .ref tx, .int (nI sz9), .int (nI j_w), .int (nI (if w_w.2 = true then 1 else 0)), .ref t9, .int (nI by1)])), (tr, .inr (7, [.int p0]))] ++ (([(tx, .inl (E.2.1 0, 16000, .inl tray)), (t9, .inr (11, [.ref n9, .ref c9, .null]))] ++ alw E c9 d1 (n0 + k) (cp (n0 + k)) md1 f1) ++ im_n)) H locs := h
        refine ct_callQ (ct_runV (As := [.int (nI j0)]) (rest := []) B (met_X10_wrong l E r9 tr tx sz9 j_w (if w_w.2 = true then 1 else 0) by1 (some t9) p0 (nI j0) H.size htr) (lw_V q850 q852 qs29 q62 q853) (n := 1) ⟨by decide, by decide, by decide +kernel⟩ rfl ⟨rfl, rfl, (Nat.le_of_ble_eq_true rfl), (Nat.le_of_ble_eq_true rfl), (by first | omega | (dsimp only; omega)), (by first | omega | (dsimp only; omega))⟩ h.2.2 hA (ct_recv B h.1 kX10 0 rfl) ⟨(ct_Pl h.1), (ct_Dl (ct_D0 h hA))⟩ hl.1 (Nat.le_of_ble_eq_true rfl) dX10_line_55) h.2.2 (ct_subL h hAn) (ct_subL h hAn) (fun v H locs hv hz hk hS => ?_)
        obtain ⟨x_1, rfl, hP1, hD1, hex_⟩ := hv
        have h : Hs E A s.heap ([(r9, .inr (10, [.ref tr, .ref tx, .int (nI sz9), .int (nI j_w), .int (nI (if w_w.2 = true then 1 else 0)), .ref t9, .int (nI by1)])), (tr, .inr (7, [.int (nI j0)]))] ++ (([(tx, .inl (E.2.1 0, 16000, .inl tray)), (t9, .inr (11, [.ref n9, .ref c9, .null]))] ++ alw E c9 d1 (n0 + k) (cp (n0 + k)) md1 f1) ++ im_n)) H locs := ct_frL h hP1 hD1 hk hS hAn
        have h : Hs E A s.heap (([(r9, .inr (10, [.ref tr, .ref tx, .int (nI sz9), .int (nI j_w), .int (nI (if w_w.2 = true then 1 else 0)), .ref t9, .int (nI by1)])), (tr, .inr (7, [.int (nI j0)])), (tx, .inl (E.2.1 0, 16000, .inl tray)), (t9, .inr (11, [.ref n9, .ref c9, .null]))] ++ alw E c9 d1 (n0 + k) (cp (n0 + k)) md1 f1) ++ im_n) H locs := h
        clear hP1 hD1 hS hz hk
        refine W.eq (g2 := F0 m 58 ls [.ref x_1]) rfl ?_
        refine W.widen (k := 8 * lL t cols i) (n := 80 * lL t cols i + (gs (n0 + cols) - gs n0)) (by first | omega | (dsimp only; omega)) (by first | omega | (dsimp only; omega)) ?_
        exact ct_athrow B hno h.2.2 ⟨j0, hex_, h.1.sub [2, 1] rfl, hpl⟩ dX10_line_58
    · have hpl : cellLine t cols i [] = .inl j0 := hcl0.trans (cellLine_0 (by omega))
      have hle := lL_e hpl
      refine lv_aload_n hx hb dX10_line_27 rfl (lv_at hl 3 rfl) ?_
      refine lv_iload_n hx hb dX10_line_28 rfl (lv_at hl 0 rfl) ?_
      have h : Hs E A s.heap (([(r9, .inr (10, [.ref tr, .ref tx, .int (nI sz9), .int (nI j0), .int (nI q1), .ref t9, .int (nI by1)])), (tr, .inr (7, [.int p0])), (tx, .inl (E.2.1 0, 16000, .inl tray)), (t9, .inr (11, [.ref n9, .ref c9, .null]))] ++ alw E c9 d1 (n0 + k) (cp (n0 + k)) md1 f1) ++ im1) H locs := ct_partM h [0, 2, 1, 3] rfl rfl
      have h : Hs E A s.heap ([(r9, .inr (10, [.ref tr, .ref tx, .int (nI sz9), .int (nI j0), .int (nI q1), .ref t9, .int (nI by1)])), (tr, .inr (7, [.int p0]))] ++ (([(tx, .inl (E.2.1 0, 16000, .inl tray)), (t9, .inr (11, [.ref n9, .ref c9, .null]))] ++ alw E c9 d1 (n0 + k) (cp (n0 + k)) md1 f1) ++ im1)) H locs := h
      refine ct_callQ (ct_runV (As := [.int (nI j0)]) (rest := []) B (met_X10_wrong l E r9 tr tx sz9 j0 q1 by1 (some t9) p0 (nI j0) H.size htr) (lw_V q850 q852 qs29 q62 q853) (n := 1) ⟨by decide, by decide, by decide +kernel⟩ rfl ⟨rfl, rfl, (Nat.le_of_ble_eq_true rfl), (Nat.le_of_ble_eq_true rfl), (by first | omega | (dsimp only; omega)), (by first | omega | (dsimp only; omega))⟩ h.2.2 hA (ct_recv B h.1 kX10 0 rfl) ⟨(ct_Pl h.1), (ct_Dl (ct_D0 h hA))⟩ hl.1 (Nat.le_of_ble_eq_true rfl) dX10_line_29) h.2.2 (ct_subL h hAn) (ct_subL h hAn) (fun v H locs hv hz hk hS => ?_)
      obtain ⟨x_1, rfl, hP1, hD1, hex_⟩ := hv
      have h : Hs E A s.heap ([(r9, .inr (10, [.ref tr, .ref tx, .int (nI sz9), .int (nI j0), .int (nI q1), .ref t9, .int (nI by1)])), (tr, .inr (7, [.int (nI j0)]))] ++ (([(tx, .inl (E.2.1 0, 16000, .inl tray)), (t9, .inr (11, [.ref n9, .ref c9, .null]))] ++ alw E c9 d1 (n0 + k) (cp (n0 + k)) md1 f1) ++ im1)) H locs := ct_frL h hP1 hD1 hk hS hAn
      have h : Hs E A s.heap (([(r9, .inr (10, [.ref tr, .ref tx, .int (nI sz9), .int (nI j0), .int (nI q1), .ref t9, .int (nI by1)])), (tr, .inr (7, [.int (nI j0)])), (tx, .inl (E.2.1 0, 16000, .inl tray)), (t9, .inr (11, [.ref n9, .ref c9, .null]))] ++ alw E c9 d1 (n0 + k) (cp (n0 + k)) md1 f1) ++ im1) H locs := h
      clear hP1 hD1 hS hz hk
      refine W.eq (g2 := F0 m 32 ls [.ref x_1]) rfl ?_
      refine W.widen (k := 8 * lL t cols i) (n := 80 * lL t cols i + (gs (n0 + cols) - gs n0)) (by first | omega | (dsimp only; omega)) (by first | omega | (dsimp only; omega)) ?_
      exact ct_athrow B hno h.2.2 ⟨j0, hex_, h.1.sub [2, 1] rfl, hpl⟩ dX10_line_32
set_option maxHeartbeats 4000000 in
set_option maxRecDepth 100000 in
theorem met_X10_init (l : Launch) (E : CE) (r9 tr tx : Nat) (tray : Nat → Int32) (sz9 : Nat) (t : List Nat) (p0 : Int32) (sz : Nat) (htr : l.stackTraces = false) (htx : txR tray sz9 t) (hsz9 : sz9 ≤ 16000) : MetX l yX10_init (ws_ yX10_init cX10_init 5 none) { frames := 10, cells := 4 + 6 * (t.length + 1) + 8 * (t.length + 1), slots := 15 + (70 * (t.length + 1) + gs 16) + (80 * (t.length + 1) + gs (t.length + 16)), locals := 219 } (ctP E [.ref r9, .ref tr, .ref tx, .int (nI sz9)] sz (fun H => va_P E.1 ct_cl ([(r9, .inr (10, [.null, .null, .int 0, .int 0, .int 0, .null, .int 0])), (tx, .inl (E.2.1 0, 16000, .inl tray)), (tr, .inr (7, [.int p0]))]) H ∧ va_D (fun q => E.2.2.1 ≤ q) ([(r9, .inr (10, [.null, .null, .int 0, .int 0, .int 0, .null, .int 0])), (tx, .inl (E.2.1 0, 16000, .inl tray)), (tr, .inr (7, [.int p0]))]))) (ctX (fun v H => ∃ t2 : Nat, ∃ n2 : Nat, ∃ c2 : Nat, ∃ j2 : Nat, ∃ q2 : Nat, ∃ tb : Tab, ∃ im2 : va_W, v = none ∧ va_P E.1 ct_cl ([(r9, .inr (10, [.ref tr, .ref tx, .int (nI sz9), .int (nI j2), .int (nI q2), .ref t2, .int (nI (tot tb.1 + tot tb.2))])), (tx, .inl (E.2.1 0, 16000, .inl tray)), (tr, .inr (7, [.int p0])), (t2, .inr (11, [.ref n2, .ref c2, .null]))] ++ im2) H ∧ va_D (va_A ([(r9, .inr (10, [.null, .null, .int 0, .int 0, .int 0, .null, .int 0])), (tx, .inl (E.2.1 0, 16000, .inl tray)), (tr, .inr (7, [.int p0]))]) sz) ([(r9, .inr (10, [.ref tr, .ref tx, .int (nI sz9), .int (nI j2), .int (nI q2), .ref t2, .int (nI (tot tb.1 + tot tb.2))])), (tx, .inl (E.2.1 0, 16000, .inl tray)), (tr, .inr (7, [.int p0])), (t2, .inr (11, [.ref n2, .ref c2, .null]))] ++ im2) ∧ (parseT t = .inr tb) ∧ (tL E im2 n2 c2 tb)) (fun x H => ∃ pl : Nat, exC E H x ∧ va_P E.1 ct_cl ([(tx, .inl (E.2.1 0, 16000, .inl tray)), (tr, .inr (7, [.int (nI pl)]))]) H ∧ (parseT t = .inl pl)) (va_A ([(r9, .inr (10, [.null, .null, .int 0, .int 0, .int 0, .null, .int 0])), (tx, .inl (E.2.1 0, 16000, .inl tray)), (tr, .inr (7, [.int p0]))]) sz)) (4 + 6 * (t.length + 1) + 8 * (t.length + 1)) (15 + (70 * (t.length + 1) + gs 16) + (80 * (t.length + 1) + gs (t.length + 16))) (va_A ([(r9, .inr (10, [.null, .null, .int 0, .int 0, .int 0, .null, .int 0])), (tx, .inl (E.2.1 0, 16000, .inl tray)), (tr, .inr (7, [.int p0]))]) sz) := by
  refine ct_startX (by decide) (Nat.le_of_ble_eq_true rfl) ?_
  intro p e s m below meth c ls B hno hsz hH hl
  obtain ⟨hP, hD⟩ := hH
  obtain ⟨A, hAe, h, hA, hAn⟩ := ct_enter B.2.2.2.2.2.2.2.2 hsz hP hD
  rw [hAe]
  refine ct_gen h (fun H locs h => ?_)
  have hx := B.1
  have hb := B.2.1
  have hl : lv_has ls 5 [(0, .ref r9), (1, .ref tr), (2, .ref tx), (3, .int (nI sz9))] := hl
  have htl : t.length = sz9 := htx.1
  refine lv_aload_n hx hb dX10_init_0 rfl (lv_at hl 0 rfl) ?_
  refine ct_objInit B q795 q87 q88 hl.1 dX10_init_1 (Nat.le_of_ble_eq_true rfl) (Nat.le_of_ble_eq_true rfl) ?_
  refine lv_aload_n hx hb dX10_init_4 rfl (lv_at hl 0 rfl) ?_
  refine ct_new (fs := [.null, .null, .null]) B h hAn kX11 q796 q797 q63 (by intro j9 hj9; rcases j9 with _ | _ | _ | j9 <;> first | rfl | omega) (by first | omega | (dsimp only; omega)) (by first | omega | (dsimp only; omega)) dX10_init_5 (fun t_1 H h ht_1 => ?_)
  have h : Hs E A s.heap ([(t_1, .inr (11, [.null, .null, .null]))] ++ ([(r9, .inr (10, [.null, .null, .int 0, .int 0, .int 0, .null, .int 0])), (tx, .inl (E.2.1 0, 16000, .inl tray)), (tr, .inr (7, [.int p0]))])) H locs := ct_Hc h
  have h : Hs E A s.heap ([(t_1, .inr (11, [.null, .null, .null])), (r9, .inr (10, [.null, .null, .int 0, .int 0, .int 0, .null, .int 0])), (tx, .inl (E.2.1 0, 16000, .inl tray)), (tr, .inr (7, [.int p0]))]) H locs := h
  refine lv_dup hx hb dX10_init_8 rfl ?_
  have h : Hs E A s.heap ([(t_1, .inr (11, [.null, .null, .null]))] ++ ([(r9, .inr (10, [.null, .null, .int 0, .int 0, .int 0, .null, .int 0])), (tx, .inl (E.2.1 0, 16000, .inl tray)), (tr, .inr (7, [.int p0]))])) H locs := h
  refine ct_callQ (ct_runIN (b := t_1) (As := []) (rest := [.ref t_1, .ref r9]) B (met_X11_init l E t_1 H.size) q800 q63 (B.2.2.2.2.2.2.2.2.2.1 _ ct_nw_7) q799 rfl (n := 0) ⟨by decide, by decide, by decide +kernel⟩ rfl ⟨rfl, rfl, (Nat.le_of_ble_eq_true rfl), (Nat.le_of_ble_eq_true rfl), (by first | omega | (dsimp only; omega)), (by first | omega | (dsimp only; omega))⟩ h.2.2 hA ⟨(ct_Pl h.1), (ct_Dl (ct_D0 h hA))⟩ hl.1 (Nat.le_of_ble_eq_true rfl) dX10_init_9) h.2.2 (ct_subL h hAn) (ct_subL h hAn) (fun v H locs hv hz hk hS => ?_)
  obtain ⟨n_1, c_1, rfl, hP1, hD1⟩ := hv
  have h : Hs E A s.heap ([(t_1, .inr (11, [.ref n_1, .ref c_1, .null])), (n_1, .inr (14, [.int 0, .ref (E.2.2.2 3), .int (nI 0)])), (c_1, .inr (14, [.int 0, .ref (E.2.2.2 3), .int (nI 0)]))] ++ ([(r9, .inr (10, [.null, .null, .int 0, .int 0, .int 0, .null, .int 0])), (tx, .inl (E.2.1 0, 16000, .inl tray)), (tr, .inr (7, [.int p0]))])) H locs := ct_frL h hP1 hD1 hk hS hAn
  have h : Hs E A s.heap ([(t_1, .inr (11, [.ref n_1, .ref c_1, .null])), (n_1, .inr (14, [.int 0, .ref (E.2.2.2 3), .int (nI 0)])), (c_1, .inr (14, [.int 0, .ref (E.2.2.2 3), .int (nI 0)])), (r9, .inr (10, [.null, .null, .int 0, .int 0, .int 0, .null, .int 0])), (tx, .inl (E.2.1 0, 16000, .inl tray)), (tr, .inr (7, [.int p0]))]) H locs := h
  clear hP1 hD1 hS hz hk
  refine W.eq (g2 := F0 m 12 ls [.ref t_1, .ref r9]) rfl ?_
  refine ct_putF (ws' := [(t_1, .inr (11, [.ref n_1, .ref c_1, .null])), (n_1, .inr (14, [.int 0, .ref (E.2.2.2 3), .int (nI 0)])), (c_1, .inr (14, [.int 0, .ref (E.2.2.2 3), .int (nI 0)])), (r9, .inr (10, [.null, .null, .int 0, .int 0, .int 0, .ref t_1, .int 0])), (tx, .inl (E.2.1 0, 16000, .inl tray)), (tr, .inr (7, [.int p0]))]) B h kX10 3 rfl 5 (Nat.le_of_ble_eq_true rfl) q1131 rfl rfl rfl rfl (Nat.le_of_ble_eq_true rfl) rfl dX10_init_12 (fun H locs h => ?_)
  refine lv_aload_n hx hb dX10_init_15 rfl (lv_at hl 0 rfl) ?_
  refine lv_aload_n hx hb dX10_init_16 rfl (lv_at hl 1 rfl) ?_
  refine ct_putF (ws' := [(t_1, .inr (11, [.ref n_1, .ref c_1, .null])), (n_1, .inr (14, [.int 0, .ref (E.2.2.2 3), .int (nI 0)])), (c_1, .inr (14, [.int 0, .ref (E.2.2.2 3), .int (nI 0)])), (r9, .inr (10, [.ref tr, .null, .int 0, .int 0, .int 0, .ref t_1, .int 0])), (tx, .inl (E.2.1 0, 16000, .inl tray)), (tr, .inr (7, [.int p0]))]) B h kX10 3 rfl 0 (Nat.le_of_ble_eq_true rfl) q1126 rfl rfl rfl rfl (Nat.le_of_ble_eq_true rfl) rfl dX10_init_17 (fun H locs h => ?_)
  refine lv_aload_n hx hb dX10_init_20 rfl (lv_at hl 0 rfl) ?_
  refine lv_aload_n hx hb dX10_init_21 rfl (lv_at hl 2 rfl) ?_
  refine ct_putF (ws' := [(t_1, .inr (11, [.ref n_1, .ref c_1, .null])), (n_1, .inr (14, [.int 0, .ref (E.2.2.2 3), .int (nI 0)])), (c_1, .inr (14, [.int 0, .ref (E.2.2.2 3), .int (nI 0)])), (r9, .inr (10, [.ref tr, .ref tx, .int 0, .int 0, .int 0, .ref t_1, .int 0])), (tx, .inl (E.2.1 0, 16000, .inl tray)), (tr, .inr (7, [.int p0]))]) B h kX10 3 rfl 1 (Nat.le_of_ble_eq_true rfl) q1127 rfl rfl rfl rfl (Nat.le_of_ble_eq_true rfl) rfl dX10_init_22 (fun H locs h => ?_)
  refine lv_aload_n hx hb dX10_init_25 rfl (lv_at hl 0 rfl) ?_
  refine lv_iload_n hx hb dX10_init_26 rfl (lv_at hl 3 rfl) ?_
  refine ct_putF (ws' := [(t_1, .inr (11, [.ref n_1, .ref c_1, .null])), (n_1, .inr (14, [.int 0, .ref (E.2.2.2 3), .int (nI 0)])), (c_1, .inr (14, [.int 0, .ref (E.2.2.2 3), .int (nI 0)])), (r9, .inr (10, [.ref tr, .ref tx, .int (nI sz9), .int 0, .int 0, .ref t_1, .int 0])), (tx, .inl (E.2.1 0, 16000, .inl tray)), (tr, .inr (7, [.int p0]))]) B h kX10 3 rfl 2 (Nat.le_of_ble_eq_true rfl) q1128 rfl rfl rfl rfl (Nat.le_of_ble_eq_true rfl) rfl dX10_init_27 (fun H locs h => ?_)
  refine lv_aload_n hx hb dX10_init_30 rfl (lv_at hl 0 rfl) ?_
  have h : Hs E A s.heap ([(t_1, .inr (11, [.ref n_1, .ref c_1, .null])), (c_1, .inr (14, [.int 0, .ref (E.2.2.2 3), .int (nI 0)])), (r9, .inr (10, [.ref tr, .ref tx, .int (nI sz9), .int 0, .int 0, .ref t_1, .int 0])), (tx, .inl (E.2.1 0, 16000, .inl tray)), (tr, .inr (7, [.int p0])), (n_1, .inr (14, [.int 0, .ref (E.2.2.2 3), .int (nI 0)]))]) H locs := ct_part0 h [0, 2, 3, 4, 5, 1] rfl rfl
  have h : Hs E A s.heap (([(t_1, .inr (11, [.ref n_1, .ref c_1, .null])), (c_1, .inr (14, [.int 0, .ref (E.2.2.2 3), .int (nI 0)])), (r9, .inr (10, [.ref tr, .ref tx, .int (nI sz9), .int 0, .int 0, .ref t_1, .int 0])), (tx, .inl (E.2.1 0, 16000, .inl tray)), (tr, .inr (7, [.int p0]))] ++ alw E n_1 0 0 0 0 (fun _ => none)) ++ []) H locs := h
  have h : Hs E A s.heap (([(c_1, .inr (14, [.int 0, .ref (E.2.2.2 3), .int (nI 0)])), (r9, .inr (10, [.ref tr, .ref tx, .int (nI sz9), .int 0, .int 0, .ref t_1, .int 0])), (tx, .inl (E.2.1 0, 16000, .inl tray)), (tr, .inr (7, [.int p0])), (t_1, .inr (11, [.ref n_1, .ref c_1, .null]))] ++ alw E n_1 0 0 0 0 (fun _ => none)) ++ []) H locs := ct_partM h [1, 2, 3, 4, 0] rfl rfl
  have h : Hs E A s.heap ([(c_1, .inr (14, [.int 0, .ref (E.2.2.2 3), .int (nI 0)]))] ++ (([(r9, .inr (10, [.ref tr, .ref tx, .int (nI sz9), .int 0, .int 0, .ref t_1, .int 0])), (tx, .inl (E.2.1 0, 16000, .inl tray)), (tr, .inr (7, [.int p0])), (t_1, .inr (11, [.ref n_1, .ref c_1, .null]))] ++ alw E n_1 0 0 0 0 (fun _ => none)) ++ [])) H locs := h
  refine ct_callX B hno (ct_runXV (As := []) (rest := []) B (met_X10_names l E r9 tr tx t_1 n_1 c_1 tray sz9 t p0 0 0 (fun _ => none) ([]) H.size htr htx (by omega)) (lw_V q842 q844 qs28 q62 q845) (n := 0) ⟨by decide, by decide, by decide +kernel⟩ rfl ⟨rfl, rfl, (Nat.le_of_ble_eq_true rfl), (Nat.le_of_ble_eq_true rfl), (by first | omega | (dsimp only; omega)), (by first | omega | (dsimp only; omega))⟩ h.2.2 hA (ct_recv B h.1 kX10 1 rfl) ⟨(ct_Pr h.1), (ct_Dr (ct_D0 h hA))⟩ hl.1 (Nat.le_of_ble_eq_true rfl) dX10_init_31) h.2.2 (ct_subR h hAn) (ct_subR h hAn) (by first | omega | (dsimp only; omega)) (by first | omega | (dsimp only; omega)) (fun x H locs hv hz hk hS => ?_) (fun v H locs hv hz hk hS => ?_)
  · obtain ⟨pl_1, hex_, hP1, hth⟩ := hv
    exact ⟨pl_1, hex_, hP1, parseT_e hth⟩
  obtain ⟨ns, j_n, q_n, d_n, md_n, f_n, im_a, rfl, hP1, hD1, hnl_n, hj_n, hnm_n, him_n, hby_n⟩ := hv
  have h : Hs E A s.heap ([(c_1, .inr (14, [.int 0, .ref (E.2.2.2 3), .int (nI 0)]))] ++ (([(r9, .inr (10, [.ref tr, .ref tx, .int (nI sz9), .int (nI j_n), .int (nI q_n), .ref t_1, .int (nI (tot ns))])), (tx, .inl (E.2.1 0, 16000, .inl tray)), (tr, .inr (7, [.int p0])), (t_1, .inr (11, [.ref n_1, .ref c_1, .null]))] ++ alw E n_1 d_n ns.length (cp ns.length) md_n f_n) ++ im_a)) H locs := ct_frR h hP1 hD1 hk hS hAn
  have h : Hs E A s.heap (([(c_1, .inr (14, [.int 0, .ref (E.2.2.2 3), .int (nI 0)])), (r9, .inr (10, [.ref tr, .ref tx, .int (nI sz9), .int (nI j_n), .int (nI q_n), .ref t_1, .int (nI (tot ns))])), (tx, .inl (E.2.1 0, 16000, .inl tray)), (tr, .inr (7, [.int p0])), (t_1, .inr (11, [.ref n_1, .ref c_1, .null]))] ++ alw E n_1 d_n ns.length (cp ns.length) md_n f_n) ++ im_a) H locs := h
  clear hP1 hD1 hS hz hk
  refine W.eq (g2 := F0 m 34 ls []) rfl ?_
  have h : Hs E A s.heap ([(c_1, .inr (14, [.int 0, .ref (E.2.2.2 3), .int (nI 0)])), (r9, .inr (10, [.ref tr, .ref tx, .int (nI sz9), .int (nI j_n), .int (nI q_n), .ref t_1, .int (nI (tot ns))])), (tx, .inl (E.2.1 0, 16000, .inl tray)), (tr, .inr (7, [.int p0])), (t_1, .inr (11, [.ref n_1, .ref c_1, .null]))] ++ (alw E n_1 d_n ns.length (cp ns.length) md_n f_n ++ im_a)) H locs := h
  obtain ⟨im_b, hh_im_b⟩ : ∃ z9 : va_W, z9 = alw E n_1 d_n ns.length (cp ns.length) md_n f_n ++ im_a := ⟨_, rfl⟩
  rw [← hh_im_b] at h
  have hi_im_b : ∀ y ∈ im_a, y ∈ im_b := by rw [hh_im_b]; exact fun y hy => List.mem_append_right _ hy
  have hns := nameLine_ok 16 0 [] ns j_n hnl_n (fun w9 h9 => absurd h9 List.not_mem_nil)
  have hcpn := cp_b ns.length
  have hnsl : 1 ≤ ns.length ∧ ns.length ≤ 16 := ⟨by have := hns.2.1; rw [List.length_nil] at this; omega, by have := hns.2.2; rw [List.length_nil] at this; omega⟩
  have hln1 : alI E im_b n_1 ns.length f_n := by rw [hh_im_b]; exact ⟨d_n, cp ns.length, md_n, hcpn.1, by omega, fun x hx => List.mem_append_left _ hx⟩
  have h : Hs E A s.heap ([(r9, .inr (10, [.ref tr, .ref tx, .int (nI sz9), .int (nI j_n), .int (nI q_n), .ref t_1, .int (nI (tot ns))])), (tx, .inl (E.2.1 0, 16000, .inl tray)), (tr, .inr (7, [.int p0])), (t_1, .inr (11, [.ref n_1, .ref c_1, .null])), (c_1, .inr (14, [.int 0, .ref (E.2.2.2 3), .int (nI 0)]))] ++ im_b) H locs := ct_part h [1, 2, 3, 4, 0] rfl rfl
  have h : Hs E A s.heap (([(r9, .inr (10, [.ref tr, .ref tx, .int (nI sz9), .int (nI j_n), .int (nI q_n), .ref t_1, .int (nI (tot ns))])), (tx, .inl (E.2.1 0, 16000, .inl tray)), (tr, .inr (7, [.int p0])), (t_1, .inr (11, [.ref n_1, .ref c_1, .null]))] ++ alw E c_1 0 0 (cp 0) 0 (fun _ => none)) ++ im_b) H locs := h
  refine lv_iconst (v := nI 1) hx hb dX10_init_34 (by decide) ?_
  refine lv_istore (lv' := [(4, .int (nI 1)), (0, .ref r9), (1, .ref tr), (2, .ref tx), (3, .int (nI sz9))]) hx hb dX10_init_35 hl (by decide) rfl (fun ls hl => ?_)
  refine W.widen (k := 3 + 6 * (t.length + 1) + 8 * j_n) (n := 9 + (70 * (t.length + 1) + gs 16) + (80 * j_n + gs 0)) (by first | (dsimp only; omega) | omega) (by first | (dsimp only; omega) | (dsimp only; rw [show gs 0 = 0 from rfl]; omega) | omega) ?_
  refine ct_loopH (σ := Nat × Nat × List Wd × Nat × Nat × Int32 × (Nat → Option Nat) × va_W × Nat × Nat) (fun (ln, j0, cs, n, d1, md1, f1, im1, q1, by1) H locs ls => lv_has ls 5 [(4, .int (nI ln)), (0, .ref r9), (1, .ref tr), (2, .ref tx), (3, .int (nI sz9))] ∧ Hs E A s.heap (([(r9, .inr (10, [.ref tr, .ref tx, .int (nI sz9), .int (nI j0), .int (nI q1), .ref t_1, .int (nI by1)])), (tx, .inl (E.2.1 0, 16000, .inl tray)), (tr, .inr (7, [.int p0])), (t_1, .inr (11, [.ref n_1, .ref c_1, .null]))] ++ alw E c_1 d1 n (cp n) md1 f1) ++ im1) H locs ∧ (j0 ≤ sz9) ∧ (linesOf t ns.length 499 j_n [] = linesOf t ns.length (500 - ln) j0 cs) ∧ (1 ≤ ln ∧ ln ≤ 500) ∧ (n = cs.length ∧ n ≤ j0) ∧ (∀ x, x < n → ∃ y, f1 x = some y ∧ cI E im1 y (cs.getD x ([], false))) ∧ (∀ y ∈ im_b, y ∈ im1) ∧ (by1 = tot ns + tot cs ∧ by1 ≤ j0)) (fun (ln, j0, cs, n, d1, md1, f1, im1, q1, by1) => 500 - ln) (fun (ln, j0, cs, n, d1, md1, f1, im1, q1, by1) => 3 + 6 * (t.length + 1) + 8 * j0) (fun (ln, j0, cs, n, d1, md1, f1, im1, q1, by1) => 9 + (70 * (t.length + 1) + gs 16) + (80 * j0 + gs n)) (g := fun (ln, j0, cs, n, d1, md1, f1, im1, q1, by1) ls => F0 m 37 ls []) (x0 := (1, j_n, [], 0, 0, 0, (fun _ => none), im_b, q_n, (tot ns))) (ls0 := ls) ?_ ⟨lv_sub hl [0, 1, 2, 3, 4] rfl, h, by omega, rfl, ⟨by omega, by omega⟩, ⟨rfl, Nat.zero_le _⟩, fun k hk => absurd hk (Nat.not_lt_zero k), fun y hy => hy, ⟨rfl, by omega⟩⟩
  clear hl h
  intro x9 H locs ls hI ih_1
  obtain ⟨ln, j0, cs, n, d1, md1, f1, im1, q1, by1⟩ := x9
  obtain ⟨hl, h, hj0, hli, hlc, hn, hce, him, hby⟩ := hI
  refine W.eq (g2 := F0 m 37 ls []) rfl ?_
  have hgn := gs_le (show n + ns.length ≤ t.length + 16 by omega)
  have hg0 := gs_le (show n ≤ n + ns.length by omega)
  have hlle := lL_le (cols := ns.length) (show j0 ≤ t.length by omega)
  refine lv_aload_n hx hb dX10_init_37 rfl (lv_at hl 1 rfl) ?_
  refine ct_get (v := .int (nI j0)) B h.1 kX10 0 rfl 3 (Nat.le_of_ble_eq_true rfl) q1129 rfl dX10_init_38 ?_
  refine lv_iload_n hx hb dX10_init_41 rfl (lv_at hl 4 rfl) ?_
  refine n_icmp_ge (tgt := 72) hx hb dX10_init_42 (by decide) (by omega) (by omega) (fun cend => ?_) (fun cend => ?_)
  · have hcs : linesOf t ns.length 499 j_n [] = .inr cs := hli.trans (linesOf_e (by omega))
    obtain ⟨hn1, hn2⟩ := hn
    obtain ⟨hby1, hby2⟩ := hby
    rw [hn1] at h hce
    rw [hby1] at h
    have hcpc := cp_b cs.length
    have h : Hs E A s.heap ([(r9, .inr (10, [.ref tr, .ref tx, .int (nI sz9), .int (nI j0), .int (nI q1), .ref t_1, .int (nI (tot ns + tot cs))])), (tx, .inl (E.2.1 0, 16000, .inl tray)), (tr, .inr (7, [.int p0])), (t_1, .inr (11, [.ref n_1, .ref c_1, .null]))] ++ (alw E c_1 d1 cs.length (cp cs.length) md1 f1 ++ im1)) H locs := h
    obtain ⟨im_f, hh_im_f⟩ : ∃ z9 : va_W, z9 = alw E c_1 d1 cs.length (cp cs.length) md1 f1 ++ im1 := ⟨_, rfl⟩
    rw [← hh_im_f] at h
    have hi_im_f : ∀ y ∈ im1, y ∈ im_f := by rw [hh_im_f]; exact fun y hy => List.mem_append_right _ hy
    have h : Hs E A s.heap ([(r9, .inr (10, [.ref tr, .ref tx, .int (nI sz9), .int (nI j0), .int (nI q1), .ref t_1, .int (nI (tot (ns, cs).1 + tot (ns, cs).2))])), (tx, .inl (E.2.1 0, 16000, .inl tray)), (tr, .inr (7, [.int p0])), (t_1, .inr (11, [.ref n_1, .ref c_1, .null]))] ++ im_f) H locs := h
    refine W.widen (k := 4 + 6 * (t.length + 1) + 8 * (t.length + 1)) (n := 15 + (70 * (t.length + 1) + gs 16) + (80 * (t.length + 1) + gs (t.length + 16))) (by first | omega | (dsimp only; omega)) (by first | omega | (dsimp only; omega)) ?_
    exact ct_toX (ct_vret B h.2.2 ⟨t_1, n_1, c_1, j0, q1, (ns, cs), im_f, rfl, h.1, h.2.1, parseT_i hnl_n hcs, ⟨f_n, f1, (hln1.mono him).mono hi_im_f, by rw [hh_im_f]; exact ⟨d1, cp cs.length, md1, hcpc.1, by omega, fun x hx => List.mem_append_left _ hx⟩, fun k hk => by obtain ⟨s9, z1, z2⟩ := hnm_n k hk; exact ⟨s9, z1, ((z2.mono hi_im_b).mono him).mono hi_im_f⟩, fun k hk => by obtain ⟨y9, z1, z2⟩ := hce k hk; exact ⟨y9, z1, z2.mono hi_im_f⟩⟩⟩ dX10_init_72)
  · refine lv_iload hx hb dX10_init_45 (lv_at hl 0 rfl) ?_
    refine lv_sipush (v := nI 500) hx hb dX10_init_47 (by decide) ?_
    refine n_icmp_ne (tgt := 62) hx hb dX10_init_50 (by decide) (by omega) (by omega) (fun c500 => ?_) (fun c500 => ?_)
    · refine n_iinc (n := 1) (lv' := [(4, .int (nI (ln + 1))), (0, .ref r9), (1, .ref tr), (2, .ref tx), (3, .int (nI sz9))]) hx hb dX10_init_62 hl (k := 0) rfl rfl (by decide) (by decide) rfl (fun ls hl => ?_)
      refine lv_aload_n hx hb dX10_init_65 rfl (lv_at hl 1 rfl) ?_
      have h : Hs E A s.heap ([] ++ (([(r9, .inr (10, [.ref tr, .ref tx, .int (nI sz9), .int (nI j0), .int (nI q1), .ref t_1, .int (nI by1)])), (tx, .inl (E.2.1 0, 16000, .inl tray)), (tr, .inr (7, [.int p0])), (t_1, .inr (11, [.ref n_1, .ref c_1, .null]))] ++ alw E c_1 d1 n (cp n) md1 f1) ++ im1)) H locs := h
      refine ct_callX B hno (ct_runXV (As := []) (rest := []) B (met_X10_line l E r9 tr tx t_1 n_1 c_1 tray sz9 t p0 j0 q1 by1 ns.length n d1 md1 f1 f_n im1 H.size htr htx (by omega) (by omega) hnsl (by omega) (by omega) (hln1.mono him) (fun i9 h9 y9 e9 => by obtain ⟨s9, z1, z2⟩ := hce i9 h9; cases z1.symm.trans e9; exact z2.o)) (lw_V q1107 q1109 qs36 q62 q1110) (n := 0) ⟨by decide, by decide, by decide +kernel⟩ rfl ⟨rfl, rfl, (Nat.le_of_ble_eq_true rfl), (Nat.le_of_ble_eq_true rfl), (by first | omega | (dsimp only; omega)), (by first | omega | (dsimp only; omega))⟩ h.2.2 hA (ct_recv B h.1 kX10 0 rfl) ⟨(ct_Pr h.1), (ct_Dr (ct_D0 h hA))⟩ hl.1 (Nat.le_of_ble_eq_true rfl) dX10_init_66) h.2.2 (ct_subR h hAn) (ct_subR h hAn) (by first | omega | (dsimp only; omega)) (by first | omega | (dsimp only; omega)) (fun x H locs hv hz hk hS => ?_) (fun v H locs hv hz hk hS => ?_)
      · obtain ⟨pl_1, hex_, hP1, hth⟩ := hv
        exact ⟨pl_1, hex_, hP1, parseT_e2 hnl_n (hli.trans (linesOf_E (by omega) (by omega) hth))⟩
      obtain ⟨ws_l, j_l, q_l, by_l, d_l, md_l, f_l, im_l, rfl, hP1, hD1, hcl_l, hj_l, hwl_l, hce_l, hfo_l, him_l, hby_l⟩ := hv
      have h : Hs E A s.heap ([] ++ (([(r9, .inr (10, [.ref tr, .ref tx, .int (nI sz9), .int (nI j_l), .int (nI q_l), .ref t_1, .int (nI by_l)])), (tx, .inl (E.2.1 0, 16000, .inl tray)), (tr, .inr (7, [.int p0])), (t_1, .inr (11, [.ref n_1, .ref c_1, .null]))] ++ alw E c_1 d_l (n + ns.length) (cp (n + ns.length)) md_l f_l) ++ im_l)) H locs := ct_frR h hP1 hD1 hk hS hAn
      have h : Hs E A s.heap (([(r9, .inr (10, [.ref tr, .ref tx, .int (nI sz9), .int (nI j_l), .int (nI q_l), .ref t_1, .int (nI by_l)])), (tx, .inl (E.2.1 0, 16000, .inl tray)), (tr, .inr (7, [.int p0])), (t_1, .inr (11, [.ref n_1, .ref c_1, .null]))] ++ alw E c_1 d_l (n + ns.length) (cp (n + ns.length)) md_l f_l) ++ im_l) H locs := h
      clear hP1 hD1 hS hz hk
      refine W.eq (g2 := F0 m 69 ls []) rfl ?_
      have hlL := lL_i hcl_l
      have hcle := cellLine_le _ _ _ _ _ hcl_l
      refine lv_goto (tgt := 37) hx hb dX10_init_69 (by decide) ?_
      refine W.widen (k := 3 + 6 * (t.length + 1) + 8 * j_l) (n := 9 + (70 * (t.length + 1) + gs 16) + (80 * j_l + gs (n + ns.length))) (by first | (dsimp only; omega) | omega) (by first | (dsimp only; omega) | (dsimp only; rw [show gs 0 = 0 from rfl]; omega) | omega) ?_
      exact ih_1 ((ln + 1), j_l, (cs ++ ws_l), (n + ns.length), d_l, md_l, f_l, im_l, q_l, by_l) H locs ls (by dsimp only; omega) ⟨lv_sub hl [0, 1, 2, 3, 4] rfl, h, by omega, hli.trans ((linesOf_S (by omega) (by omega) hcl_l).trans (by rw [show 500 - ln - 1 = 500 - (ln + 1) by omega])), ⟨by omega, by omega⟩, ⟨by rw [List.length_append, hwl_l]; omega, by omega⟩, fun x hx => by by_cases q9 : x < n; obtain ⟨y9, z1, z2⟩ := hce x q9; exact ⟨y9, by rw [hfo_l x q9]; exact z1, by rw [gD_l (by omega)]; exact z2.mono him_l⟩; obtain ⟨y9, z1, z2⟩ := hce_l (x - n) (by omega); exact ⟨y9, by rw [show n + (x - n) = x by omega] at z1; exact z1, by rw [gD_r (by omega), ← hn.1]; exact z2⟩, fun y hy => him_l y (him y hy), ⟨by rw [tot_app, ← Nat.add_assoc, ← hby.1]; exact hby_l.1, by omega⟩⟩
    · have hpl : parseT t = .inl j0 := parseT_e2 hnl_n (hli.trans (linesOf_0 (by omega) (by omega)))
      refine lv_aload_n hx hb dX10_init_53 rfl (lv_at hl 1 rfl) ?_
      refine lv_aload_n hx hb dX10_init_54 rfl (lv_at hl 1 rfl) ?_
      refine ct_get (v := .int (nI j0)) B h.1 kX10 0 rfl 3 (Nat.le_of_ble_eq_true rfl) q1129 rfl dX10_init_55 ?_
      have h : Hs E A s.heap (([(r9, .inr (10, [.ref tr, .ref tx, .int (nI sz9), .int (nI j0), .int (nI q1), .ref t_1, .int (nI by1)])), (tr, .inr (7, [.int p0])), (tx, .inl (E.2.1 0, 16000, .inl tray)), (t_1, .inr (11, [.ref n_1, .ref c_1, .null]))] ++ alw E c_1 d1 n (cp n) md1 f1) ++ im1) H locs := ct_partM h [0, 2, 1, 3] rfl rfl
      have h : Hs E A s.heap ([(r9, .inr (10, [.ref tr, .ref tx, .int (nI sz9), .int (nI j0), .int (nI q1), .ref t_1, .int (nI by1)])), (tr, .inr (7, [.int p0]))] ++ (([(tx, .inl (E.2.1 0, 16000, .inl tray)), (t_1, .inr (11, [.ref n_1, .ref c_1, .null]))] ++ alw E c_1 d1 n (cp n) md1 f1) ++ im1)) H locs := h
      refine ct_callQ (ct_runV (As := [.int (nI j0)]) (rest := []) B (met_X10_wrong l E r9 tr tx sz9 j0 q1 by1 (some t_1) p0 (nI j0) H.size htr) (lw_V q850 q852 qs29 q62 q853) (n := 1) ⟨by decide, by decide, by decide +kernel⟩ rfl ⟨rfl, rfl, (Nat.le_of_ble_eq_true rfl), (Nat.le_of_ble_eq_true rfl), (by first | omega | (dsimp only; omega)), (by first | omega | (dsimp only; omega))⟩ h.2.2 hA (ct_recv B h.1 kX10 0 rfl) ⟨(ct_Pl h.1), (ct_Dl (ct_D0 h hA))⟩ hl.1 (Nat.le_of_ble_eq_true rfl) dX10_init_58) h.2.2 (ct_subL h hAn) (ct_subL h hAn) (fun v H locs hv hz hk hS => ?_)
      obtain ⟨x_1, rfl, hP1, hD1, hex_⟩ := hv
      have h : Hs E A s.heap ([(r9, .inr (10, [.ref tr, .ref tx, .int (nI sz9), .int (nI j0), .int (nI q1), .ref t_1, .int (nI by1)])), (tr, .inr (7, [.int (nI j0)]))] ++ (([(tx, .inl (E.2.1 0, 16000, .inl tray)), (t_1, .inr (11, [.ref n_1, .ref c_1, .null]))] ++ alw E c_1 d1 n (cp n) md1 f1) ++ im1)) H locs := ct_frL h hP1 hD1 hk hS hAn
      have h : Hs E A s.heap (([(r9, .inr (10, [.ref tr, .ref tx, .int (nI sz9), .int (nI j0), .int (nI q1), .ref t_1, .int (nI by1)])), (tr, .inr (7, [.int (nI j0)])), (tx, .inl (E.2.1 0, 16000, .inl tray)), (t_1, .inr (11, [.ref n_1, .ref c_1, .null]))] ++ alw E c_1 d1 n (cp n) md1 f1) ++ im1) H locs := h
      clear hP1 hD1 hS hz hk
      refine W.eq (g2 := F0 m 61 ls [.ref x_1]) rfl ?_
      refine W.widen (k := 4 + 6 * (t.length + 1) + 8 * (t.length + 1)) (n := 15 + (70 * (t.length + 1) + gs 16) + (80 * (t.length + 1) + gs (t.length + 16))) (by first | omega | (dsimp only; omega)) (by first | omega | (dsimp only; omega)) ?_
      exact ct_athrow B hno h.2.2 ⟨j0, hex_, h.1.sub [2, 1] rfl, hpl⟩ dX10_init_61
