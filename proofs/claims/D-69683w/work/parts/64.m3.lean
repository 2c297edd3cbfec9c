set_option maxHeartbeats 4000000 in
set_option maxRecDepth 100000 in
theorem met_X10_names (l : Launch) (E : CE) (r9 tr tx t9 n9 c9 : Nat) (tray : Nat → Int32) (sz9 : Nat) (t : List Nat) (p0 : Int32) (d : Nat) (md : Int32) (f : Nat → Option Nat) (im : va_W) (sz : Nat) (htr : l.stackTraces = false) (htx : txR tray sz9 t) (hsz9 : sz9 ≤ 16000) : MetX l yX10_names (ws_ yX10_names cX10_names 6 none) { frames := 9, cells := 6 * (t.length + 1), slots := 70 * (t.length + 1) + gs 16, locals := 194 } (ctP E [.ref r9] sz (fun H => va_P E.1 ct_cl (([(r9, .inr (10, [.ref tr, .ref tx, .int (nI sz9), .int (nI 0), .int (nI 0), .ref t9, .int (nI 0)])), (tx, .inl (E.2.1 0, 16000, .inl tray)), (tr, .inr (7, [.int p0])), (t9, .inr (11, [.ref n9, .ref c9, .null]))] ++ alw E n9 d 0 0 md f) ++ im) H ∧ va_D (fun q => E.2.2.1 ≤ q) (([(r9, .inr (10, [.ref tr, .ref tx, .int (nI sz9), .int (nI 0), .int (nI 0), .ref t9, .int (nI 0)])), (tx, .inl (E.2.1 0, 16000, .inl tray)), (tr, .inr (7, [.int p0])), (t9, .inr (11, [.ref n9, .ref c9, .null]))] ++ alw E n9 d 0 0 md f) ++ im))) (ctX (fun v H => ∃ ns : List Wd, ∃ j2 : Nat, ∃ q2 : Nat, ∃ d2 : Nat, ∃ md2 : Int32, ∃ f2 : Nat → Option Nat, ∃ im2 : va_W, v = none ∧ va_P E.1 ct_cl (([(r9, .inr (10, [.ref tr, .ref tx, .int (nI sz9), .int (nI j2), .int (nI q2), .ref t9, .int (nI (tot ns))])), (tx, .inl (E.2.1 0, 16000, .inl tray)), (tr, .inr (7, [.int p0])), (t9, .inr (11, [.ref n9, .ref c9, .null]))] ++ alw E n9 d2 ns.length (cp ns.length) md2 f2) ++ im2) H ∧ va_D (va_A (([(r9, .inr (10, [.ref tr, .ref tx, .int (nI sz9), .int (nI 0), .int (nI 0), .ref t9, .int (nI 0)])), (tx, .inl (E.2.1 0, 16000, .inl tray)), (tr, .inr (7, [.int p0])), (t9, .inr (11, [.ref n9, .ref c9, .null]))] ++ alw E n9 d 0 0 md f) ++ im) sz) (([(r9, .inr (10, [.ref tr, .ref tx, .int (nI sz9), .int (nI j2), .int (nI q2), .ref t9, .int (nI (tot ns))])), (tx, .inl (E.2.1 0, 16000, .inl tray)), (tr, .inr (7, [.int p0])), (t9, .inr (11, [.ref n9, .ref c9, .null]))] ++ alw E n9 d2 ns.length (cp ns.length) md2 f2) ++ im2) ∧ (nameLine t 16 0 [] = .inr (ns, j2)) ∧ (j2 ≤ t.length) ∧ (∀ k, k < ns.length → ∃ s9, f2 k = some s9 ∧ sI E im2 s9 (ns.getD k ([], false)).1) ∧ (∀ y ∈ im, y ∈ im2) ∧ (tot ns ≤ j2)) (fun x H => ∃ pl : Nat, exC E H x ∧ va_P E.1 ct_cl ([(tx, .inl (E.2.1 0, 16000, .inl tray)), (tr, .inr (7, [.int (nI pl)]))]) H ∧ (nameLine t 16 0 [] = .inl pl)) (va_A (([(r9, .inr (10, [.ref tr, .ref tx, .int (nI sz9), .int (nI 0), .int (nI 0), .ref t9, .int (nI 0)])), (tx, .inl (E.2.1 0, 16000, .inl tray)), (tr, .inr (7, [.int p0])), (t9, .inr (11, [.ref n9, .ref c9, .null]))] ++ alw E n9 d 0 0 md f) ++ im) sz)) (6 * (t.length + 1)) (70 * (t.length + 1) + gs 16) (va_A (([(r9, .inr (10, [.ref tr, .ref tx, .int (nI sz9), .int (nI 0), .int (nI 0), .ref t9, .int (nI 0)])), (tx, .inl (E.2.1 0, 16000, .inl tray)), (tr, .inr (7, [.int p0])), (t9, .inr (11, [.ref n9, .ref c9, .null]))] ++ alw E n9 d 0 0 md f) ++ im) sz) := by
  refine ct_startX (by decide) (Nat.le_of_ble_eq_true rfl) ?_
  intro p e s m below meth c ls B hno hsz hH hl
  obtain ⟨hP, hD⟩ := hH
  obtain ⟨A, hAe, h, hA, hAn⟩ := ct_enter B.2.2.2.2.2.2.2.2 hsz hP hD
  rw [hAe]
  refine ct_gen h (fun H locs h => ?_)
  have hx := B.1
  have hb := B.2.1
  have hl : lv_has ls 6 [(0, .ref r9)] := hl
  have htl : t.length = sz9 := htx.1
  refine lv_iconst (v := nI 1) hx hb dX10_names_0 (by decide) ?_
  refine lv_istore_n (lv' := [(1, .int (nI 1)), (0, .ref r9)]) hx hb dX10_names_1 rfl hl (by decide) rfl (fun ls hl => ?_)
  refine W.widen (k := 6 * 0) (n := 70 * 0 + gs 0) (by first | (have := cellA_le n (cp n); dsimp only; omega) | omega | (dsimp only; omega)) (by first | (have := gs_S n; dsimp only; omega) | omega | (dsimp only; rw [show gs 0 = 0 from rfl]; omega)) ?_
  refine ct_loopH (σ := Nat × Nat × List Wd × Nat × Nat × Int32 × (Nat → Option Nat) × va_W × Nat × Nat) (fun (b9, j0, acc, n, d1, md1, f1, im1, q1, by1) H locs ls => lv_has ls 6 [(1, .int (nI b9)), (0, .ref r9)] ∧ Hs E A s.heap (([(r9, .inr (10, [.ref tr, .ref tx, .int (nI sz9), .int (nI j0), .int (nI q1), .ref t9, .int (nI by1)])), (tx, .inl (E.2.1 0, 16000, .inl tray)), (tr, .inr (7, [.int p0])), (t9, .inr (11, [.ref n9, .ref c9, .null]))] ++ alw E n9 d1 n (cp n) md1 f1) ++ im1) H locs ∧ (j0 ≤ sz9) ∧ ((b9 = 1 ∧ nameLine t 16 0 [] = nameLine t (16 - n) j0 acc) ∨ (b9 = 0 ∧ nameLine t 16 0 [] = .inr (acc, j0))) ∧ (n = acc.length ∧ n ≤ 16) ∧ (∀ k, k < n → ∃ s9, f1 k = some s9 ∧ sI E im1 s9 (acc.getD k ([], false)).1) ∧ (∀ y ∈ im, y ∈ im1) ∧ (by1 = tot acc ∧ by1 ≤ j0)) (fun (b9, j0, acc, n, d1, md1, f1, im1, q1, by1) => 2 * (17 - n) + b9) (fun (b9, j0, acc, n, d1, md1, f1, im1, q1, by1) => 6 * j0) (fun (b9, j0, acc, n, d1, md1, f1, im1, q1, by1) => 70 * j0 + gs n) (g := fun (b9, j0, acc, n, d1, md1, f1, im1, q1, by1) ls => F0 m 2 ls []) (x0 := (1, 0, [], 0, d, md, f, im, 0, 0)) (ls0 := ls) ?_ ⟨lv_sub hl [0, 1] rfl, h, Nat.zero_le _, Or.inl ⟨rfl, rfl⟩, ⟨rfl, by omega⟩, fun k hk => absurd hk (Nat.not_lt_zero k), fun y hy => hy, ⟨rfl, by omega⟩⟩
  clear hl h
  intro x9 H locs ls hI ih_1
  obtain ⟨b9, j0, acc, n, d1, md1, f1, im1, q1, by1⟩ := x9
  obtain ⟨hl, h, hj0, hnl, hn, hnm, him, hby⟩ := hI
  refine W.eq (g2 := F0 m 2 ls []) rfl ?_
  have hgn := gs_le hn.2
  have hwr := room_le (show j0 ≤ t.length by omega)
  refine lv_iload_n hx hb dX10_names_2 rfl (lv_at hl 0 rfl) ?_
  refine n_if_eq (tgt := 170) hx hb dX10_names_3 (by decide) (by rcases hnl with z9 | z9 <;> omega) (fun cb9 => ?_) (fun cb9 => ?_)
  · have hnlr : nameLine t 16 0 [] = .inr (acc, j0) := by rcases hnl with z9 | z9; exact absurd z9.1 (by omega); exact z9.2
    obtain ⟨hn1, hn2⟩ := hn
    obtain ⟨hby1, hby2⟩ := hby
    subst hn1
    subst hby1
    have h : Hs E A s.heap (([(r9, .inr (10, [.ref tr, .ref tx, .int (nI sz9), .int (nI j0), .int (nI q1), .ref t9, .int (nI (tot acc))])), (tx, .inl (E.2.1 0, 16000, .inl tray)), (tr, .inr (7, [.int p0])), (t9, .inr (11, [.ref n9, .ref c9, .null]))] ++ alw E n9 d1 acc.length (cp acc.length) md1 f1) ++ im1) H locs := h
    refine W.widen (k := 6 * (t.length + 1)) (n := 70 * (t.length + 1) + gs 16) (by first | omega | (dsimp only; omega)) (by first | omega | (dsimp only; omega)) ?_
    exact ct_toX (ct_vret B h.2.2 ⟨acc, j0, q1, d1, md1, f1, im1, rfl, h.1, h.2.1, hnlr, by omega, hnm, him, hby2⟩ dX10_names_170)
  · have hnl0 : nameLine t 16 0 [] = nameLine t (16 - n) j0 acc := by rcases hnl with z9 | z9; exact z9.2; exact absurd z9.1 (by omega)
    have hb1 : b9 = 1 := by rcases hnl with z9 | z9 <;> omega
    subst hb1
    refine lv_aload_n hx hb dX10_names_6 rfl (lv_at hl 1 rfl) ?_
    refine ct_get (v := .int (nI j0)) B h.1 kX10 0 rfl 3 (Nat.le_of_ble_eq_true rfl) q1129 rfl dX10_names_7 ?_
    refine lv_istore_n (lv' := [(2, .int (nI j0)), (1, .int (nI 1)), (0, .ref r9)]) hx hb dX10_names_10 rfl hl (by decide) rfl (fun ls hl => ?_)
    refine lv_aload_n hx hb dX10_names_11 rfl (lv_at hl 2 rfl) ?_
    refine ct_get (v := .ref t9) B h.1 kX10 0 rfl 5 (Nat.le_of_ble_eq_true rfl) q1131 rfl dX10_names_12 ?_
    refine ct_get (v := .ref n9) B h.1 kX11 3 rfl 0 (Nat.le_of_ble_eq_true rfl) q829 rfl dX10_names_15 ?_
    refine ct_callR (ct_runV (As := []) (rest := []) B (met_J10_size l E n9 (edA E d1 (cp n)) n md1 H.size) (lw_V q846 q847 q848 q66 q849) (n := 0) ⟨by decide, by decide, by decide +kernel⟩ rfl ⟨rfl, rfl, (Nat.le_of_ble_eq_true rfl), (Nat.le_of_ble_eq_true rfl), (by first | omega | (dsimp only; omega)), (by first | omega | (dsimp only; omega))⟩ h.2.2 hA (ct_recv B (alw_o (ct_Pr (ct_Pl h.1))) kJ10 0 rfl) ((alw_o (ct_Pr (ct_Pl h.1))).sub [0] rfl) hl.1 (Nat.le_of_ble_eq_true rfl) dX10_names_18) (fun v hv => ?_)
    subst hv
    refine W.eq (g2 := F0 m 21 ls [.int (nI n)]) rfl ?_
    refine lv_bipush (v := nI 16) hx hb dX10_names_21 (by decide) ?_
    refine n_icmp_ne (tgt := 32) hx hb dX10_names_23 (by decide) (by omega) (by omega) (fun c16 => ?_) (fun c16 => ?_)
    · refine lv_aload_n hx hb dX10_names_32 rfl (lv_at hl 2 rfl) ?_
      have h : Hs E A s.heap ([(r9, .inr (10, [.ref tr, .ref tx, .int (nI sz9), .int (nI j0), .int (nI q1), .ref t9, .int (nI by1)])), (tx, .inl (E.2.1 0, 16000, .inl tray)), (tr, .inr (7, [.int p0]))] ++ (([(t9, .inr (11, [.ref n9, .ref c9, .null]))] ++ alw E n9 d1 n (cp n) md1 f1) ++ im1)) H locs := h
      refine ct_callX B hno (ct_runXV (As := []) (rest := []) B (met_X10_word l E r9 tr tx tray sz9 j0 q1 by1 (some t9) t p0 H.size htr htx (by omega) (by omega)) (lw_V q860 q862 qs30 q62 q863) (n := 0) ⟨by decide, by decide, by decide +kernel⟩ rfl ⟨rfl, rfl, (Nat.le_of_ble_eq_true rfl), (Nat.le_of_ble_eq_true rfl), (by first | omega | (dsimp only; omega)), (by first | omega | (dsimp only; omega))⟩ h.2.2 hA (ct_recv B h.1 kX10 0 rfl) ⟨(ct_Pl h.1), (ct_Dl (ct_D0 h hA))⟩ hl.1 (Nat.le_of_ble_eq_true rfl) dX10_names_33) h.2.2 (ct_subL h hAn) (ct_subL h hAn) (by first | omega | (dsimp only; omega)) (by first | omega | (dsimp only; omega)) (fun x H locs hv hz hk hS => ?_) (fun v H locs hv hz hk hS => ?_)
      · obtain ⟨pl_1, hex_, hP1, hth⟩ := hv
        exact ⟨pl_1, hex_, hP1, hnl0.trans (nameLine_E (by omega) (nameAt_e hth))⟩
      obtain ⟨s_w, q_w, g_w, w_w, j_w, rfl, hP1, hD1, hw_w, hg_w, hj_w, hr_w⟩ := hv
      have h : Hs E A s.heap ([(r9, .inr (10, [.ref tr, .ref tx, .int (nI sz9), .int (nI j_w), .int (nI (if w_w.2 = true then 1 else 0)), .ref t9, .int (nI by1)])), (tx, .inl (E.2.1 0, 16000, .inl tray)), (tr, .inr (7, [.int p0])), (s_w, .inr (13, [.ref q_w, .int (nI 0), .int 0, .int 0])), (q_w, .inl (E.2.1 0, w_w.1.length, .inl g_w))] ++ (([(t9, .inr (11, [.ref n9, .ref c9, .null]))] ++ alw E n9 d1 n (cp n) md1 f1) ++ im1)) H locs := ct_frL h hP1 hD1 hk hS hAn
      have h : Hs E A s.heap (([(r9, .inr (10, [.ref tr, .ref tx, .int (nI sz9), .int (nI j_w), .int (nI (if w_w.2 = true then 1 else 0)), .ref t9, .int (nI by1)])), (tx, .inl (E.2.1 0, 16000, .inl tray)), (tr, .inr (7, [.int p0])), (s_w, .inr (13, [.ref q_w, .int (nI 0), .int 0, .int 0])), (q_w, .inl (E.2.1 0, w_w.1.length, .inl g_w)), (t9, .inr (11, [.ref n9, .ref c9, .null]))] ++ alw E n9 d1 n (cp n) md1 f1) ++ im1) H locs := h
      clear hP1 hD1 hS hz hk
      refine W.eq (g2 := F0 m 36 ls [.ref s_w]) rfl ?_
      have h : Hs E A s.heap (([(r9, .inr (10, [.ref tr, .ref tx, .int (nI sz9), .int (nI j_w), .int (nI (if w_w.2 = true then 1 else 0)), .ref t9, .int (nI by1)])), (tx, .inl (E.2.1 0, 16000, .inl tray)), (tr, .inr (7, [.int p0])), (t9, .inr (11, [.ref n9, .ref c9, .null])), (s_w, .inr (13, [.ref q_w, .int (nI 0), .int 0, .int 0])), (q_w, .inl (E.2.1 0, w_w.1.length, .inl g_w))] ++ alw E n9 d1 n (cp n) md1 f1) ++ im1) H locs := ct_partM h [0, 1, 2, 5, 3, 4] rfl rfl
      have h : Hs E A s.heap ((([(r9, .inr (10, [.ref tr, .ref tx, .int (nI sz9), .int (nI j_w), .int (nI (if w_w.2 = true then 1 else 0)), .ref t9, .int (nI by1)])), (tx, .inl (E.2.1 0, 16000, .inl tray)), (tr, .inr (7, [.int p0])), (t9, .inr (11, [.ref n9, .ref c9, .null]))] ++ [(s_w, .inr (13, [.ref q_w, .int (nI 0), .int 0, .int 0])), (q_w, .inl (E.2.1 0, w_w.1.length, .inl g_w))]) ++ alw E n9 d1 n (cp n) md1 f1) ++ im1) H locs := h
      have h : Hs E A s.heap (([(r9, .inr (10, [.ref tr, .ref tx, .int (nI sz9), .int (nI j_w), .int (nI (if w_w.2 = true then 1 else 0)), .ref t9, .int (nI by1)])), (tx, .inl (E.2.1 0, 16000, .inl tray)), (tr, .inr (7, [.int p0])), (t9, .inr (11, [.ref n9, .ref c9, .null]))] ++ alw E n9 d1 n (cp n) md1 f1) ++ ([(s_w, .inr (13, [.ref q_w, .int (nI 0), .int 0, .int 0])), (q_w, .inl (E.2.1 0, w_w.1.length, .inl g_w))] ++ im1)) H locs := ct_absM h
      obtain ⟨im_n, hh_im_n⟩ : ∃ z9 : va_W, z9 = [(s_w, .inr (13, [.ref q_w, .int (nI 0), .int 0, .int 0])), (q_w, .inl (E.2.1 0, w_w.1.length, .inl g_w))] ++ im1 := ⟨_, rfl⟩
      rw [← hh_im_n] at h
      have hi_im_n : ∀ y ∈ im1, y ∈ im_n := by rw [hh_im_n]; exact fun y hy => List.mem_append_right _ hy
      have hsw : sI E im_n s_w w_w.1 := by rw [hh_im_n]; exact ⟨q_w, g_w, List.mem_cons_self, List.mem_cons_of_mem _ List.mem_cons_self, hg_w, hr_w, by omega⟩
      have hwl := wL_i hw_w
      refine lv_astore_n (lv' := [(3, .ref s_w), (2, .int (nI j0)), (1, .int (nI 1)), (0, .ref r9)]) hx hb dX10_names_36 rfl hl (by decide) rfl (fun ls hl => ?_)
      refine lv_aload_n hx hb dX10_names_37 rfl (lv_at hl 3 rfl) ?_
      have h : Hs E A s.heap ([(r9, .inr (10, [.ref tr, .ref tx, .int (nI sz9), .int (nI j_w), .int (nI (if w_w.2 = true then 1 else 0)), .ref t9, .int (nI by1)])), (tx, .inl (E.2.1 0, 16000, .inl tray)), (tr, .inr (7, [.int p0]))] ++ (([(t9, .inr (11, [.ref n9, .ref c9, .null]))] ++ alw E n9 d1 n (cp n) md1 f1) ++ im_n)) H locs := h
      refine ct_callX B hno (ct_runXV (As := []) (rest := []) B (met_X10_mustEnd l E r9 tr tx tray sz9 j_w (if w_w.2 = true then 1 else 0) by1 (some t9) t p0 H.size htr htx (by omega) (by omega)) (lw_V q1028 q1030 qs32 q62 q1031) (n := 0) ⟨by decide, by decide, by decide +kernel⟩ rfl ⟨rfl, rfl, (Nat.le_of_ble_eq_true rfl), (Nat.le_of_ble_eq_true rfl), (by first | omega | (dsimp only; omega)), (by first | omega | (dsimp only; omega))⟩ h.2.2 hA (ct_recv B h.1 kX10 0 rfl) ⟨(ct_Pl h.1), (ct_Dl (ct_D0 h hA))⟩ hl.1 (Nat.le_of_ble_eq_true rfl) dX10_names_38) h.2.2 (ct_subL h hAn) (ct_subL h hAn) (by first | omega | (dsimp only; omega)) (by first | omega | (dsimp only; omega)) (fun x H locs hv hz hk hS => ?_) (fun v H locs hv hz hk hS => ?_)
      · obtain ⟨pl_1, hex_, hP1, hth⟩ := hv
        exact ⟨pl_1, hex_, hP1, hnl0.trans (nameLine_E (by omega) ((nameAt_i hw_w).trans (by rw [if_pos hth.2, hth.1])))⟩
      obtain ⟨rfl, hP1, hD1, hend⟩ := hv
      have h : Hs E A s.heap ([(r9, .inr (10, [.ref tr, .ref tx, .int (nI sz9), .int (nI j_w), .int (nI (if w_w.2 = true then 1 else 0)), .ref t9, .int (nI by1)])), (tx, .inl (E.2.1 0, 16000, .inl tray)), (tr, .inr (7, [.int p0]))] ++ (([(t9, .inr (11, [.ref n9, .ref c9, .null]))] ++ alw E n9 d1 n (cp n) md1 f1) ++ im_n)) H locs := ct_frL h hP1 hD1 hk hS hAn
      have h : Hs E A s.heap (([(r9, .inr (10, [.ref tr, .ref tx, .int (nI sz9), .int (nI j_w), .int (nI (if w_w.2 = true then 1 else 0)), .ref t9, .int (nI by1)])), (tx, .inl (E.2.1 0, 16000, .inl tray)), (tr, .inr (7, [.int p0])), (t9, .inr (11, [.ref n9, .ref c9, .null]))] ++ alw E n9 d1 n (cp n) md1 f1) ++ im_n) H locs := h
      clear hP1 hD1 hS hz hk
      refine W.eq (g2 := F0 m 41 ls []) rfl ?_
      refine lv_aload_n hx hb dX10_names_41 rfl (lv_at hl 0 rfl) ?_
      refine ct_callR (ct_runV (As := []) (rest := []) B (met_J4_isEmpty l E  _ s_w w_w.1 H.size) (lw_V q1032 q1033 q1034 q58 q1035) (n := 0) ⟨by decide, by decide, by decide +kernel⟩ rfl ⟨rfl, rfl, (Nat.le_of_ble_eq_true rfl), (Nat.le_of_ble_eq_true rfl), (by first | omega | (dsimp only; omega)), (by first | omega | (dsimp only; omega))⟩ h.2.2 hA (ct_Srecv B (hsw.S (ct_Pr h.1))) (hsw.S (ct_Pr h.1)) hl.1 (Nat.le_of_ble_eq_true rfl) dX10_names_42) (fun v hv => ?_)
      subst hv
      refine W.eq (g2 := F0 m 45 ls [.int (if w_w.1.length = 0 then 1 else 0)]) rfl ?_
      refine b_if_ne (tgt := 57) hx hb dX10_names_45 (by decide) (fun cem => ?_) (fun cem => ?_)
      · refine lv_iconst (v := nI 1) hx hb dX10_names_57 (by decide) ?_
        refine lv_goto (tgt := 62) hx hb dX10_names_58 (by decide) ?_
        refine lv_istore (lv' := [(4, .int (nI 1)), (3, .ref s_w), (2, .int (nI j0)), (1, .int (nI 1)), (0, .ref r9)]) hx hb dX10_names_62 hl (by decide) rfl (fun ls hl => ?_)
        refine lv_iconst (v := nI 0) hx hb dX10_names_64 (by decide) ?_
        refine lv_istore (lv' := [(5, .int (nI 0)), (4, .int (nI 1)), (3, .ref s_w), (2, .int (nI j0)), (1, .int (nI 1)), (0, .ref r9)]) hx hb dX10_names_65 hl (by decide) rfl (fun ls hl => ?_)
        refine lv_iload hx hb dX10_names_67 (lv_at hl 0 rfl) ?_
        refine lv_aload_n hx hb dX10_names_69 rfl (lv_at hl 5 rfl) ?_
        refine ct_get (v := .ref t9) B h.1 kX10 0 rfl 5 (Nat.le_of_ble_eq_true rfl) q1131 rfl dX10_names_70 ?_
        refine ct_get (v := .ref n9) B h.1 kX11 3 rfl 0 (Nat.le_of_ble_eq_true rfl) q829 rfl dX10_names_73 ?_
        refine ct_callR (ct_runV (As := []) (rest := [.int (nI 0)]) B (met_J10_size l E n9 (edA E d1 (cp n)) n md1 H.size) (lw_V q846 q847 q848 q66 q849) (n := 0) ⟨by decide, by decide, by decide +kernel⟩ rfl ⟨rfl, rfl, (Nat.le_of_ble_eq_true rfl), (Nat.le_of_ble_eq_true rfl), (by first | omega | (dsimp only; omega)), (by first | omega | (dsimp only; omega))⟩ h.2.2 hA (ct_recv B (alw_o (ct_Pr (ct_Pl h.1))) kJ10 0 rfl) ((alw_o (ct_Pr (ct_Pl h.1))).sub [0] rfl) hl.1 (Nat.le_of_ble_eq_true rfl) dX10_names_76) (fun v hv => ?_)
        subst hv
        refine W.eq (g2 := F0 m 79 ls [.int (nI n), .int (nI 0)]) rfl ?_
        refine n_icmp_ge (tgt := 114) hx hb dX10_names_79 (by decide) (by omega) (by omega) (fun c_2 => ?_) (fun c_2 => ?_)
        · refine lv_iload hx hb dX10_names_114 (lv_at hl 1 rfl) ?_
          refine n_if_eq (tgt := 125) hx hb dX10_names_116 (by decide) (by first | omega | (rcases hb4 with z9 | z9 <;> omega)) (fun cb5 => absurd cb5 (by omega)) (fun cb5 => ?_)
          have hna : nameAt t j0 acc = .inl j0 := (nameAt_i hw_w).trans (by rw [if_neg (fun z9 => z9 hend), if_pos (Or.inr (Or.inl cem))])
          have hpl : nameLine t 16 0 [] = .inl j0 := hnl0.trans (nameLine_E (by omega) hna)
          refine lv_aload_n hx hb dX10_names_119 rfl (lv_at hl 5 rfl) ?_
          refine lv_iload_n hx hb dX10_names_120 rfl (lv_at hl 3 rfl) ?_
          have h : Hs E A s.heap (([(r9, .inr (10, [.ref tr, .ref tx, .int (nI sz9), .int (nI j_w), .int (nI (if w_w.2 = true then 1 else 0)), .ref t9, .int (nI by1)])), (tr, .inr (7, [.int p0])), (tx, .inl (E.2.1 0, 16000, .inl tray)), (t9, .inr (11, [.ref n9, .ref c9, .null]))] ++ alw E n9 d1 n (cp n) md1 f1) ++ im_n) H locs := ct_partM h [0, 2, 1, 3] rfl rfl
          have h : Hs E A s.heap ([(r9, .inr (10, [.ref tr, .ref tx, .int (nI sz9), .int (nI j_w), .int (nI (if w_w.2 = true then 1 else 0)), .ref t9, .int (nI by1)])), (tr, .inr (7, [.int p0]))] ++ (([(tx, .inl (E.2.1 0, 16000, .inl tray)), (t9, .inr (11, [.ref n9, .ref c9, .null]))] ++ alw E n9 d1 n (cp n) md1 f1) ++ im_n)) H locs := h
          refine ct_callQ (ct_runV (As := [.int (nI j0)]) (rest := []) B (met_X10_wrong l E r9 tr tx sz9 j_w (if w_w.2 = true then 1 else 0) by1 (some t9) p0 (nI j0) H.size htr) (lw_V q850 q852 qs29 q62 q853) (n := 1) ⟨by decide, by decide, by decide +kernel⟩ rfl ⟨rfl, rfl, (Nat.le_of_ble_eq_true rfl), (Nat.le_of_ble_eq_true rfl), (by first | omega | (dsimp only; omega)), (by first | omega | (dsimp only; omega))⟩ h.2.2 hA (ct_recv B h.1 kX10 0 rfl) ⟨(ct_Pl h.1), (ct_Dl (ct_D0 h hA))⟩ hl.1 (Nat.le_of_ble_eq_true rfl) dX10_names_121) h.2.2 (ct_subL h hAn) (ct_subL h hAn) (fun v H locs hv hz hk hS => ?_)
          obtain ⟨x_1, rfl, hP1, hD1, hex_⟩ := hv
          have h : Hs E A s.heap ([(r9, .inr (10, [.ref tr, .ref tx, .int (nI sz9), .int (nI j_w), .int (nI (if w_w.2 = true then 1 else 0)), .ref t9, .int (nI by1)])), (tr, .inr (7, [.int (nI j0)]))] ++ (([(tx, .inl (E.2.1 0, 16000, .inl tray)), (t9, .inr (11, [.ref n9, .ref c9, .null]))] ++ alw E n9 d1 n (cp n) md1 f1) ++ im_n)) H locs := ct_frL h hP1 hD1 hk hS hAn
          have h : Hs E A s.heap (([(r9, .inr (10, [.ref tr, .ref tx, .int (nI sz9), .int (nI j_w), .int (nI (if w_w.2 = true then 1 else 0)), .ref t9, .int (nI by1)])), (tr, .inr (7, [.int (nI j0)])), (tx, .inl (E.2.1 0, 16000, .inl tray)), (t9, .inr (11, [.ref n9, .ref c9, .null]))] ++ alw E n9 d1 n (cp n) md1 f1) ++ im_n) H locs := h
          clear hP1 hD1 hS hz hk
          refine W.eq (g2 := F0 m 124 ls [.ref x_1]) rfl ?_
          refine W.widen (k := 6 * (t.length + 1)) (n := 70 * (t.length + 1) + gs 16) (by first | omega | (dsimp only; omega)) (by first | omega | (dsimp only; omega)) ?_
          exact ct_athrow B hno h.2.2 ⟨j0, hex_, h.1.sub [2, 1] rfl, hpl⟩ dX10_names_124
        · refine lv_iload hx hb dX10_names_82 (lv_at hl 1 rfl) ?_
          refine n_if_ne (tgt := 114) hx hb dX10_names_84 (by decide) (by first | omega | (rcases hb4 with z9 | z9 <;> omega)) (fun cb4 => ?_) (fun cb4 => absurd cb4 (by omega))
          refine lv_iload hx hb dX10_names_114 (lv_at hl 1 rfl) ?_
          refine n_if_eq (tgt := 125) hx hb dX10_names_116 (by decide) (by first | omega | (rcases hb4 with z9 | z9 <;> omega)) (fun cb5 => absurd cb5 (by omega)) (fun cb5 => ?_)
          have hna : nameAt t j0 acc = .inl j0 := (nameAt_i hw_w).trans (by rw [if_neg (fun z9 => z9 hend), if_pos (Or.inr (Or.inl cem))])
          have hpl : nameLine t 16 0 [] = .inl j0 := hnl0.trans (nameLine_E (by omega) hna)
          refine lv_aload_n hx hb dX10_names_119 rfl (lv_at hl 5 rfl) ?_
          refine lv_iload_n hx hb dX10_names_120 rfl (lv_at hl 3 rfl) ?_
          have h : Hs E A s.heap (([(r9, .inr (10, [.ref tr, .ref tx, .int (nI sz9), .int (nI j_w), .int (nI (if w_w.2 = true then 1 else 0)), .ref t9, .int (nI by1)])), (tr, .inr (7, [.int p0])), (tx, .inl (E.2.1 0, 16000, .inl tray)), (t9, .inr (11, [.ref n9, .ref c9, .null]))] ++ alw E n9 d1 n (cp n) md1 f1) ++ im_n) H locs := ct_partM h [0, 2, 1, 3] rfl rfl
          have h : Hs E A s.heap ([(r9, .inr (10, [.ref tr, .ref tx, .int (nI sz9), .int (nI j_w), .int (nI (if w_w.2 = true then 1 else 0)), .ref t9, .int (nI by1)])), (tr, .inr (7, [.int p0]))] ++ (([(tx, .inl (E.2.1 0, 16000, .inl tray)), (t9, .inr (11, [.ref n9, .ref c9, .null]))] ++ alw E n9 d1 n (cp n) md1 f1) ++ im_n)) H locs := h
          refine ct_callQ (ct_runV (As := [.int (nI j0)]) (rest := []) B (met_X10_wrong l E r9 tr tx sz9 j_w (if w_w.2 = true then 1 else 0) by1 (some t9) p0 (nI j0) H.size htr) (lw_V q850 q852 qs29 q62 q853) (n := 1) ⟨by decide, by decide, by decide +kernel⟩ rfl ⟨rfl, rfl, (Nat.le_of_ble_eq_true rfl), (Nat.le_of_ble_eq_true rfl), (by first | omega | (dsimp only; omega)), (by first | omega | (dsimp only; omega))⟩ h.2.2 hA (ct_recv B h.1 kX10 0 rfl) ⟨(ct_Pl h.1), (ct_Dl (ct_D0 h hA))⟩ hl.1 (Nat.le_of_ble_eq_true rfl) dX10_names_121) h.2.2 (ct_subL h hAn) (ct_subL h hAn) (fun v H locs hv hz hk hS => ?_)
          obtain ⟨x_1, rfl, hP1, hD1, hex_⟩ := hv
          have h : Hs E A s.heap ([(r9, .inr (10, [.ref tr, .ref tx, .int (nI sz9), .int (nI j_w), .int (nI (if w_w.2 = true then 1 else 0)), .ref t9, .int (nI by1)])), (tr, .inr (7, [.int (nI j0)]))] ++ (([(tx, .inl (E.2.1 0, 16000, .inl tray)), (t9, .inr (11, [.ref n9, .ref c9, .null]))] ++ alw E n9 d1 n (cp n) md1 f1) ++ im_n)) H locs := ct_frL h hP1 hD1 hk hS hAn
          have h : Hs E A s.heap (([(r9, .inr (10, [.ref tr, .ref tx, .int (nI sz9), .int (nI j_w), .int (nI (if w_w.2 = true then 1 else 0)), .ref t9, .int (nI by1)])), (tr, .inr (7, [.int (nI j0)])), (tx, .inl (E.2.1 0, 16000, .inl tray)), (t9, .inr (11, [.ref n9, .ref c9, .null]))] ++ alw E n9 d1 n (cp n) md1 f1) ++ im_n) H locs := h
          clear hP1 hD1 hS hz hk
          refine W.eq (g2 := F0 m 124 ls [.ref x_1]) rfl ?_
          refine W.widen (k := 6 * (t.length + 1)) (n := 70 * (t.length + 1) + gs 16) (by first | omega | (dsimp only; omega)) (by first | omega | (dsimp only; omega)) ?_
          exact ct_athrow B hno h.2.2 ⟨j0, hex_, h.1.sub [2, 1] rfl, hpl⟩ dX10_names_124
      · refine lv_aload_n hx hb dX10_names_48 rfl (lv_at hl 0 rfl) ?_
        refine ct_callR (ct_runV (As := []) (rest := []) B (met_J4_length l E  _ s_w w_w.1 H.size) (lw_V q1036 q466 q467 q58 q468) (n := 0) ⟨by decide, by decide, by decide +kernel⟩ rfl ⟨rfl, rfl, (Nat.le_of_ble_eq_true rfl), (Nat.le_of_ble_eq_true rfl), (by first | omega | (dsimp only; omega)), (by first | omega | (dsimp only; omega))⟩ h.2.2 hA (ct_Srecv B (hsw.S (ct_Pr h.1))) (hsw.S (ct_Pr h.1)) hl.1 (Nat.le_of_ble_eq_true rfl) dX10_names_49) (fun v hv => ?_)
        subst hv
        refine W.eq (g2 := F0 m 52 ls [.int (nI w_w.1.length)]) rfl ?_
        refine lv_bipush (v := nI 20) hx hb dX10_names_52 (by decide) ?_
        refine n_icmp_le (tgt := 61) hx hb dX10_names_54 (by decide) (by omega) (by omega) (fun c20 => ?_) (fun c20 => ?_)
        · refine lv_iconst (v := nI 0) hx hb dX10_names_61 (by decide) ?_
          refine lv_istore (lv' := [(4, .int (nI 0)), (3, .ref s_w), (2, .int (nI j0)), (1, .int (nI 1)), (0, .ref r9)]) hx hb dX10_names_62 hl (by decide) rfl (fun ls hl => ?_)
          refine lv_iconst (v := nI 0) hx hb dX10_names_64 (by decide) ?_
          refine lv_istore (lv' := [(5, .int (nI 0)), (4, .int (nI 0)), (3, .ref s_w), (2, .int (nI j0)), (1, .int (nI 1)), (0, .ref r9)]) hx hb dX10_names_65 hl (by decide) rfl (fun ls hl => ?_)
          refine ct_loop (σ := Nat × Nat) (fun (k, b4) ls => lv_has ls 6 [(5, .int (nI k)), (4, .int (nI b4)), (3, .ref s_w), (2, .int (nI j0)), (1, .int (nI 1)), (0, .ref r9)] ∧ (k ≤ n) ∧ ((b4 = 0 ∧ ∀ j, j < k → (acc.getD j ([], false)).1 ≠ w_w.1) ∨ (b4 = 1 ∧ ∃ x ∈ acc, x.1 = w_w.1))) (fun (k, b4) => n - k) (g := fun (k, b4) ls => F0 m 67 ls []) (x0 := (0, 0)) (ls0 := ls) ?_ ⟨lv_sub hl [0, 1, 2, 3, 4, 5] rfl, Nat.zero_le _, Or.inl ⟨rfl, fun j hj => absurd hj (Nat.not_lt_zero j)⟩⟩
          clear hl
          intro x9 ls hI ih_3
          obtain ⟨k, b4⟩ := x9
          obtain ⟨hl, hk, hb4⟩ := hI
          refine W.eq (g2 := F0 m 67 ls []) rfl ?_
          refine lv_iload hx hb dX10_names_67 (lv_at hl 0 rfl) ?_
          refine lv_aload_n hx hb dX10_names_69 rfl (lv_at hl 5 rfl) ?_
          refine ct_get (v := .ref t9) B h.1 kX10 0 rfl 5 (Nat.le_of_ble_eq_true rfl) q1131 rfl dX10_names_70 ?_
          refine ct_get (v := .ref n9) B h.1 kX11 3 rfl 0 (Nat.le_of_ble_eq_true rfl) q829 rfl dX10_names_73 ?_
          refine ct_callR (ct_runV (As := []) (rest := [.int (nI k)]) B (met_J10_size l E n9 (edA E d1 (cp n)) n md1 H.size) (lw_V q846 q847 q848 q66 q849) (n := 0) ⟨by decide, by decide, by decide +kernel⟩ rfl ⟨rfl, rfl, (Nat.le_of_ble_eq_true rfl), (Nat.le_of_ble_eq_true rfl), (by first | omega | (dsimp only; omega)), (by first | omega | (dsimp only; omega))⟩ h.2.2 hA (ct_recv B (alw_o (ct_Pr (ct_Pl h.1))) kJ10 0 rfl) ((alw_o (ct_Pr (ct_Pl h.1))).sub [0] rfl) hl.1 (Nat.le_of_ble_eq_true rfl) dX10_names_76) (fun v hv => ?_)
          subst hv
          refine W.eq (g2 := F0 m 79 ls [.int (nI n), .int (nI k)]) rfl ?_
          refine n_icmp_ge (tgt := 114) hx hb dX10_names_79 (by decide) (by omega) (by omega) (fun c_4 => ?_) (fun c_4 => ?_)
          · refine lv_iload hx hb dX10_names_114 (lv_at hl 1 rfl) ?_
            refine n_if_eq (tgt := 125) hx hb dX10_names_116 (by decide) (by first | omega | (rcases hb4 with z9 | z9 <;> omega)) (fun cb5 => ?_) (fun cb5 => ?_)
            · have hna : nameAt t j0 acc = .inr (w_w, j_w) := (nameAt_i hw_w).trans (by rw [if_neg (fun z9 => z9 hend), if_neg (fun z9 => by rcases z9 with z9 | z9 | z9; omega; exact cem z9; rcases hb4 with y9 | y9; exact noSame hn.1 (fun j hj => y9.2 j (by omega)) z9; omega)])
              refine lv_aload_n hx hb dX10_names_125 rfl (lv_at hl 5 rfl) ?_
              refine ct_get (v := .ref t9) B h.1 kX10 0 rfl 5 (Nat.le_of_ble_eq_true rfl) q1131 rfl dX10_names_126 ?_
              refine ct_get (v := .ref n9) B h.1 kX11 3 rfl 0 (Nat.le_of_ble_eq_true rfl) q829 rfl dX10_names_129 ?_
              refine lv_aload_n hx hb dX10_names_132 rfl (lv_at hl 2 rfl) ?_
              have hcpn := cp_b n
              have hgS := gs_S n
              have hgn1 := gs_le (show n + 1 ≤ 16 by omega)
              have hcA := cellA_le n (cp n)
              have h : Hs E A s.heap ([(r9, .inr (10, [.ref tr, .ref tx, .int (nI sz9), .int (nI j_w), .int (nI (if w_w.2 = true then 1 else 0)), .ref t9, .int (nI by1)])), (tx, .inl (E.2.1 0, 16000, .inl tray)), (tr, .inr (7, [.int p0])), (t9, .inr (11, [.ref n9, .ref c9, .null]))] ++ (([] ++ alw E n9 d1 n (cp n) md1 f1) ++ im_n)) H locs := h
              refine ct_callQ (ct_runV (As := [.ref s_w]) (rest := []) B (met_J10_addA l E im_n n9 d1 n (cp n) md1 f1 s_w H.size ⟨hcpn.1, by omega⟩ (fun i9 h9 y9 e9 => by obtain ⟨s9, z1, z2⟩ := hnm i9 h9; cases z1.symm.trans e9; exact (z2.mono hi_im_n).o) hsw.o) (lw_V q1058 q1059 q1060 q66 q1061) (n := 1) ⟨by decide, by decide, by decide +kernel⟩ rfl ⟨rfl, rfl, (Nat.le_of_ble_eq_true rfl), (Nat.le_of_ble_eq_true rfl), (by first | omega | (dsimp only; omega)), (by first | omega | (dsimp only; omega))⟩ h.2.2 hA (ct_recv B (alw_o (ct_Pl (ct_Pr h.1))) kJ10 0 rfl) ⟨(ct_Pr h.1), (ct_Dr (ct_D0 h hA))⟩ hl.1 (Nat.le_of_ble_eq_true rfl) dX10_names_133) h.2.2 (ct_subR h hAn) (ct_subR h hAn) (fun v H locs hv hz hk hS => ?_)
              obtain ⟨d_a, f_a, rfl, hP1, hD1, hfo, hfx⟩ := hv
              have h : Hs E A s.heap ([(r9, .inr (10, [.ref tr, .ref tx, .int (nI sz9), .int (nI j_w), .int (nI (if w_w.2 = true then 1 else 0)), .ref t9, .int (nI by1)])), (tx, .inl (E.2.1 0, 16000, .inl tray)), (tr, .inr (7, [.int p0])), (t9, .inr (11, [.ref n9, .ref c9, .null]))] ++ (([] ++ alw E n9 d_a (n + 1) (capA n (cp n)) (md1 + nI 1) f_a) ++ im_n)) H locs := ct_frR h hP1 hD1 hk hS hAn
              have h : Hs E A s.heap (([(r9, .inr (10, [.ref tr, .ref tx, .int (nI sz9), .int (nI j_w), .int (nI (if w_w.2 = true then 1 else 0)), .ref t9, .int (nI by1)])), (tx, .inl (E.2.1 0, 16000, .inl tray)), (tr, .inr (7, [.int p0])), (t9, .inr (11, [.ref n9, .ref c9, .null]))] ++ alw E n9 d_a (n + 1) (capA n (cp n)) (md1 + nI 1) f_a) ++ im_n) H locs := h
              clear hP1 hD1 hS hz hk
              refine W.eq (g2 := F0 m 136 ls [.int (nI 1)]) rfl ?_
              refine lv_pop hx hb dX10_names_136 rfl ?_
              refine lv_aload_n hx hb dX10_names_137 rfl (lv_at hl 5 rfl) ?_
              refine lv_dup hx hb dX10_names_138 rfl ?_
              refine ct_get (v := .int (nI by1)) B h.1 kX10 0 rfl 6 (Nat.le_of_ble_eq_true rfl) q1133 rfl dX10_names_139 ?_
              refine lv_aload_n hx hb dX10_names_142 rfl (lv_at hl 2 rfl) ?_
              refine ct_callR (ct_runV (As := []) (rest := [.int (nI by1), .ref r9]) B (met_J4_length l E  _ s_w w_w.1 H.size) (lw_V q1036 q466 q467 q58 q468) (n := 0) ⟨by decide, by decide, by decide +kernel⟩ rfl ⟨rfl, rfl, (Nat.le_of_ble_eq_true rfl), (Nat.le_of_ble_eq_true rfl), (by first | omega | (dsimp only; omega)), (by first | omega | (dsimp only; omega))⟩ h.2.2 hA (ct_Srecv B (hsw.S (ct_Pr h.1))) (hsw.S (ct_Pr h.1)) hl.1 (Nat.le_of_ble_eq_true rfl) dX10_names_143) (fun v hv => ?_)
              subst hv
              refine W.eq (g2 := F0 m 146 ls [.int (nI w_w.1.length), .int (nI by1), .ref r9]) rfl ?_
              refine n_iadd hx hb dX10_names_146 ?_
              refine ct_put (ws' := ([(r9, .inr (10, [.ref tr, .ref tx, .int (nI sz9), .int (nI j_w), .int (nI (if w_w.2 = true then 1 else 0)), .ref t9, .int (nI (by1 + w_w.1.length))])), (tx, .inl (E.2.1 0, 16000, .inl tray)), (tr, .inr (7, [.int p0])), (t9, .inr (11, [.ref n9, .ref c9, .null]))] ++ alw E n9 d_a (n + 1) (capA n (cp n)) (md1 + nI 1) f_a) ++ im_n) B h kX10 0 rfl 6 (Nat.le_of_ble_eq_true rfl) q1133 rfl rfl rfl (Nat.le_of_ble_eq_true rfl) rfl dX10_names_147 (fun H locs h => ?_)
              refine lv_aload_n hx hb dX10_names_150 rfl (lv_at hl 5 rfl) ?_
              refine lv_bipush (v := nI 44) hx hb dX10_names_151 (by decide) ?_
              refine ct_callR (ct_runV (As := [.int (nI 44)]) (rest := []) B (met_X10_is l E r9 tr tx tray sz9 j_w (if w_w.2 = true then 1 else 0) (by1 + w_w.1.length) (some t9) t 44 H.size htx (by omega) (by omega) (by omega)) (lw_V q894 q896 qs31 q62 q897) (n := 1) ⟨by decide, by decide, by decide +kernel⟩ rfl ⟨rfl, rfl, (Nat.le_of_ble_eq_true rfl), (Nat.le_of_ble_eq_true rfl), (by first | omega | (dsimp only; omega)), (by first | omega | (dsimp only; omega))⟩ h.2.2 hA (ct_recv B h.1 kX10 0 rfl) (h.1.sub [0, 1] rfl) hl.1 (Nat.le_of_ble_eq_true rfl) dX10_names_153) (fun v hv => ?_)
              subst hv
              refine W.eq (g2 := F0 m 156 ls [.int (if j_w < t.length ∧ t.getD j_w 0 = 44 then 1 else 0)]) rfl ?_
              by_cases hcm : j_w < t.length ∧ t.getD j_w 0 = 44
              · refine W.eq (g2 := F0 m 156 ls [.int (nI 1)]) (by rw [if_pos hcm] <;> rfl) ?_
                refine lv_istore_n (lv' := [(1, .int (nI 1)), (5, .int (nI k)), (4, .int (nI b4)), (3, .ref s_w), (2, .int (nI j0)), (0, .ref r9)]) hx hb dX10_names_156 rfl hl (by decide) rfl (fun ls hl => ?_)
                refine lv_aload_n hx hb dX10_names_157 rfl (lv_at hl 5 rfl) ?_
                refine lv_dup hx hb dX10_names_158 rfl ?_
                refine ct_get (v := .int (nI j_w)) B h.1 kX10 0 rfl 3 (Nat.le_of_ble_eq_true rfl) q1129 rfl dX10_names_159 ?_
                refine lv_iconst (v := nI 1) hx hb dX10_names_162 (by decide) ?_
                refine n_iadd hx hb dX10_names_163 ?_
                refine ct_put (ws' := ([(r9, .inr (10, [.ref tr, .ref tx, .int (nI sz9), .int (nI (j_w + 1)), .int (nI (if w_w.2 = true then 1 else 0)), .ref t9, .int (nI (by1 + w_w.1.length))])), (tx, .inl (E.2.1 0, 16000, .inl tray)), (tr, .inr (7, [.int p0])), (t9, .inr (11, [.ref n9, .ref c9, .null]))] ++ alw E n9 d_a (n + 1) (capA n (cp n)) (md1 + nI 1) f_a) ++ im_n) B h kX10 0 rfl 3 (Nat.le_of_ble_eq_true rfl) q1129 rfl rfl rfl (Nat.le_of_ble_eq_true rfl) rfl dX10_names_164 (fun H locs h => ?_)
                refine lv_goto (tgt := 2) hx hb dX10_names_167 (by decide) ?_
                refine W.widen (k := 6 * (j_w + 1)) (n := 70 * (j_w + 1) + gs (n + 1)) (by first | (have := cellA_le n (cp n); dsimp only; omega) | omega | (dsimp only; omega)) (by first | (have := gs_S n; dsimp only; omega) | omega | (dsimp only; rw [show gs 0 = 0 from rfl]; omega)) ?_
                exact ih_1 (1, (j_w + 1), (acc ++ [w_w]), (n + 1), d_a, (md1 + nI 1), f_a, im_n, (if w_w.2 = true then 1 else 0), (by1 + w_w.1.length)) H locs ls (by dsimp only; omega) ⟨lv_sub hl [0, 5] rfl, h, by omega, Or.inl ⟨rfl, by rw [hnl0.trans (nameLine_S (by omega) hna), if_pos hcm.2]; rfl⟩, ⟨by rw [List.length_append, List.length_singleton]; omega, by omega⟩, fun k hk => by by_cases e9 : k = n; exact ⟨s_w, by rw [e9]; exact hfx, by rw [e9, hn.1, gD_r (Nat.le_refl _), Nat.sub_self]; exact hsw⟩; obtain ⟨s9, y1, y2⟩ := hnm k (by omega); exact ⟨s9, by rw [hfo k (by omega)]; exact y1, by rw [gD_l (by omega)]; exact y2.mono hi_im_n⟩, fun y hy => hi_im_n y (him y hy), ⟨by rw [tot_snoc, ← hby.1], by omega⟩⟩
              · refine W.eq (g2 := F0 m 156 ls [.int (nI 0)]) (by rw [if_neg hcm] <;> rfl) ?_
                refine lv_istore_n (lv' := [(1, .int (nI 0)), (5, .int (nI k)), (4, .int (nI b4)), (3, .ref s_w), (2, .int (nI j0)), (0, .ref r9)]) hx hb dX10_names_156 rfl hl (by decide) rfl (fun ls hl => ?_)
                refine lv_aload_n hx hb dX10_names_157 rfl (lv_at hl 5 rfl) ?_
                refine lv_dup hx hb dX10_names_158 rfl ?_
                refine ct_get (v := .int (nI j_w)) B h.1 kX10 0 rfl 3 (Nat.le_of_ble_eq_true rfl) q1129 rfl dX10_names_159 ?_
                refine lv_iconst (v := nI 1) hx hb dX10_names_162 (by decide) ?_
                refine n_iadd hx hb dX10_names_163 ?_
                refine ct_put (ws' := ([(r9, .inr (10, [.ref tr, .ref tx, .int (nI sz9), .int (nI (j_w + 1)), .int (nI (if w_w.2 = true then 1 else 0)), .ref t9, .int (nI (by1 + w_w.1.length))])), (tx, .inl (E.2.1 0, 16000, .inl tray)), (tr, .inr (7, [.int p0])), (t9, .inr (11, [.ref n9, .ref c9, .null]))] ++ alw E n9 d_a (n + 1) (capA n (cp n)) (md1 + nI 1) f_a) ++ im_n) B h kX10 0 rfl 3 (Nat.le_of_ble_eq_true rfl) q1129 rfl rfl rfl (Nat.le_of_ble_eq_true rfl) rfl dX10_names_164 (fun H locs h => ?_)
                refine lv_goto (tgt := 2) hx hb dX10_names_167 (by decide) ?_
                refine W.widen (k := 6 * (j_w + 1)) (n := 70 * (j_w + 1) + gs (n + 1)) (by first | (have := cellA_le n (cp n); dsimp only; omega) | omega | (dsimp only; omega)) (by first | (have := gs_S n; dsimp only; omega) | omega | (dsimp only; rw [show gs 0 = 0 from rfl]; omega)) ?_
                exact ih_1 (0, (j_w + 1), (acc ++ [w_w]), (n + 1), d_a, (md1 + nI 1), f_a, im_n, (if w_w.2 = true then 1 else 0), (by1 + w_w.1.length)) H locs ls (by dsimp only; omega) ⟨lv_sub hl [0, 5] rfl, h, by omega, Or.inr ⟨rfl, by rw [hnl0.trans (nameLine_S (by omega) hna), if_neg (fun z9 => hcm ⟨hend.1, z9⟩)]⟩, ⟨by rw [List.length_append, List.length_singleton]; omega, by omega⟩, fun k hk => by by_cases e9 : k = n; exact ⟨s_w, by rw [e9]; exact hfx, by rw [e9, hn.1, gD_r (Nat.le_refl _), Nat.sub_self]; exact hsw⟩; obtain ⟨s9, y1, y2⟩ := hnm k (by omega); exact ⟨s9, by rw [hfo k (by omega)]; exact y1, by rw [gD_l (by omega)]; exact y2.mono hi_im_n⟩, fun y hy => hi_im_n y (him y hy), ⟨by rw [tot_snoc, ← hby.1], by omega⟩⟩
            · have hna : nameAt t j0 acc = .inl j0 := (nameAt_i hw_w).trans (by rw [if_neg (fun z9 => z9 hend), if_pos (Or.inr (Or.inr (by rcases hb4 with z9 | z9; exact absurd z9.1 (by omega); exact z9.2)))])
              have hpl : nameLine t 16 0 [] = .inl j0 := hnl0.trans (nameLine_E (by omega) hna)
              refine lv_aload_n hx hb dX10_names_119 rfl (lv_at hl 5 rfl) ?_
              refine lv_iload_n hx hb dX10_names_120 rfl (lv_at hl 3 rfl) ?_
              have h : Hs E A s.heap (([(r9, .inr (10, [.ref tr, .ref tx, .int (nI sz9), .int (nI j_w), .int (nI (if w_w.2 = true then 1 else 0)), .ref t9, .int (nI by1)])), (tr, .inr (7, [.int p0])), (tx, .inl (E.2.1 0, 16000, .inl tray)), (t9, .inr (11, [.ref n9, .ref c9, .null]))] ++ alw E n9 d1 n (cp n) md1 f1) ++ im_n) H locs := ct_partM h [0, 2, 1, 3] rfl rfl
              have h : Hs E A s.heap ([(r9, .inr (10, [.ref tr, .ref tx, .int (nI sz9), .int (nI j_w), .int (nI (if w_w.2 = true then 1 else 0)), .ref t9, .int (nI by1)])), (tr, .inr (7, [.int p0]))] ++ (([(tx, .inl (E.2.1 0, 16000, .inl tray)), (t9, .inr (11, [.ref n9, .ref c9, .null]))] ++ alw E n9 d1 n (cp n) md1 f1) ++ im_n)) H locs := h
              refine ct_callQ (ct_runV (As := [.int (nI j0)]) (rest := []) B (met_X10_wrong l E r9 tr tx sz9 j_w (if w_w.2 = true then 1 else 0) by1 (some t9) p0 (nI j0) H.size htr) (lw_V q850 q852 qs29 q62 q853) (n := 1) ⟨by decide, by decide, by decide +kernel⟩ rfl ⟨rfl, rfl, (Nat.le_of_ble_eq_true rfl), (Nat.le_of_ble_eq_true rfl), (by first | omega | (dsimp only; omega)), (by first | omega | (dsimp only; omega))⟩ h.2.2 hA (ct_recv B h.1 kX10 0 rfl) ⟨(ct_Pl h.1), (ct_Dl (ct_D0 h hA))⟩ hl.1 (Nat.le_of_ble_eq_true rfl) dX10_names_121) h.2.2 (ct_subL h hAn) (ct_subL h hAn) (fun v H locs hv hz hk hS => ?_)
              obtain ⟨x_1, rfl, hP1, hD1, hex_⟩ := hv
              have h : Hs E A s.heap ([(r9, .inr (10, [.ref tr, .ref tx, .int (nI sz9), .int (nI j_w), .int (nI (if w_w.2 = true then 1 else 0)), .ref t9, .int (nI by1)])), (tr, .inr (7, [.int (nI j0)]))] ++ (([(tx, .inl (E.2.1 0, 16000, .inl tray)), (t9, .inr (11, [.ref n9, .ref c9, .null]))] ++ alw E n9 d1 n (cp n) md1 f1) ++ im_n)) H locs := ct_frL h hP1 hD1 hk hS hAn
              have h : Hs E A s.heap (([(r9, .inr (10, [.ref tr, .ref tx, .int (nI sz9), .int (nI j_w), .int (nI (if w_w.2 = true then 1 else 0)), .ref t9, .int (nI by1)])), (tr, .inr (7, [.int (nI j0)])), (tx, .inl (E.2.1 0, 16000, .inl tray)), (t9, .inr (11, [.ref n9, .ref c9, .null]))] ++ alw E n9 d1 n (cp n) md1 f1) ++ im_n) H locs := h
              clear hP1 hD1 hS hz hk
              refine W.eq (g2 := F0 m 124 ls [.ref x_1]) rfl ?_
              refine W.widen (k := 6 * (t.length + 1)) (n := 70 * (t.length + 1) + gs 16) (by first | omega | (dsimp only; omega)) (by first | omega | (dsimp only; omega)) ?_
              exact ct_athrow B hno h.2.2 ⟨j0, hex_, h.1.sub [2, 1] rfl, hpl⟩ dX10_names_124
          · refine lv_iload hx hb dX10_names_82 (lv_at hl 1 rfl) ?_
            refine n_if_ne (tgt := 114) hx hb dX10_names_84 (by decide) (by first | omega | (rcases hb4 with z9 | z9 <;> omega)) (fun cb4 => ?_) (fun cb4 => ?_)
            · refine lv_iload hx hb dX10_names_114 (lv_at hl 1 rfl) ?_
              refine n_if_eq (tgt := 125) hx hb dX10_names_116 (by decide) (by first | omega | (rcases hb4 with z9 | z9 <;> omega)) (fun cb5 => ?_) (fun cb5 => ?_)
              · have hna : nameAt t j0 acc = .inr (w_w, j_w) := (nameAt_i hw_w).trans (by rw [if_neg (fun z9 => z9 hend), if_neg (fun z9 => by rcases z9 with z9 | z9 | z9; omega; exact cem z9; rcases hb4 with y9 | y9; exact noSame hn.1 (fun j hj => y9.2 j (by omega)) z9; omega)])
                refine lv_aload_n hx hb dX10_names_125 rfl (lv_at hl 5 rfl) ?_
                refine ct_get (v := .ref t9) B h.1 kX10 0 rfl 5 (Nat.le_of_ble_eq_true rfl) q1131 rfl dX10_names_126 ?_
                refine ct_get (v := .ref n9) B h.1 kX11 3 rfl 0 (Nat.le_of_ble_eq_true rfl) q829 rfl dX10_names_129 ?_
                refine lv_aload_n hx hb dX10_names_132 rfl (lv_at hl 2 rfl) ?_
                have hcpn := cp_b n
                have hgS := gs_S n
                have hgn1 := gs_le (show n + 1 ≤ 16 by omega)
                have hcA := cellA_le n (cp n)
                have h : Hs E A s.heap ([(r9, .inr (10, [.ref tr, .ref tx, .int (nI sz9), .int (nI j_w), .int (nI (if w_w.2 = true then 1 else 0)), .ref t9, .int (nI by1)])), (tx, .inl (E.2.1 0, 16000, .inl tray)), (tr, .inr (7, [.int p0])), (t9, .inr (11, [.ref n9, .ref c9, .null]))] ++ (([] ++ alw E n9 d1 n (cp n) md1 f1) ++ im_n)) H locs := h
                refine ct_callQ (ct_runV (As := [.ref s_w]) (rest := []) B (met_J10_addA l E im_n n9 d1 n (cp n) md1 f1 s_w H.size ⟨hcpn.1, by omega⟩ (fun i9 h9 y9 e9 => by obtain ⟨s9, z1, z2⟩ := hnm i9 h9; cases z1.symm.trans e9; exact (z2.mono hi_im_n).o) hsw.o) (lw_V q1058 q1059 q1060 q66 q1061) (n := 1) ⟨by decide, by decide, by decide +kernel⟩ rfl ⟨rfl, rfl, (Nat.le_of_ble_eq_true rfl), (Nat.le_of_ble_eq_true rfl), (by first | omega | (dsimp only; omega)), (by first | omega | (dsimp only; omega))⟩ h.2.2 hA (ct_recv B (alw_o (ct_Pl (ct_Pr h.1))) kJ10 0 rfl) ⟨(ct_Pr h.1), (ct_Dr (ct_D0 h hA))⟩ hl.1 (Nat.le_of_ble_eq_true rfl) dX10_names_133) h.2.2 (ct_subR h hAn) (ct_subR h hAn) (fun v H locs hv hz hk hS => ?_)
                obtain ⟨d_a, f_a, rfl, hP1, hD1, hfo, hfx⟩ := hv
                have h : Hs E A s.heap ([(r9, .inr (10, [.ref tr, .ref tx, .int (nI sz9), .int (nI j_w), .int (nI (if w_w.2 = true then 1 else 0)), .ref t9, .int (nI by1)])), (tx, .inl (E.2.1 0, 16000, .inl tray)), (tr, .inr (7, [.int p0])), (t9, .inr (11, [.ref n9, .ref c9, .null]))] ++ (([] ++ alw E n9 d_a (n + 1) (capA n (cp n)) (md1 + nI 1) f_a) ++ im_n)) H locs := ct_frR h hP1 hD1 hk hS hAn
                have h : Hs E A s.heap (([(r9, .inr (10, [.ref tr, .ref tx, .int (nI sz9), .int (nI j_w), .int (nI (if w_w.2 = true then 1 else 0)), .ref t9, .int (nI by1)])), (tx, .inl (E.2.1 0, 16000, .inl tray)), (tr, .inr (7, [.int p0])), (t9, .inr (11, [.ref n9, .ref c9, .null]))] ++ alw E n9 d_a (n + 1) (capA n (cp n)) (md1 + nI 1) f_a) ++ im_n) H locs := h
                clear hP1 hD1 hS hz hk
                refine W.eq (g2 := F0 m 136 ls [.int (nI 1)]) rfl ?_
                refine lv_pop hx hb dX10_names_136 rfl ?_
                refine lv_aload_n hx hb dX10_names_137 rfl (lv_at hl 5 rfl) ?_
                refine lv_dup hx hb dX10_names_138 rfl ?_
                refine ct_get (v := .int (nI by1)) B h.1 kX10 0 rfl 6 (Nat.le_of_ble_eq_true rfl) q1133 rfl dX10_names_139 ?_
                refine lv_aload_n hx hb dX10_names_142 rfl (lv_at hl 2 rfl) ?_
                refine ct_callR (ct_runV (As := []) (rest := [.int (nI by1), .ref r9]) B (met_J4_length l E  _ s_w w_w.1 H.size) (lw_V q1036 q466 q467 q58 q468) (n := 0) ⟨by decide, by decide, by decide +kernel⟩ rfl ⟨rfl, rfl, (Nat.le_of_ble_eq_true rfl), (Nat.le_of_ble_eq_true rfl), (by first | omega | (dsimp only; omega)), (by first | omega | (dsimp only; omega))⟩ h.2.2 hA (ct_Srecv B (hsw.S (ct_Pr h.1))) (hsw.S (ct_Pr h.1)) hl.1 (Nat.le_of_ble_eq_true rfl) dX10_names_143) (fun v hv => ?_)
                subst hv
                refine W.eq (g2 := F0 m 146 ls [.int (nI w_w.1.length), .int (nI by1), .ref r9]) rfl ?_
                refine n_iadd hx hb dX10_names_146 ?_
                refine ct_put (ws' := ([(r9, .inr (10, [.ref tr, .ref tx, .int (nI sz9), .int (nI j_w), .int (nI (if w_w.2 = true then 1 else 0)), .ref t9, .int (nI (by1 + w_w.1.length))])), (tx, .inl (E.2.1 0, 16000, .inl tray)), (tr, .inr (7, [.int p0])), (t9, .inr (11, [.ref n9, .ref c9, .null]))] ++ alw E n9 d_a (n + 1) (capA n (cp n)) (md1 + nI 1) f_a) ++ im_n) B h kX10 0 rfl 6 (Nat.le_of_ble_eq_true rfl) q1133 rfl rfl rfl (Nat.le_of_ble_eq_true rfl) rfl dX10_names_147 (fun H locs h => ?_)
                refine lv_aload_n hx hb dX10_names_150 rfl (lv_at hl 5 rfl) ?_
                refine lv_bipush (v := nI 44) hx hb dX10_names_151 (by decide) ?_
                refine ct_callR (ct_runV (As := [.int (nI 44)]) (rest := []) B (met_X10_is l E r9 tr tx tray sz9 j_w (if w_w.2 = true then 1 else 0) (by1 + w_w.1.length) (some t9) t 44 H.size htx (by omega) (by omega) (by omega)) (lw_V q894 q896 qs31 q62 q897) (n := 1) ⟨by decide, by decide, by decide +kernel⟩ rfl ⟨rfl, rfl, (Nat.le_of_ble_eq_true rfl), (Nat.le_of_ble_eq_true rfl), (by first | omega | (dsimp only; omega)), (by first | omega | (dsimp only; omega))⟩ h.2.2 hA (ct_recv B h.1 kX10 0 rfl) (h.1.sub [0, 1] rfl) hl.1 (Nat.le_of_ble_eq_true rfl) dX10_names_153) (fun v hv => ?_)
                subst hv
                refine W.eq (g2 := F0 m 156 ls [.int (if j_w < t.length ∧ t.getD j_w 0 = 44 then 1 else 0)]) rfl ?_
                by_cases hcm : j_w < t.length ∧ t.getD j_w 0 = 44
                · refine W.eq (g2 := F0 m 156 ls [.int (nI 1)]) (by rw [if_pos hcm] <;> rfl) ?_
                  refine lv_istore_n (lv' := [(1, .int (nI 1)), (5, .int (nI k)), (4, .int (nI b4)), (3, .ref s_w), (2, .int (nI j0)), (0, .ref r9)]) hx hb dX10_names_156 rfl hl (by decide) rfl (fun ls hl => ?_)
                  refine lv_aload_n hx hb dX10_names_157 rfl (lv_at hl 5 rfl) ?_
                  refine lv_dup hx hb dX10_names_158 rfl ?_
                  refine ct_get (v := .int (nI j_w)) B h.1 kX10 0 rfl 3 (Nat.le_of_ble_eq_true rfl) q1129 rfl dX10_names_159 ?_
                  refine lv_iconst (v := nI 1) hx hb dX10_names_162 (by decide) ?_
                  refine n_iadd hx hb dX10_names_163 ?_
                  refine ct_put (ws' := ([(r9, .inr (10, [.ref tr, .ref tx, .int (nI sz9), .int (nI (j_w + 1)), .int (nI (if w_w.2 = true then 1 else 0)), .ref t9, .int (nI (by1 + w_w.1.length))])), (tx, .inl (E.2.1 0, 16000, .inl tray)), (tr, .inr (7, [.int p0])), (t9, .inr (11, [.ref n9, .ref c9, .null]))] ++ alw E n9 d_a (n + 1) (capA n (cp n)) (md1 + nI 1) f_a) ++ im_n) B h kX10 0 rfl 3 (Nat.le_of_ble_eq_true rfl) q1129 rfl rfl rfl (Nat.le_of_ble_eq_true rfl) rfl dX10_names_164 (fun H locs h => ?_)
                  refine lv_goto (tgt := 2) hx hb dX10_names_167 (by decide) ?_
                  refine W.widen (k := 6 * (j_w + 1)) (n := 70 * (j_w + 1) + gs (n + 1)) (by first | (have := cellA_le n (cp n); dsimp only; omega) | omega | (dsimp only; omega)) (by first | (have := gs_S n; dsimp only; omega) | omega | (dsimp only; rw [show gs 0 = 0 from rfl]; omega)) ?_
                  exact ih_1 (1, (j_w + 1), (acc ++ [w_w]), (n + 1), d_a, (md1 + nI 1), f_a, im_n, (if w_w.2 = true then 1 else 0), (by1 + w_w.1.length)) H locs ls (by dsimp only; omega) ⟨lv_sub hl [0, 5] rfl, h, by omega, Or.inl ⟨rfl, by rw [hnl0.trans (nameLine_S (by omega) hna), if_pos hcm.2]; rfl⟩, ⟨by rw [List.length_append, List.length_singleton]; omega, by omega⟩, fun k hk => by by_cases e9 : k = n; exact ⟨s_w, by rw [e9]; exact hfx, by rw [e9, hn.1, gD_r (Nat.le_refl _), Nat.sub_self]; exact hsw⟩; obtain ⟨s9, y1, y2⟩ := hnm k (by omega); exact ⟨s9, by rw [hfo k (by omega)]; exact y1, by rw [gD_l (by omega)]; exact y2.mono hi_im_n⟩, fun y hy => hi_im_n y (him y hy), ⟨by rw [tot_snoc, ← hby.1], by omega⟩⟩
                · refine W.eq (g2 := F0 m 156 ls [.int (nI 0)]) (by rw [if_neg hcm] <;> rfl) ?_
                  refine lv_istore_n (lv' := [(1, .int (nI 0)), (5, .int (nI k)), (4, .int (nI b4)), (3, .ref s_w), (2, .int (nI j0)), (0, .ref r9)]) hx hb dX10_names_156 rfl hl (by decide) rfl (fun ls hl => ?_)
                  refine lv_aload_n hx hb dX10_names_157 rfl (lv_at hl 5 rfl) ?_
                  refine lv_dup hx hb dX10_names_158 rfl ?_
                  refine ct_get (v := .int (nI j_w)) B h.1 kX10 0 rfl 3 (Nat.le_of_ble_eq_true rfl) q1129 rfl dX10_names_159 ?_
                  refine lv_iconst (v := nI 1) hx hb dX10_names_162 (by decide) ?_
                  refine n_iadd hx hb dX10_names_163 ?_
                  refine ct_put (ws' := ([(r9, .inr (10, [.ref tr, .ref tx, .int (nI sz9), .int (nI (j_w + 1)), .int (nI (if w_w.2 = true then 1 else 0)), .ref t9, .int (nI (by1 + w_w.1.length))])), (tx, .inl (E.2.1 0, 16000, .inl tray)), (tr, .inr (7, [.int p0])), (t9, .inr (11, [.ref n9, .ref c9, .null]))] ++ alw E n9 d_a (n + 1) (capA n (cp n)) (md1 + nI 1) f_a) ++ im_n) B h kX10 0 rfl 3 (Nat.le_of_ble_eq_true rfl) q1129 rfl rfl rfl (Nat.le_of_ble_eq_true rfl) rfl dX10_names_164 (fun H locs h => ?_)
                  refine lv_goto (tgt := 2) hx hb dX10_names_167 (by decide) ?_
                  refine W.widen (k := 6 * (j_w + 1)) (n := 70 * (j_w + 1) + gs (n + 1)) (by first | (have := cellA_le n (cp n); dsimp only; omega) | omega | (dsimp only; omega)) (by first | (have := gs_S n; dsimp only; omega) | omega | (dsimp only; rw [show gs 0 = 0 from rfl]; omega)) ?_
                  exact ih_1 (0, (j_w + 1), (acc ++ [w_w]), (n + 1), d_a, (md1 + nI 1), f_a, im_n, (if w_w.2 = true then 1 else 0), (by1 + w_w.1.length)) H locs ls (by dsimp only; omega) ⟨lv_sub hl [0, 5] rfl, h, by omega, Or.inr ⟨rfl, by rw [hnl0.trans (nameLine_S (by omega) hna), if_neg (fun z9 => hcm ⟨hend.1, z9⟩)]⟩, ⟨by rw [List.length_append, List.length_singleton]; omega, by omega⟩, fun k hk => by by_cases e9 : k = n; exact ⟨s_w, by rw [e9]; exact hfx, by rw [e9, hn.1, gD_r (Nat.le_refl _), Nat.sub_self]; exact hsw⟩; obtain ⟨s9, y1, y2⟩ := hnm k (by omega); exact ⟨s9, by rw [hfo k (by omega)]; exact y1, by rw [gD_l (by omega)]; exact y2.mono hi_im_n⟩, fun y hy => hi_im_n y (him y hy), ⟨by rw [tot_snoc, ← hby.1], by omega⟩⟩
              · have hna : nameAt t j0 acc = .inl j0 := (nameAt_i hw_w).trans (by rw [if_neg (fun z9 => z9 hend), if_pos (Or.inr (Or.inr (by rcases hb4 with z9 | z9; exact absurd z9.1 (by omega); exact z9.2)))])
                have hpl : nameLine t 16 0 [] = .inl j0 := hnl0.trans (nameLine_E (by omega) hna)
                refine lv_aload_n hx hb dX10_names_119 rfl (lv_at hl 5 rfl) ?_
                refine lv_iload_n hx hb dX10_names_120 rfl (lv_at hl 3 rfl) ?_
                have h : Hs E A s.heap (([(r9, .inr (10, [.ref tr, .ref tx, .int (nI sz9), .int (nI j_w), .int (nI (if w_w.2 = true then 1 else 0)), .ref t9, .int (nI by1)])), (tr, .inr (7, [.int p0])), (tx, .inl (E.2.1 0, 16000, .inl tray)), (t9, .inr (11, [.ref n9, .ref c9, .null]))] ++ alw E n9 d1 n (cp n) md1 f1) ++ im_n) H locs := ct_partM h [0, 2, 1, 3] rfl rfl
                have h : Hs E A s.heap ([(r9, .inr (10, [.ref tr, .ref tx, .int (nI sz9), .int (nI j_w), .int (nI (if w_w.2 = true then 1 else 0)), .ref t9, .int (nI by1)])), (tr, .inr (7, [.int p0]))] ++ (([(tx, .inl (E.2.1 0, 16000, .inl tray)), (t9, .inr (11, [.ref n9, .ref c9, .null]))] ++ alw E n9 d1 n (cp n) md1 f1) ++ im_n)) H locs := h
                refine ct_callQ (ct_runV (As := [.int (nI j0)]) (rest := []) B (met_X10_wrong l E r9 tr tx sz9 j_w (if w_w.2 = true then 1 else 0) by1 (some t9) p0 (nI j0) H.size htr) (lw_V q850 q852 qs29 q62 q853) (n := 1) ⟨by decide, by decide, by decide +kernel⟩ rfl ⟨rfl, rfl, (Nat.le_of_ble_eq_true rfl), (Nat.le_of_ble_eq_true rfl), (by first | omega | (dsimp only; omega)), (by first | omega | (dsimp only; omega))⟩ h.2.2 hA (ct_recv B h.1 kX10 0 rfl) ⟨(ct_Pl h.1), (ct_Dl (ct_D0 h hA))⟩ hl.1 (Nat.le_of_ble_eq_true rfl) dX10_names_121) h.2.2 (ct_subL h hAn) (ct_subL h hAn) (fun v H locs hv hz hk hS => ?_)
                obtain ⟨x_1, rfl, hP1, hD1, hex_⟩ := hv
                have h : Hs E A s.heap ([(r9, .inr (10, [.ref tr, .ref tx, .int (nI sz9), .int (nI j_w), .int (nI (if w_w.2 = true then 1 else 0)), .ref t9, .int (nI by1)])), (tr, .inr (7, [.int (nI j0)]))] ++ (([(tx, .inl (E.2.1 0, 16000, .inl tray)), (t9, .inr (11, [.ref n9, .ref c9, .null]))] ++ alw E n9 d1 n (cp n) md1 f1) ++ im_n)) H locs := ct_frL h hP1 hD1 hk hS hAn
                have h : Hs E A s.heap (([(r9, .inr (10, [.ref tr, .ref tx, .int (nI sz9), .int (nI j_w), .int (nI (if w_w.2 = true then 1 else 0)), .ref t9, .int (nI by1)])), (tr, .inr (7, [.int (nI j0)])), (tx, .inl (E.2.1 0, 16000, .inl tray)), (t9, .inr (11, [.ref n9, .ref c9, .null]))] ++ alw E n9 d1 n (cp n) md1 f1) ++ im_n) H locs := h
                clear hP1 hD1 hS hz hk
                refine W.eq (g2 := F0 m 124 ls [.ref x_1]) rfl ?_
                refine W.widen (k := 6 * (t.length + 1)) (n := 70 * (t.length + 1) + gs 16) (by first | omega | (dsimp only; omega)) (by first | omega | (dsimp only; omega)) ?_
                exact ct_athrow B hno h.2.2 ⟨j0, hex_, h.1.sub [2, 1] rfl, hpl⟩ dX10_names_124
            · have hno0 : ∀ j, j < k → (acc.getD j ([], false)).1 ≠ w_w.1 := by rcases hb4 with z9 | z9; exact z9.2; exact absurd z9.1 (by omega)
              refine lv_aload_n hx hb dX10_names_87 rfl (lv_at hl 5 rfl) ?_
              refine ct_get (v := .ref t9) B h.1 kX10 0 rfl 5 (Nat.le_of_ble_eq_true rfl) q1131 rfl dX10_names_88 ?_
              refine ct_get (v := .ref n9) B h.1 kX11 3 rfl 0 (Nat.le_of_ble_eq_true rfl) q829 rfl dX10_names_91 ?_
              refine lv_iload hx hb dX10_names_94 (lv_at hl 0 rfl) ?_
              obtain ⟨s_k, hfk, hsk⟩ := hnm k (by omega)
              have hcpn := cp_b n
              refine ct_callR (ct_runV (As := [.int (nI k)]) (rest := []) B (met_J10_get l E n9 d1 n (cp n) md1 f1 k H.size (by omega) ⟨by omega, by omega⟩) (lw_V q1037 q1038 q1039 q66 q1040) (n := 1) ⟨by decide, by decide, by decide +kernel⟩ rfl ⟨rfl, rfl, (Nat.le_of_ble_eq_true rfl), (Nat.le_of_ble_eq_true rfl), (by first | omega | (dsimp only; omega)), (by first | omega | (dsimp only; omega))⟩ h.2.2 hA (ct_recv B (alw_get (ct_Pr (ct_Pl h.1)) (by omega)) kJ10 0 rfl) ((alw_get (ct_Pr (ct_Pl h.1)) (by omega)).sub [0, 1] rfl) hl.1 (Nat.le_of_ble_eq_true rfl) dX10_names_96) (fun v hv => ?_)
              subst hv
              refine W.eq (g2 := F0 m 99 ls [va_rf (f1 k)]) rfl ?_
              refine W.eq (g2 := F0 m 99 ls [.ref s_k]) (by rw [hfk] <;> rfl) ?_
              refine va_castE hx hb B.2.2.1 (B.2.2.2.1 _ q1049) (ct_Srecv B ((hsk.mono hi_im_n).S (ct_Pr h.1))) dX10_names_99 ?_
              refine lv_aload_n hx hb dX10_names_102 rfl (lv_at hl 2 rfl) ?_
              refine ct_callR (ct_runV (As := [.ref s_w]) (rest := []) B (met_J4_equals l E _ _ s_k s_w ((acc.getD k ([], false)).1) w_w.1 H.size) (lw_V q1050 q1051 q1052 q58 q1053) (n := 1) ⟨by decide, by decide, by decide +kernel⟩ rfl ⟨rfl, rfl, (Nat.le_of_ble_eq_true rfl), (Nat.le_of_ble_eq_true rfl), (by first | omega | (dsimp only; omega)), (by first | omega | (dsimp only; omega))⟩ h.2.2 hA (ct_Srecv B ((hsk.mono hi_im_n).S (ct_Pr h.1))) ⟨((hsk.mono hi_im_n).S (ct_Pr h.1)), (hsw.S (ct_Pr h.1))⟩ hl.1 (Nat.le_of_ble_eq_true rfl) dX10_names_103) (fun v hv => ?_)
              subst hv
              refine W.eq (g2 := F0 m 106 ls [.int (if ((acc.getD k ([], false)).1) = w_w.1 then 1 else 0)]) rfl ?_
              by_cases csm : (acc.getD k ([], false)).1 = w_w.1
              · refine W.eq (g2 := F0 m 106 ls [.int (nI 1)]) (by rw [if_pos csm] <;> rfl) ?_
                refine lv_istore (lv' := [(4, .int (nI 1)), (5, .int (nI k)), (3, .ref s_w), (2, .int (nI j0)), (1, .int (nI 1)), (0, .ref r9)]) hx hb dX10_names_106 hl (by decide) rfl (fun ls hl => ?_)
                refine n_iinc (n := 1) (lv' := [(5, .int (nI (k + 1))), (4, .int (nI 1)), (3, .ref s_w), (2, .int (nI j0)), (1, .int (nI 1)), (0, .ref r9)]) hx hb dX10_names_108 hl (k := 1) rfl rfl (by decide) (by decide) rfl (fun ls hl => ?_)
                refine lv_goto (tgt := 67) hx hb dX10_names_111 (by decide) ?_
                exact ih_3 ((k + 1), 1) ls (by dsimp only; omega) ⟨lv_sub hl [0, 1, 2, 3, 4, 5] rfl, by omega, Or.inr ⟨rfl, someSame (by omega) csm⟩⟩
              · refine W.eq (g2 := F0 m 106 ls [.int (nI 0)]) (by rw [if_neg csm] <;> rfl) ?_
                refine lv_istore (lv' := [(4, .int (nI 0)), (5, .int (nI k)), (3, .ref s_w), (2, .int (nI j0)), (1, .int (nI 1)), (0, .ref r9)]) hx hb dX10_names_106 hl (by decide) rfl (fun ls hl => ?_)
                refine n_iinc (n := 1) (lv' := [(5, .int (nI (k + 1))), (4, .int (nI 0)), (3, .ref s_w), (2, .int (nI j0)), (1, .int (nI 1)), (0, .ref r9)]) hx hb dX10_names_108 hl (k := 1) rfl rfl (by decide) (by decide) rfl (fun ls hl => ?_)
                refine lv_goto (tgt := 67) hx hb dX10_names_111 (by decide) ?_
                exact ih_3 ((k + 1), 0) ls (by dsimp only; omega) ⟨lv_sub hl [0, 1, 2, 3, 4, 5] rfl, by omega, Or.inl ⟨rfl, fun j hj => by rcases Nat.lt_succ_iff_lt_or_eq.mp hj with q9 | q9; exact hno0 j q9; rw [q9]; exact csm⟩⟩
        · refine lv_iconst (v := nI 1) hx hb dX10_names_57 (by decide) ?_
          refine lv_goto (tgt := 62) hx hb dX10_names_58 (by decide) ?_
          refine lv_istore (lv' := [(4, .int (nI 1)), (3, .ref s_w), (2, .int (nI j0)), (1, .int (nI 1)), (0, .ref r9)]) hx hb dX10_names_62 hl (by decide) rfl (fun ls hl => ?_)
          refine lv_iconst (v := nI 0) hx hb dX10_names_64 (by decide) ?_
          refine lv_istore (lv' := [(5, .int (nI 0)), (4, .int (nI 1)), (3, .ref s_w), (2, .int (nI j0)), (1, .int (nI 1)), (0, .ref r9)]) hx hb dX10_names_65 hl (by decide) rfl (fun ls hl => ?_)
          refine lv_iload hx hb dX10_names_67 (lv_at hl 0 rfl) ?_
          refine lv_aload_n hx hb dX10_names_69 rfl (lv_at hl 5 rfl) ?_
          refine ct_get (v := .ref t9) B h.1 kX10 0 rfl 5 (Nat.le_of_ble_eq_true rfl) q1131 rfl dX10_names_70 ?_
          refine ct_get (v := .ref n9) B h.1 kX11 3 rfl 0 (Nat.le_of_ble_eq_true rfl) q829 rfl dX10_names_73 ?_
          refine ct_callR (ct_runV (As := []) (rest := [.int (nI 0)]) B (met_J10_size l E n9 (edA E d1 (cp n)) n md1 H.size) (lw_V q846 q847 q848 q66 q849) (n := 0) ⟨by decide, by decide, by decide +kernel⟩ rfl ⟨rfl, rfl, (Nat.le_of_ble_eq_true rfl), (Nat.le_of_ble_eq_true rfl), (by first | omega | (dsimp only; omega)), (by first | omega | (dsimp only; omega))⟩ h.2.2 hA (ct_recv B (alw_o (ct_Pr (ct_Pl h.1))) kJ10 0 rfl) ((alw_o (ct_Pr (ct_Pl h.1))).sub [0] rfl) hl.1 (Nat.le_of_ble_eq_true rfl) dX10_names_76) (fun v hv => ?_)
          subst hv
          refine W.eq (g2 := F0 m 79 ls [.int (nI n), .int (nI 0)]) rfl ?_
          refine n_icmp_ge (tgt := 114) hx hb dX10_names_79 (by decide) (by omega) (by omega) (fun c_5 => ?_) (fun c_5 => ?_)
          · refine lv_iload hx hb dX10_names_114 (lv_at hl 1 rfl) ?_
            refine n_if_eq (tgt := 125) hx hb dX10_names_116 (by decide) (by first | omega | (rcases hb4 with z9 | z9 <;> omega)) (fun cb5 => absurd cb5 (by omega)) (fun cb5 => ?_)
            have hna : nameAt t j0 acc = .inl j0 := (nameAt_i hw_w).trans (by rw [if_neg (fun z9 => z9 hend), if_pos (Or.inl (by omega))])
            have hpl : nameLine t 16 0 [] = .inl j0 := hnl0.trans (nameLine_E (by omega) hna)
            refine lv_aload_n hx hb dX10_names_119 rfl (lv_at hl 5 rfl) ?_
            refine lv_iload_n hx hb dX10_names_120 rfl (lv_at hl 3 rfl) ?_
            have h : Hs E A s.heap (([(r9, .inr (10, [.ref tr, .ref tx, .int (nI sz9), .int (nI j_w), .int (nI (if w_w.2 = true then 1 else 0)), .ref t9, .int (nI by1)])), (tr, .inr (7, [.int p0])), (tx, .inl (E.2.1 0, 16000, .inl tray)), (t9, .inr (11, [.ref n9, .ref c9, .null]))] ++ alw E n9 d1 n (cp n) md1 f1) ++ im_n) H locs := ct_partM h [0, 2, 1, 3] rfl rfl
            have h : Hs E A s.heap ([(r9, .inr (10, [.ref tr, .ref tx, .int (nI sz9), .int (nI j_w), .int (nI (if w_w.2 = true then 1 else 0)), .ref t9, .int (nI by1)])), (tr, .inr (7, [.int p0]))] ++ (([(tx, .inl (E.2.1 0, 16000, .inl tray)), (t9, .inr (11, [.ref n9, .ref c9, .null]))] ++ alw E n9 d1 n (cp n) md1 f1) ++ im_n)) H locs := h
            refine ct_callQ (ct_runV (As := [.int (nI j0)]) (rest := []) B (met_X10_wrong l E r9 tr tx sz9 j_w (if w_w.2 = true then 1 else 0) by1 (some t9) p0 (nI j0) H.size htr) (lw_V q850 q852 qs29 q62 q853) (n := 1) ⟨by decide, by decide, by decide +kernel⟩ rfl ⟨rfl, rfl, (Nat.le_of_ble_eq_true rfl), (Nat.le_of_ble_eq_true rfl), (by first | omega | (dsimp only; omega)), (by first | omega | (dsimp only; omega))⟩ h.2.2 hA (ct_recv B h.1 kX10 0 rfl) ⟨(ct_Pl h.1), (ct_Dl (ct_D0 h hA))⟩ hl.1 (Nat.le_of_ble_eq_true rfl) dX10_names_121) h.2.2 (ct_subL h hAn) (ct_subL h hAn) (fun v H locs hv hz hk hS => ?_)
            obtain ⟨x_1, rfl, hP1, hD1, hex_⟩ := hv
            have h : Hs E A s.heap ([(r9, .inr (10, [.ref tr, .ref tx, .int (nI sz9), .int (nI j_w), .int (nI (if w_w.2 = true then 1 else 0)), .ref t9, .int (nI by1)])), (tr, .inr (7, [.int (nI j0)]))] ++ (([(tx, .inl (E.2.1 0, 16000, .inl tray)), (t9, .inr (11, [.ref n9, .ref c9, .null]))] ++ alw E n9 d1 n (cp n) md1 f1) ++ im_n)) H locs := ct_frL h hP1 hD1 hk hS hAn
            have h : Hs E A s.heap (([(r9, .inr (10, [.ref tr, .ref tx, .int (nI sz9), .int (nI j_w), .int (nI (if w_w.2 = true then 1 else 0)), .ref t9, .int (nI by1)])), (tr, .inr (7, [.int (nI j0)])), (tx, .inl (E.2.1 0, 16000, .inl tray)), (t9, .inr (11, [.ref n9, .ref c9, .null]))] ++ alw E n9 d1 n (cp n) md1 f1) ++ im_n) H locs := h
            clear hP1 hD1 hS hz hk
            refine W.eq (g2 := F0 m 124 ls [.ref x_1]) rfl ?_
            refine W.widen (k := 6 * (t.length + 1)) (n := 70 * (t.length + 1) + gs 16) (by first | omega | (dsimp only; omega)) (by first | omega | (dsimp only; omega)) ?_
            exact ct_athrow B hno h.2.2 ⟨j0, hex_, h.1.sub [2, 1] rfl, hpl⟩ dX10_names_124
          · refine lv_iload hx hb dX10_names_82 (lv_at hl 1 rfl) ?_
            refine n_if_ne (tgt := 114) hx hb dX10_names_84 (by decide) (by first | omega | (rcases hb4 with z9 | z9 <;> omega)) (fun cb4 => ?_) (fun cb4 => absurd cb4 (by omega))
            refine lv_iload hx hb dX10_names_114 (lv_at hl 1 rfl) ?_
            refine n_if_eq (tgt := 125) hx hb dX10_names_116 (by decide) (by first | omega | (rcases hb4 with z9 | z9 <;> omega)) (fun cb5 => absurd cb5 (by omega)) (fun cb5 => ?_)
            have hna : nameAt t j0 acc = .inl j0 := (nameAt_i hw_w).trans (by rw [if_neg (fun z9 => z9 hend), if_pos (Or.inl (by omega))])
            have hpl : nameLine t 16 0 [] = .inl j0 := hnl0.trans (nameLine_E (by omega) hna)
            refine lv_aload_n hx hb dX10_names_119 rfl (lv_at hl 5 rfl) ?_
            refine lv_iload_n hx hb dX10_names_120 rfl (lv_at hl 3 rfl) ?_
            have h : Hs E A s.heap (([(r9, .inr (10, [.ref tr, .ref tx, .int (nI sz9), .int (nI j_w), .int (nI (if w_w.2 = true then 1 else 0)), .ref t9, .int (nI by1)])), (tr, .inr (7, [.int p0])), (tx, .inl (E.2.1 0, 16000, .inl tray)), (t9, .inr (11, [.ref n9, .ref c9, .null]))] ++ alw E n9 d1 n (cp n) md1 f1) ++ im_n) H locs := ct_partM h [0, 2, 1, 3] rfl rfl
            have h : Hs E A s.heap ([(r9, .inr (10, [.ref tr, .ref tx, .int (nI sz9), .int (nI j_w), .int (nI (if w_w.2 = true then 1 else 0)), .ref t9, .int (nI by1)])), (tr, .inr (7, [.int p0]))] ++ (([(tx, .inl (E.2.1 0, 16000, .inl tray)), (t9, .inr (11, [.ref n9, .ref c9, .null]))] ++ alw E n9 d1 n (cp n) md1 f1) ++ im_n)) H locs := h
            refine ct_callQ (ct_runV (As := [.int (nI j0)]) (rest := []) B (met_X10_wrong l E r9 tr tx sz9 j_w (if w_w.2 = true then 1 else 0) by1 (some t9) p0 (nI j0) H.size htr) (lw_V q850 q852 qs29 q62 q853) (n := 1) ⟨by decide, by decide, by decide +kernel⟩ rfl ⟨rfl, rfl, (Nat.le_of_ble_eq_true rfl), (Nat.le_of_ble_eq_true rfl), (by first | omega | (dsimp only; omega)), (by first | omega | (dsimp only; omega))⟩ h.2.2 hA (ct_recv B h.1 kX10 0 rfl) ⟨(ct_Pl h.1), (ct_Dl (ct_D0 h hA))⟩ hl.1 (Nat.le_of_ble_eq_true rfl) dX10_names_121) h.2.2 (ct_subL h hAn) (ct_subL h hAn) (fun v H locs hv hz hk hS => ?_)
            obtain ⟨x_1, rfl, hP1, hD1, hex_⟩ := hv
            have h : Hs E A s.heap ([(r9, .inr (10, [.ref tr, .ref tx, .int (nI sz9), .int (nI j_w), .int (nI (if w_w.2 = true then 1 else 0)), .ref t9, .int (nI by1)])), (tr, .inr (7, [.int (nI j0)]))] ++ (([(tx, .inl (E.2.1 0, 16000, .inl tray)), (t9, .inr (11, [.ref n9, .ref c9, .null]))] ++ alw E n9 d1 n (cp n) md1 f1) ++ im_n)) H locs := ct_frL h hP1 hD1 hk hS hAn
            have h : Hs E A s.heap (([(r9, .inr (10, [.ref tr, .ref tx, .int (nI sz9), .int (nI j_w), .int (nI (if w_w.2 = true then 1 else 0)), .ref t9, .int (nI by1)])), (tr, .inr (7, [.int (nI j0)])), (tx, .inl (E.2.1 0, 16000, .inl tray)), (t9, .inr (11, [.ref n9, .ref c9, .null]))] ++ alw E n9 d1 n (cp n) md1 f1) ++ im_n) H locs := h
            clear hP1 hD1 hS hz hk
            refine W.eq (g2 := F0 m 124 ls [.ref x_1]) rfl ?_
            refine W.widen (k := 6 * (t.length + 1)) (n := 70 * (t.length + 1) + gs 16) (by first | omega | (dsimp only; omega)) (by first | omega | (dsimp only; omega)) ?_
            exact ct_athrow B hno h.2.2 ⟨j0, hex_, h.1.sub [2, 1] rfl, hpl⟩ dX10_names_124
    · refine lv_aload_n hx hb dX10_names_26 rfl (lv_at hl 2 rfl) ?_
      refine lv_iload_n hx hb dX10_names_27 rfl (lv_at hl 0 rfl) ?_
      have h : Hs E A s.heap (([(r9, .inr (10, [.ref tr, .ref tx, .int (nI sz9), .int (nI j0), .int (nI q1), .ref t9, .int (nI by1)])), (tr, .inr (7, [.int p0])), (tx, .inl (E.2.1 0, 16000, .inl tray)), (t9, .inr (11, [.ref n9, .ref c9, .null]))] ++ alw E n9 d1 n (cp n) md1 f1) ++ im1) H locs := ct_partM h [0, 2, 1, 3] rfl rfl
      have h : Hs E A s.heap ([(r9, .inr (10, [.ref tr, .ref tx, .int (nI sz9), .int (nI j0), .int (nI q1), .ref t9, .int (nI by1)])), (tr, .inr (7, [.int p0]))] ++ (([(tx, .inl (E.2.1 0, 16000, .inl tray)), (t9, .inr (11, [.ref n9, .ref c9, .null]))] ++ alw E n9 d1 n (cp n) md1 f1) ++ im1)) H locs := h
      refine ct_callQ (ct_runV (As := [.int (nI j0)]) (rest := []) B (met_X10_wrong l E r9 tr tx sz9 j0 q1 by1 (some t9) p0 (nI j0) H.size htr) (lw_V q850 q852 qs29 q62 q853) (n := 1) ⟨by decide, by decide, by decide +kernel⟩ rfl ⟨rfl, rfl, (Nat.le_of_ble_eq_true rfl), (Nat.le_of_ble_eq_true rfl), (by first | omega | (dsimp only; omega)), (by first | omega | (dsimp only; omega))⟩ h.2.2 hA (ct_recv B h.1 kX10 0 rfl) ⟨(ct_Pl h.1), (ct_Dl (ct_D0 h hA))⟩ hl.1 (Nat.le_of_ble_eq_true rfl) dX10_names_28) h.2.2 (ct_subL h hAn) (ct_subL h hAn) (fun v H locs hv hz hk hS => ?_)
      obtain ⟨x_1, rfl, hP1, hD1, hex_⟩ := hv
      have h : Hs E A s.heap ([(r9, .inr (10, [.ref tr, .ref tx, .int (nI sz9), .int (nI j0), .int (nI q1), .ref t9, .int (nI by1)])), (tr, .inr (7, [.int (nI j0)]))] ++ (([(tx, .inl (E.2.1 0, 16000, .inl tray)), (t9, .inr (11, [.ref n9, .ref c9, .null]))] ++ alw E n9 d1 n (cp n) md1 f1) ++ im1)) H locs := ct_frL h hP1 hD1 hk hS hAn
      have h : Hs E A s.heap (([(r9, .inr (10, [.ref tr, .ref tx, .int (nI sz9), .int (nI j0), .int (nI q1), .ref t9, .int (nI by1)])), (tr, .inr (7, [.int (nI j0)])), (tx, .inl (E.2.1 0, 16000, .inl tray)), (t9, .inr (11, [.ref n9, .ref c9, .null]))] ++ alw E n9 d1 n (cp n) md1 f1) ++ im1) H locs := h
      clear hP1 hD1 hS hz hk
      refine W.eq (g2 := F0 m 31 ls [.ref x_1]) rfl ?_
      refine W.widen (k := 6 * (t.length + 1)) (n := 70 * (t.length + 1) + gs 16) (by first | omega | (dsimp only; omega)) (by first | omega | (dsimp only; omega)) ?_
      exact ct_athrow B hno h.2.2 ⟨j0, hex_, h.1.sub [2, 1] rfl, hnl0.trans (nameLine_0 (by omega))⟩ dX10_names_31
