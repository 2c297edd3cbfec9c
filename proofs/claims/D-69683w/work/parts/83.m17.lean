theorem pick40 {cols k c rows : Nat} {pf : Nat → Nat} {cw : Nat → Wd} (hc : c ≤ cols) (h1 : 1 ≤ cols) (h40 : ∀ k9, k9 < cols * rows → (cw k9).1.length ≤ 40) (hp : ∀ j, j < k + 1 → pf j < rows) {j : Nat} (hj : j < cols * k + c) : lenW (pickW cols pf cw) j ≤ 40 := by
  have h2 : j < cols * (k + 1) := by rw [Nat.mul_succ]; omega
  obtain ⟨a1, a2, a3, a4⟩ := pick_in h2
  exact h40 _ (ix_lt a3 (hp _ a2))
theorem tL_pick {E : CE} {im : va_W} {n c : Nat} {tb : Tab} {pk : List Nat} {f1 f2 : Nat → Option Nat} (h1 : alI E im n tb.1.length f1) (h2 : alI E im c (tCols tb * pk.length) f2) (h3 : ∀ k, k < tb.1.length → ∃ s, f1 k = some s ∧ sI E im s (nameW tb k).1) (h4 : ∀ j, j < tCols tb * pk.length → ∃ y, f2 j = some y ∧ cI E im y (pickW (tCols tb) (fun j => pk.getD j 0) (cellW tb) j)) : tL E im n c (pickT tb pk) := by
  have hl : (pickT tb pk).2.length = tCols tb * pk.length := by
    show ((List.range (tCols tb * pk.length)).map _).length = _
    rw [List.length_map, List.length_range]
  refine ⟨f1, f2, h1, by rw [hl]; exact h2, h3, fun k hk => ?_⟩
  rw [hl] at hk
  rw [pickT_cell hk]
  exact h4 k hk
set_option maxHeartbeats 4000000 in
set_option maxRecDepth 100000 in
theorem met_X6_pick (l : Launch) (E : CE) (b0 b1 b2 b3 b4 b5 b7 trayed fed : Nat) (place : Int32) (tcn wby pcn : Nat) (tabs : Nat → Option Nat) (ts : List Tab) (pkf : Nat → Int32) (t : Int32) (pk : List Nat) (im : va_W) (sz : Nat) (hmt : mTabs E im tcn tabs wby ts) (hpk : mPk pkf pcn pk) : Met l yX6_pick (ws_ yX6_pick cX6_pick 8 (some .int)) { frames := 9, cells := 30 + 16 * pk.length, slots := 40 + gs 16 + gs (16 * pk.length), locals := 207 } (ctP E [.ref b0, .int t] sz (fun H => va_P E.1 ct_cl ([(b0, .inr (6, [.ref b1, .int (nI trayed), .int (nI fed), .int place, .ref b2, .ref b3, .int (nI tcn), .int (nI wby), .ref b4, .int (nI pcn), .ref b5, .ref b7])), (b3, .inl (E.2.1 4, 41, .inr (.inr (.inr (.inr tabs))))), (b4, .inl (E.2.1 1, 499, .inl pkf))] ++ im) H ∧ va_D (fun q => E.2.2.1 ≤ q) ([(b0, .inr (6, [.ref b1, .int (nI trayed), .int (nI fed), .int place, .ref b2, .ref b3, .int (nI tcn), .int (nI wby), .ref b4, .int (nI pcn), .ref b5, .ref b7])), (b3, .inl (E.2.1 4, 41, .inr (.inr (.inr (.inr tabs))))), (b4, .inl (E.2.1 1, 499, .inl pkf))] ++ im))) (ctQ (fun v H => ∃ r2 : Int32, ∃ tc2 : Nat, ∃ wb2 : Nat, ∃ tabs2 : Nat → Option Nat, ∃ ts2 : List Tab, ∃ im2 : va_W, v = some (.int r2) ∧ va_P E.1 ct_cl ([(b0, .inr (6, [.ref b1, .int (nI trayed), .int (nI fed), .int place, .ref b2, .ref b3, .int (nI tc2), .int (nI wb2), .ref b4, .int (nI 0), .ref b5, .ref b7])), (b3, .inl (E.2.1 4, 41, .inr (.inr (.inr (.inr tabs2))))), (b4, .inl (E.2.1 1, 499, .inl pkf))] ++ im2) H ∧ va_D (va_A ([(b0, .inr (6, [.ref b1, .int (nI trayed), .int (nI fed), .int place, .ref b2, .ref b3, .int (nI tcn), .int (nI wby), .ref b4, .int (nI pcn), .ref b5, .ref b7])), (b3, .inl (E.2.1 4, 41, .inr (.inr (.inr (.inr tabs))))), (b4, .inl (E.2.1 1, 499, .inl pkf))] ++ im) sz) ([(b0, .inr (6, [.ref b1, .int (nI trayed), .int (nI fed), .int place, .ref b2, .ref b3, .int (nI tc2), .int (nI wb2), .ref b4, .int (nI 0), .ref b5, .ref b7])), (b3, .inl (E.2.1 4, 41, .inr (.inr (.inr (.inr tabs2))))), (b4, .inl (E.2.1 1, 499, .inl pkf))] ++ im2) ∧ ((r2, ts2) = pickS ts pk t) ∧ (mTabs E im2 tc2 tabs2 wb2 ts2) ∧ (∀ y ∈ im, y ∈ im2)) (va_A ([(b0, .inr (6, [.ref b1, .int (nI trayed), .int (nI fed), .int place, .ref b2, .ref b3, .int (nI tcn), .int (nI wby), .ref b4, .int (nI pcn), .ref b5, .ref b7])), (b3, .inl (E.2.1 4, 41, .inr (.inr (.inr (.inr tabs))))), (b4, .inl (E.2.1 1, 499, .inl pkf))] ++ im) sz)) (30 + 16 * pk.length) (40 + gs 16 + gs (16 * pk.length)) (va_A ([(b0, .inr (6, [.ref b1, .int (nI trayed), .int (nI fed), .int place, .ref b2, .ref b3, .int (nI tcn), .int (nI wby), .ref b4, .int (nI pcn), .ref b5, .ref b7])), (b3, .inl (E.2.1 4, 41, .inr (.inr (.inr (.inr tabs))))), (b4, .inl (E.2.1 1, 499, .inl pkf))] ++ im) sz) := by
  refine ct_start (by decide) (Nat.le_of_ble_eq_true rfl) ?_
  intro p e s m below meth c ls B hsz hH hl
  obtain ⟨hP, hD⟩ := hH
  obtain ⟨A, hAe, h, hA, hAn⟩ := ct_enter B.2.2.2.2.2.2.2.2 hsz hP hD
  rw [hAe]
  refine ct_gen h (fun H locs h => ?_)
  have hx := B.1
  have hb := B.2.1
  have hl : lv_has ls 8 [(0, .ref b0), (1, .int t)] := hl
  have hp01 := hpk.1
  refine lv_aload_n hx hb dX6_pick_0 rfl (lv_at hl 0 rfl) ?_
  refine ct_get (v := .int (nI pcn)) B h.1 kX6 0 rfl 9 (Nat.le_of_ble_eq_true rfl) q736 rfl dX6_pick_1 ?_
  refine lv_istore_n (lv' := [(2, .int (nI pcn)), (0, .ref b0), (1, .int t)]) hx hb dX6_pick_4 rfl hl (by decide) rfl (fun ls hl => ?_)
  refine lv_aload_n hx hb dX6_pick_5 rfl (lv_at hl 1 rfl) ?_
  refine lv_iconst (v := nI 0) hx hb dX6_pick_6 (by decide) ?_
  refine ct_put (ws' := [(b0, .inr (6, [.ref b1, .int (nI trayed), .int (nI fed), .int place, .ref b2, .ref b3, .int (nI tcn), .int (nI wby), .ref b4, .int (nI 0), .ref b5, .ref b7])), (b3, .inl (E.2.1 4, 41, .inr (.inr (.inr (.inr tabs))))), (b4, .inl (E.2.1 1, 499, .inl pkf))] ++ im) B h kX6 0 rfl 9 (Nat.le_of_ble_eq_true rfl) q736 rfl rfl rfl (Nat.le_of_ble_eq_true rfl) rfl dX6_pick_7 (fun H locs h => ?_)
  refine lv_aload_n hx hb dX6_pick_10 rfl (lv_at hl 1 rfl) ?_
  refine lv_iload_n hx hb dX6_pick_11 rfl (lv_at hl 2 rfl) ?_
  refine ct_callR (ct_runV (As := [.int t]) (rest := []) B (met_X6_isTable l E im b0 b1 b2 b3 b4 b5 b7 trayed fed place tcn wby 0 tabs ts t H.size hmt) (lw_V q1203 q1205 qs38 q54 q1206) (n := 1) ⟨by decide, by decide, by decide +kernel⟩ rfl ⟨rfl, rfl, (Nat.le_of_ble_eq_true rfl), (Nat.le_of_ble_eq_true rfl), (by first | omega | (dsimp only; omega)), (by first | omega | (dsimp only; omega))⟩ h.2.2 hA (ct_recv B h.1 kX6 0 rfl) ⟨(h.1.sub [0, 1] rfl), (ct_Pr h.1)⟩ hl.1 (Nat.le_of_ble_eq_true rfl) dX6_pick_12) (fun v hv => ?_)
  subst hv
  refine W.eq (g2 := F0 m 15 ls [.int (if (tabOf ts t).isSome = true then 1 else 0)]) rfl ?_
  refine b_if_ne (tgt := 21) hx hb dX6_pick_15 (by decide) (fun ct => ?_) (fun ct => ?_)
  · obtain ⟨tb, j, a9, n9, c9, l9, fl, htb, rfl, hj, hta, hma, htl, hml, hfl, hok⟩ := mT_get hmt ct
    obtain ⟨hcs, hrs, htl2, hn20, hc40⟩ := id hok
    obtain ⟨fn, fc, hln, hlc, hnm, hce⟩ := id htl
    obtain ⟨mdn, en, hmn⟩ := hln.obj
    obtain ⟨md1, d1, cap1, hcap, hcap2, hm1⟩ := hln.get (show 0 < tb.1.length from hcs.1)
    have hc1 : tb.1.length = tCols tb := rfl
    have hmul := mul_cs hcs.2 hrs
    have hmul2 := mul_cs hcs.2 hpk.2.1
    have hm40 := hmt.2.1
    have hm65 := hmt.2.2.2.1
    have hnb20 : ∀ k9, k9 < tCols tb → (nameW tb k9).1.length ≤ 20 := fun k9 h9 => (hn20 _ (nameW_mem h9)).2
    have hcb40 : ∀ k9, k9 < tCols tb * tRows tb → (cellW tb k9).1.length ≤ 40 := fun k9 h9 => (hc40 _ (cellW_mem (by rw [htl2]; exact h9))).1
    have hp1 := hpk.1
    have hp2 := hpk.2.1
    refine lv_aload_n hx hb dX6_pick_21 rfl (lv_at hl 1 rfl) ?_
    refine ct_get (v := .ref b3) B h.1 kX6 0 rfl 5 (Nat.le_of_ble_eq_true rfl) q732 rfl dX6_pick_22 ?_
    refine lv_iload_n hx hb dX6_pick_25 rfl (lv_at hl 2 rfl) ?_
    refine ct_aald B h.1 1 4 rfl rfl (by omega) (by omega) dX6_pick_26 ?_
    refine W.eq (g2 := F0 m 27 ls [.ref a9]) (by rw [hta] <;> rfl) ?_
    refine lv_astore_n (lv' := [(3, .ref a9), (2, .int (nI pcn)), (0, .ref b0), (1, .int (nI j))]) hx hb dX6_pick_27 rfl hl (by decide) rfl (fun ls hl => ?_)
    refine lv_iconst (v := nI 0) hx hb dX6_pick_28 (by decide) ?_
    refine lv_istore (lv' := [(4, .int (nI 0)), (3, .ref a9), (2, .int (nI pcn)), (0, .ref b0), (1, .int (nI j))]) hx hb dX6_pick_29 hl (by decide) rfl (fun ls hl => ?_)
    refine lv_iconst (v := nI 0) hx hb dX6_pick_31 (by decide) ?_
    refine lv_istore (lv' := [(5, .int (nI 0)), (4, .int (nI 0)), (3, .ref a9), (2, .int (nI pcn)), (0, .ref b0), (1, .int (nI j))]) hx hb dX6_pick_32 hl (by decide) rfl (fun ls hl => ?_)
    refine ct_loop (σ := Nat × Nat) (fun (k, nd) ls => lv_has ls 8 [(5, .int (nI k)), (4, .int (nI nd)), (3, .ref a9), (2, .int (nI pcn)), (0, .ref b0), (1, .int (nI j))] ∧ (k ≤ tCols tb) ∧ (nd = sumN (lenW (nameW tb)) k)) (fun (k, nd) => tCols tb - k) (g := fun (k, nd) ls => F0 m 34 ls []) (x0 := (0, 0)) (ls0 := ls) ?_ ⟨lv_sub hl [0, 1, 2, 3, 4, 5] rfl, Nat.zero_le _, rfl⟩
    clear hl
    intro x9 ls hI ih_1
    obtain ⟨k, nd⟩ := x9
    obtain ⟨hl, hk, hnd⟩ := hI
    refine W.eq (g2 := F0 m 34 ls []) rfl ?_
    refine lv_iload hx hb dX6_pick_34 (lv_at hl 0 rfl) ?_
    refine lv_aload_n hx hb dX6_pick_36 rfl (lv_at hl 2 rfl) ?_
    refine ct_get (v := .ref n9) B (ct_sel (ct_Pr h.1) hma) kX11 0 rfl 0 (Nat.le_of_ble_eq_true rfl) q830 rfl dX6_pick_37 ?_
    refine ct_callR (ct_runV (As := []) (rest := [.int (nI k)]) B (met_J10_size l E n9 en tb.1.length mdn H.size) (lw_V q1154 q847 q848 q66 q849) (n := 0) ⟨by decide, by decide, by decide +kernel⟩ rfl ⟨rfl, rfl, (Nat.le_of_ble_eq_true rfl), (Nat.le_of_ble_eq_true rfl), (by first | omega | (dsimp only; omega)), (by first | omega | (dsimp only; omega))⟩ h.2.2 hA (ct_recv B (ct_sel (ct_Pr h.1) hmn) kJ10 0 rfl) ((ct_sel (ct_Pr h.1) hmn).sub [0] rfl) hl.1 (Nat.le_of_ble_eq_true rfl) dX6_pick_40) (fun v hv => ?_)
    subst hv
    refine W.eq (g2 := F0 m 43 ls [.int (nI tb.1.length), .int (nI k)]) rfl ?_
    refine W.eq (g2 := F0 m 43 ls [.int (nI (tCols tb)), .int (nI k)]) (by rw [show tb.1.length = tCols tb from rfl] <;> rfl) ?_
    refine n_icmp_ge (tgt := 72) hx hb dX6_pick_43 (by decide) (by omega) (by omega) (fun cend => ?_) (fun cend => ?_)
    · refine lv_iconst (v := nI 0) hx hb dX6_pick_72 (by decide) ?_
      refine lv_istore (lv' := [(5, .int (nI 0)), (4, .int (nI nd)), (3, .ref a9), (2, .int (nI pcn)), (0, .ref b0), (1, .int (nI j))]) hx hb dX6_pick_73 hl (by decide) rfl (fun ls hl => ?_)
      refine ct_loop (σ := Nat × Nat) (fun (r_, nd2) ls => lv_has ls 8 [(5, .int (nI r_)), (4, .int (nI nd2)), (3, .ref a9), (2, .int (nI pcn)), (0, .ref b0), (1, .int (nI j))] ∧ (r_ ≤ pk.length) ∧ (∀ j, j < r_ → pk.getD j 0 < tRows tb) ∧ (nd2 = sumN (lenW (nameW tb)) (tCols tb) + sumN (lenW (pickW (tCols tb) (fun j => pk.getD j 0) (cellW tb))) (tCols tb * r_))) (fun (r_, nd2) => pk.length - r_) (g := fun (r_, nd2) ls => F0 m 75 ls []) (x0 := (0, nd)) (ls0 := ls) ?_ ⟨lv_sub hl [0, 1, 2, 3, 4, 5] rfl, Nat.zero_le _, fun j hj => absurd hj (Nat.not_lt_zero j), by rw [hnd, Nat.mul_zero, sumN_0, show k = tCols tb by omega]; rfl⟩
      clear hl
      intro x9 ls hI ih_2
      obtain ⟨r_, nd2⟩ := x9
      obtain ⟨hl, hr_, hall, hnd2⟩ := hI
      refine W.eq (g2 := F0 m 75 ls []) rfl ?_
      refine lv_iload hx hb dX6_pick_75 (lv_at hl 0 rfl) ?_
      refine lv_iload_n hx hb dX6_pick_77 rfl (lv_at hl 3 rfl) ?_
      refine n_icmp_ge (tgt := 149) hx hb dX6_pick_78 (by decide) (by omega) (by omega) (fun cpk => ?_) (fun cpk => ?_)
      · obtain rfl : r_ = pk.length := by omega
        have hnb := noBig (n := tRows tb) (pk := pk) (Nat.le_refl _) hall
        have hsn := sumN_le (f := lenW (nameW tb)) (B := 20) (tCols tb) (fun j9 h9 => hnb20 j9 h9)
        have hsp := sumN_le (f := lenW (pickW (tCols tb) (fun j => pk.getD j 0) (cellW tb))) (B := 40) (tCols tb * pk.length) (fun j9 h9 => by obtain ⟨a1, a2, a3, a4⟩ := pick_in h9; exact hcb40 _ (ix_lt a3 (hall _ a2)))
        have hptot := pickT_tot tb pk
        refine lv_aload_n hx hb dX6_pick_149 rfl (lv_at hl 4 rfl) ?_
        refine ct_get (v := .int (nI tcn)) B h.1 kX6 0 rfl 6 (Nat.le_of_ble_eq_true rfl) q733 rfl dX6_pick_150 ?_
        refine lv_bipush (v := nI 40) hx hb dX6_pick_153 (by decide) ?_
        refine n_icmp_eq (tgt := 170) hx hb dX6_pick_155 (by decide) (by omega) (by omega) (fun c40 => ?_) (fun c40 => ?_)
        · refine lv_bipush (v := (-12)) hx hb dX6_pick_170 (by decide) ?_
          have h : Hs E A s.heap ([(b0, .inr (6, [.ref b1, .int (nI trayed), .int (nI fed), .int place, .ref b2, .ref b3, .int (nI tcn), .int (nI wby), .ref b4, .int (nI 0), .ref b5, .ref b7])), (b3, .inl (E.2.1 4, 41, .inr (.inr (.inr (.inr tabs))))), (b4, .inl (E.2.1 1, 499, .inl pkf))] ++ im) H locs := h
          refine W.widen (k := 30 + 16 * pk.length) (n := 40 + gs 16 + gs (16 * pk.length)) (by first | omega | (dsimp only; omega)) (by first | omega | (dsimp only; omega)) ?_
          exact ct_iret (ty := .int) (v := (-12)) B rfl rfl h.2.2 ⟨(-12), tcn, wby, tabs, ts, im, rfl, h.1, h.2.1, by rw [pickS, htb]; dsimp only; rw [if_neg hnb, if_pos (Or.inl (by rw [← hmt.1]; exact c40))], hmt, fun y hy => hy⟩ dX6_pick_172
        · refine lv_aload_n hx hb dX6_pick_158 rfl (lv_at hl 4 rfl) ?_
          refine ct_get (v := .int (nI wby)) B h.1 kX6 0 rfl 7 (Nat.le_of_ble_eq_true rfl) q734 rfl dX6_pick_159 ?_
          refine lv_iload hx hb dX6_pick_162 (lv_at hl 1 rfl) ?_
          refine n_iadd hx hb dX6_pick_164 ?_
          refine lv_ldc (v := nI 65536) hx hb B.2.2.1 (B.2.2.2.1 _ q768) dX6_pick_165 ?_
          refine n_icmp_le (tgt := 173) hx hb dX6_pick_167 (by decide) (by omega) (by omega) (fun cw => ?_) (fun cw => ?_)
          · refine ct_new (fs := [.null, .null, .null]) B h hAn kX11 q710 q797 q63 (by intro j9 hj9; rcases j9 with _ | _ | _ | j9 <;> first | rfl | omega) (by first | omega | (dsimp only; omega)) (by first | omega | (dsimp only; omega)) dX6_pick_173 (fun t_1 H h ht_1 => ?_)
            have h : Hs E A s.heap ([(t_1, .inr (11, [.null, .null, .null]))] ++ ([(b0, .inr (6, [.ref b1, .int (nI trayed), .int (nI fed), .int place, .ref b2, .ref b3, .int (nI tcn), .int (nI wby), .ref b4, .int (nI 0), .ref b5, .ref b7])), (b3, .inl (E.2.1 4, 41, .inr (.inr (.inr (.inr tabs))))), (b4, .inl (E.2.1 1, 499, .inl pkf))] ++ im)) H locs := ct_Hc h
            have h : Hs E A s.heap ([(t_1, .inr (11, [.null, .null, .null])), (b0, .inr (6, [.ref b1, .int (nI trayed), .int (nI fed), .int place, .ref b2, .ref b3, .int (nI tcn), .int (nI wby), .ref b4, .int (nI 0), .ref b5, .ref b7])), (b3, .inl (E.2.1 4, 41, .inr (.inr (.inr (.inr tabs))))), (b4, .inl (E.2.1 1, 499, .inl pkf))] ++ im) H locs := h
            refine lv_dup hx hb dX6_pick_176 rfl ?_
            have h : Hs E A s.heap ([(t_1, .inr (11, [.null, .null, .null]))] ++ ([(b0, .inr (6, [.ref b1, .int (nI trayed), .int (nI fed), .int place, .ref b2, .ref b3, .int (nI tcn), .int (nI wby), .ref b4, .int (nI 0), .ref b5, .ref b7])), (b3, .inl (E.2.1 4, 41, .inr (.inr (.inr (.inr tabs))))), (b4, .inl (E.2.1 1, 499, .inl pkf))] ++ im)) H locs := h
            refine ct_callQ (ct_runIN (b := t_1) (As := []) (rest := [.ref t_1]) B (met_X11_init l E t_1 H.size) q800 q63 (B.2.2.2.2.2.2.2.2.2.1 _ ct_nw_6) q799 rfl (n := 0) ⟨by decide, by decide, by decide +kernel⟩ rfl ⟨rfl, rfl, (Nat.le_of_ble_eq_true rfl), (Nat.le_of_ble_eq_true rfl), (by first | omega | (dsimp only; omega)), (by first | omega | (dsimp only; omega))⟩ h.2.2 hA ⟨(ct_Pl h.1), (ct_Dl (ct_D0 h hA))⟩ hl.1 (Nat.le_of_ble_eq_true rfl) dX6_pick_177) h.2.2 (ct_subL h hAn) (ct_subL h hAn) (fun v H locs hv hz hk hS => ?_)
            obtain ⟨n_1, c_1, rfl, hP1, hD1⟩ := hv
            have h : Hs E A s.heap ([(t_1, .inr (11, [.ref n_1, .ref c_1, .null])), (n_1, .inr (14, [.int 0, .ref (E.2.2.2 3), .int (nI 0)])), (c_1, .inr (14, [.int 0, .ref (E.2.2.2 3), .int (nI 0)]))] ++ ([(b0, .inr (6, [.ref b1, .int (nI trayed), .int (nI fed), .int place, .ref b2, .ref b3, .int (nI tcn), .int (nI wby), .ref b4, .int (nI 0), .ref b5, .ref b7])), (b3, .inl (E.2.1 4, 41, .inr (.inr (.inr (.inr tabs))))), (b4, .inl (E.2.1 1, 499, .inl pkf))] ++ im)) H locs := ct_frL h hP1 hD1 hk hS hAn
            have h : Hs E A s.heap ([(t_1, .inr (11, [.ref n_1, .ref c_1, .null])), (n_1, .inr (14, [.int 0, .ref (E.2.2.2 3), .int (nI 0)])), (c_1, .inr (14, [.int 0, .ref (E.2.2.2 3), .int (nI 0)])), (b0, .inr (6, [.ref b1, .int (nI trayed), .int (nI fed), .int place, .ref b2, .ref b3, .int (nI tcn), .int (nI wby), .ref b4, .int (nI 0), .ref b5, .ref b7])), (b3, .inl (E.2.1 4, 41, .inr (.inr (.inr (.inr tabs))))), (b4, .inl (E.2.1 1, 499, .inl pkf))] ++ im) H locs := h
            clear hP1 hD1 hS hz hk
            refine W.eq (g2 := F0 m 180 ls [.ref t_1]) rfl ?_
            refine lv_astore (lv' := [(5, .ref t_1), (4, .int (nI nd2)), (3, .ref a9), (2, .int (nI pcn)), (0, .ref b0), (1, .int (nI j))]) hx hb dX6_pick_180 hl (by decide) rfl (fun ls hl => ?_)
            have h : Hs E A s.heap ([(t_1, .inr (11, [.ref n_1, .ref c_1, .null])), (c_1, .inr (14, [.int 0, .ref (E.2.2.2 3), .int (nI 0)])), (b0, .inr (6, [.ref b1, .int (nI trayed), .int (nI fed), .int place, .ref b2, .ref b3, .int (nI tcn), .int (nI wby), .ref b4, .int (nI 0), .ref b5, .ref b7])), (b3, .inl (E.2.1 4, 41, .inr (.inr (.inr (.inr tabs))))), (b4, .inl (E.2.1 1, 499, .inl pkf)), (n_1, .inr (14, [.int 0, .ref (E.2.2.2 3), .int (nI 0)]))] ++ im) H locs := ct_part h [0, 2, 3, 4, 5, 1] rfl rfl
            have h : Hs E A s.heap (([(t_1, .inr (11, [.ref n_1, .ref c_1, .null])), (c_1, .inr (14, [.int 0, .ref (E.2.2.2 3), .int (nI 0)])), (b0, .inr (6, [.ref b1, .int (nI trayed), .int (nI fed), .int place, .ref b2, .ref b3, .int (nI tcn), .int (nI wby), .ref b4, .int (nI 0), .ref b5, .ref b7])), (b3, .inl (E.2.1 4, 41, .inr (.inr (.inr (.inr tabs))))), (b4, .inl (E.2.1 1, 499, .inl pkf))] ++ alw E n_1 0 0 (cp 0) 0 (fun _ => none)) ++ im) H locs := h
            refine lv_iconst (v := nI 0) hx hb dX6_pick_182 (by decide) ?_
            refine lv_istore (lv' := [(6, .int (nI 0)), (5, .ref t_1), (4, .int (nI nd2)), (3, .ref a9), (2, .int (nI pcn)), (0, .ref b0), (1, .int (nI j))]) hx hb dX6_pick_183 hl (by decide) rfl (fun ls hl => ?_)
            have h : Hs E A s.heap (([(b0, .inr (6, [.ref b1, .int (nI trayed), .int (nI fed), .int place, .ref b2, .ref b3, .int (nI tcn), .int (nI wby), .ref b4, .int (nI 0), .ref b5, .ref b7])), (b3, .inl (E.2.1 4, 41, .inr (.inr (.inr (.inr tabs))))), (b4, .inl (E.2.1 1, 499, .inl pkf)), (t_1, .inr (11, [.ref n_1, .ref c_1, .null])), (c_1, .inr (14, [.int 0, .ref (E.2.2.2 3), .int (nI 0)]))] ++ alw E n_1 0 0 (cp 0) 0 (fun _ => none)) ++ im) H locs := ct_partM h [2, 3, 4, 0, 1] rfl rfl
            refine W.widen (k := 3 + 0) (n := 9 + gs 0) (by first | (have := cellA_le u_ (cp u_); dsimp only; omega) | omega | (dsimp only; omega)) (by first | (have := gs_S u_; dsimp only; omega) | omega | (dsimp only; rw [show gs 0 = 0 from rfl]; omega)) ?_
            refine ct_loopH (σ := Nat × Nat × Int32 × (Nat → Option Nat)) (fun (u_, du, mdu, fu) H locs ls => lv_has ls 8 [(6, .int (nI u_)), (5, .ref t_1), (4, .int (nI nd2)), (3, .ref a9), (2, .int (nI pcn)), (0, .ref b0), (1, .int (nI j))] ∧ Hs E A s.heap (([(b0, .inr (6, [.ref b1, .int (nI trayed), .int (nI fed), .int place, .ref b2, .ref b3, .int (nI tcn), .int (nI wby), .ref b4, .int (nI 0), .ref b5, .ref b7])), (b3, .inl (E.2.1 4, 41, .inr (.inr (.inr (.inr tabs))))), (b4, .inl (E.2.1 1, 499, .inl pkf)), (t_1, .inr (11, [.ref n_1, .ref c_1, .null])), (c_1, .inr (14, [.int 0, .ref (E.2.2.2 3), .int (nI 0)]))] ++ alw E n_1 du u_ (cp u_) mdu fu) ++ im) H locs ∧ (u_ ≤ tCols tb) ∧ (∀ j, j < u_ → fu j = fn j)) (fun (u_, du, mdu, fu) => tCols tb - u_) (fun (u_, du, mdu, fu) => 3 + u_) (fun (u_, du, mdu, fu) => 9 + gs u_) (g := fun (u_, du, mdu, fu) ls => F0 m 185 ls []) (x0 := (0, 0, 0, (fun _ => none))) (ls0 := ls) ?_ ⟨lv_sub hl [0, 1, 2, 3, 4, 5, 6] rfl, h, Nat.zero_le _, fun j hj => absurd hj (Nat.not_lt_zero j)⟩
            clear hl h
            intro x9 H locs ls hI ih_3
            obtain ⟨u_, du, mdu, fu⟩ := x9
            obtain ⟨hl, h, hu_, hfu⟩ := hI
            refine W.eq (g2 := F0 m 185 ls []) rfl ?_
            have hgn := gs_le (show u_ ≤ 16 by omega)
            refine lv_iload hx hb dX6_pick_185 (lv_at hl 0 rfl) ?_
            refine lv_aload_n hx hb dX6_pick_187 rfl (lv_at hl 3 rfl) ?_
            refine ct_get (v := .ref n9) B (ct_sel (ct_Pr h.1) hma) kX11 0 rfl 0 (Nat.le_of_ble_eq_true rfl) q830 rfl dX6_pick_188 ?_
            refine ct_callR (ct_runV (As := []) (rest := [.int (nI u_)]) B (met_J10_size l E n9 en tb.1.length mdn H.size) (lw_V q1154 q847 q848 q66 q849) (n := 0) ⟨by decide, by decide, by decide +kernel⟩ rfl ⟨rfl, rfl, (Nat.le_of_ble_eq_true rfl), (Nat.le_of_ble_eq_true rfl), (by first | omega | (dsimp only; omega)), (by first | omega | (dsimp only; omega))⟩ h.2.2 hA (ct_recv B (ct_sel (ct_Pr h.1) hmn) kJ10 0 rfl) ((ct_sel (ct_Pr h.1) hmn).sub [0] rfl) hl.1 (Nat.le_of_ble_eq_true rfl) dX6_pick_191) (fun v hv => ?_)
            subst hv
            refine W.eq (g2 := F0 m 194 ls [.int (nI tb.1.length), .int (nI u_)]) rfl ?_
            refine W.eq (g2 := F0 m 194 ls [.int (nI (tCols tb)), .int (nI u_)]) (by rw [show tb.1.length = tCols tb from rfl] <;> rfl) ?_
            refine n_icmp_ge (tgt := 224) hx hb dX6_pick_194 (by decide) (by omega) (by omega) (fun cend3 => ?_) (fun cend3 => ?_)
            · obtain rfl : u_ = tCols tb := by omega
              have h : Hs E A s.heap ([(b0, .inr (6, [.ref b1, .int (nI trayed), .int (nI fed), .int place, .ref b2, .ref b3, .int (nI tcn), .int (nI wby), .ref b4, .int (nI 0), .ref b5, .ref b7])), (b3, .inl (E.2.1 4, 41, .inr (.inr (.inr (.inr tabs))))), (b4, .inl (E.2.1 1, 499, .inl pkf)), (t_1, .inr (11, [.ref n_1, .ref c_1, .null])), (c_1, .inr (14, [.int 0, .ref (E.2.2.2 3), .int (nI 0)]))] ++ (alw E n_1 du (tCols tb) (cp (tCols tb)) mdu fu ++ im)) H locs := h
              obtain ⟨im_a, hh_im_a⟩ : ∃ z9 : va_W, z9 = alw E n_1 du (tCols tb) (cp (tCols tb)) mdu fu ++ im := ⟨_, rfl⟩
              rw [← hh_im_a] at h
              have hi_im_a : ∀ y ∈ im, y ∈ im_a := by rw [hh_im_a]; exact fun y hy => List.mem_append_right _ hy
              have hcpn := cp_b (tCols tb)
              have hln1 : alI E im_a n_1 tb.1.length fu := by rw [hh_im_a]; exact ⟨du, cp (tCols tb), mdu, hcpn.1, by omega, fun x hx => List.mem_append_left _ hx⟩
              have h : Hs E A s.heap (([(b0, .inr (6, [.ref b1, .int (nI trayed), .int (nI fed), .int place, .ref b2, .ref b3, .int (nI tcn), .int (nI wby), .ref b4, .int (nI 0), .ref b5, .ref b7])), (b3, .inl (E.2.1 4, 41, .inr (.inr (.inr (.inr tabs))))), (b4, .inl (E.2.1 1, 499, .inl pkf)), (t_1, .inr (11, [.ref n_1, .ref c_1, .null]))] ++ alw E c_1 0 0 (cp 0) 0 (fun _ => none)) ++ im_a) H locs := h
              refine lv_iconst (v := nI 0) hx hb dX6_pick_224 (by decide) ?_
              refine lv_istore (lv' := [(6, .int (nI 0)), (5, .ref t_1), (4, .int (nI nd2)), (3, .ref a9), (2, .int (nI pcn)), (0, .ref b0), (1, .int (nI j))]) hx hb dX6_pick_225 hl (by decide) rfl (fun ls hl => ?_)
              refine W.widen (k := 3 + 16 + tCols tb * 0) (n := 9 + gs 16 + gs (tCols tb * 0)) (by first | exact Nat.le_refl _ | omega | (dsimp only; omega) | (rw [Nat.mul_succ]; omega)) (by first | exact Nat.le_refl _ | omega | (dsimp only; omega) | (rw [Nat.mul_succ]; omega) | (dsimp only; rw [Nat.mul_zero, show gs 0 = 0 from rfl]; omega)) ?_
              refine ct_loopH (σ := Nat × Nat × Int32 × (Nat → Option Nat)) (fun (v_, dv, mdv, fv) H locs ls => lv_has ls 8 [(6, .int (nI v_)), (5, .ref t_1), (4, .int (nI nd2)), (3, .ref a9), (2, .int (nI pcn)), (0, .ref b0), (1, .int (nI j))] ∧ Hs E A s.heap (([(b0, .inr (6, [.ref b1, .int (nI trayed), .int (nI fed), .int place, .ref b2, .ref b3, .int (nI tcn), .int (nI wby), .ref b4, .int (nI 0), .ref b5, .ref b7])), (b3, .inl (E.2.1 4, 41, .inr (.inr (.inr (.inr tabs))))), (b4, .inl (E.2.1 1, 499, .inl pkf)), (t_1, .inr (11, [.ref n_1, .ref c_1, .null]))] ++ alw E c_1 dv (tCols tb * v_) (cp (tCols tb * v_)) mdv fv) ++ im_a) H locs ∧ (v_ ≤ pk.length) ∧ (∀ j, j < tCols tb * v_ → ∃ y, fv j = some y ∧ cI E im_a y ((pickW (tCols tb) (fun j => pk.getD j 0) (cellW tb)) j))) (fun (v_, dv, mdv, fv) => pk.length - v_) (fun (v_, dv, mdv, fv) => 3 + 16 + tCols tb * v_) (fun (v_, dv, mdv, fv) => 9 + gs 16 + gs (tCols tb * v_)) (g := fun (v_, dv, mdv, fv) ls => F0 m 227 ls []) (x0 := (0, 0, 0, (fun _ => none))) (ls0 := ls) ?_ ⟨lv_sub hl [0, 1, 2, 3, 4, 5, 6] rfl, h, Nat.zero_le _, fun j hj => absurd hj (Nat.not_lt_zero j)⟩
              clear hl h
              intro x9 H locs ls hI ih_4
              obtain ⟨v_, dv, mdv, fv⟩ := x9
              obtain ⟨hl, h, hv_, hce1⟩ := hI
              refine W.eq (g2 := F0 m 227 ls []) rfl ?_
              have hgm := Nat.mul_le_mul_left (tCols tb) hv_
              have hgp : tCols tb * pk.length ≤ 16 * pk.length := Nat.mul_le_mul_right _ hcs.2
              have hgn := gs_le (show tCols tb * v_ ≤ 16 * pk.length by omega)
              refine lv_iload hx hb dX6_pick_227 (lv_at hl 0 rfl) ?_
              refine lv_iload_n hx hb dX6_pick_229 rfl (lv_at hl 4 rfl) ?_
              refine n_icmp_ge (tgt := 282) hx hb dX6_pick_230 (by decide) (by omega) (by omega) (fun cpk2 => ?_) (fun cpk2 => ?_)
              · obtain rfl : v_ = pk.length := by omega
                have h : Hs E A s.heap ([(b0, .inr (6, [.ref b1, .int (nI trayed), .int (nI fed), .int place, .ref b2, .ref b3, .int (nI tcn), .int (nI wby), .ref b4, .int (nI 0), .ref b5, .ref b7])), (b3, .inl (E.2.1 4, 41, .inr (.inr (.inr (.inr tabs))))), (b4, .inl (E.2.1 1, 499, .inl pkf)), (t_1, .inr (11, [.ref n_1, .ref c_1, .null]))] ++ (alw E c_1 dv (tCols tb * pk.length) (cp (tCols tb * pk.length)) mdv fv ++ im_a)) H locs := h
                obtain ⟨im_c, hh_im_c⟩ : ∃ z9 : va_W, z9 = alw E c_1 dv (tCols tb * pk.length) (cp (tCols tb * pk.length)) mdv fv ++ im_a := ⟨_, rfl⟩
                rw [← hh_im_c] at h
                have hi_im_c : ∀ y ∈ im_a, y ∈ im_c := by rw [hh_im_c]; exact fun y hy => List.mem_append_right _ hy
                have hcpm := cp_b (tCols tb * pk.length)
                have hT9 : tL E im_c n_1 c_1 (pickT tb pk) := tL_pick (hln1.mono hi_im_c) (by rw [hh_im_c]; exact ⟨dv, cp (tCols tb * pk.length), mdv, hcpm.1, by omega, fun x hx => List.mem_append_left _ hx⟩) (fun k9 h9 => by obtain ⟨s9, z1, z2⟩ := hnm k9 h9; exact ⟨s9, by rw [hfu k9 h9]; exact z1, (z2.mono hi_im_a).mono hi_im_c⟩) (fun j9 h9 => by obtain ⟨y9, z1, z2⟩ := hce1 j9 h9; exact ⟨y9, z1, z2.mono hi_im_c⟩)
                have hok9 := pickT_ok hok hnb hpk.2.1
                have hiac : ∀ y ∈ im, y ∈ im_c := fun y hy => hi_im_c y (hi_im_a y hy)
                refine lv_aload_n hx hb dX6_pick_282 rfl (lv_at hl 5 rfl) ?_
                refine lv_aload hx hb dX6_pick_283 (lv_at hl 1 rfl) ?_
                refine lv_iload hx hb dX6_pick_285 (lv_at hl 2 rfl) ?_
                have h : Hs E A s.heap ([(b4, .inl (E.2.1 1, 499, .inl pkf)), (b0, .inr (6, [.ref b1, .int (nI trayed), .int (nI fed), .int place, .ref b2, .ref b3, .int (nI tcn), .int (nI wby), .ref b4, .int (nI 0), .ref b5, .ref b7])), (b3, .inl (E.2.1 4, 41, .inr (.inr (.inr (.inr tabs))))), (t_1, .inr (11, [.ref n_1, .ref c_1, .null]))] ++ im_c) H locs := ct_part h [2, 0, 1, 3] rfl rfl
                have h : Hs E A s.heap ([(b4, .inl (E.2.1 1, 499, .inl pkf))] ++ ([(b0, .inr (6, [.ref b1, .int (nI trayed), .int (nI fed), .int place, .ref b2, .ref b3, .int (nI tcn), .int (nI wby), .ref b4, .int (nI 0), .ref b5, .ref b7])), (b3, .inl (E.2.1 4, 41, .inr (.inr (.inr (.inr tabs))))), (t_1, .inr (11, [.ref n_1, .ref c_1, .null]))] ++ im_c)) H locs := h
                refine ct_callQ (ct_runV (As := [.ref t_1, .int (nI nd2)]) (rest := []) B (met_X6_tabled l E b0 b1 b2 b3 b4 b5 b7 trayed fed place tcn wby 0 tabs ts t_1 n_1 c_1 nd2 (pickT tb pk) im_c H.size (hmt.mono hiac) hT9 hok9 (by rw [hptot]; exact hnd2) (by omega)) (lw_V q1150 q1152 qs37 q54 q1153) (n := 2) ⟨by decide, by decide, by decide +kernel⟩ rfl ⟨rfl, rfl, (Nat.le_of_ble_eq_true rfl), (Nat.le_of_ble_eq_true rfl), (by first | omega | (dsimp only; omega)), (by first | omega | (dsimp only; omega))⟩ h.2.2 hA (ct_recv B h.1 kX6 1 rfl) ⟨(ct_Pr h.1), (ct_Dr (ct_D0 h hA))⟩ hl.1 (Nat.le_of_ble_eq_true rfl) dX6_pick_287) h.2.2 (ct_subR h hAn) (ct_subR h hAn) (fun v H locs hv hz hk hS => ?_)
                obtain ⟨r_2, tc_2, wb_2, tb_2, ts_2, im_2, rfl, hP1, hD1, hfl, hmt2, him⟩ := hv
                have h : Hs E A s.heap ([(b4, .inl (E.2.1 1, 499, .inl pkf))] ++ ([(b0, .inr (6, [.ref b1, .int (nI trayed), .int (nI fed), .int place, .ref b2, .ref b3, .int (nI tc_2), .int (nI wb_2), .ref b4, .int (nI 0), .ref b5, .ref b7])), (b3, .inl (E.2.1 4, 41, .inr (.inr (.inr (.inr tb_2)))))] ++ im_2)) H locs := ct_frR h hP1 hD1 hk hS hAn
                have h : Hs E A s.heap ([(b4, .inl (E.2.1 1, 499, .inl pkf)), (b0, .inr (6, [.ref b1, .int (nI trayed), .int (nI fed), .int place, .ref b2, .ref b3, .int (nI tc_2), .int (nI wb_2), .ref b4, .int (nI 0), .ref b5, .ref b7])), (b3, .inl (E.2.1 4, 41, .inr (.inr (.inr (.inr tb_2)))))] ++ im_2) H locs := h
                clear hP1 hD1 hS hz hk
                refine W.eq (g2 := F0 m 290 ls [.int r_2]) rfl ?_
                have h : Hs E A s.heap ([(b0, .inr (6, [.ref b1, .int (nI trayed), .int (nI fed), .int place, .ref b2, .ref b3, .int (nI tc_2), .int (nI wb_2), .ref b4, .int (nI 0), .ref b5, .ref b7])), (b3, .inl (E.2.1 4, 41, .inr (.inr (.inr (.inr tb_2))))), (b4, .inl (E.2.1 1, 499, .inl pkf))] ++ im_2) H locs := ct_part h [1, 2, 0] rfl rfl
                refine W.widen (k := 30 + 16 * pk.length) (n := 40 + gs 16 + gs (16 * pk.length)) (by first | omega | (dsimp only; omega)) (by first | omega | (dsimp only; omega)) ?_
                exact ct_iret (ty := .int) (v := r_2) B rfl rfl h.2.2 ⟨_, tc_2, wb_2, tb_2, ts_2, im_2, rfl, h.1, h.2.1, by rw [pickS, htb]; dsimp only; rw [if_neg hnb]; rcases hfl with ⟨z1, z2, z3⟩ | ⟨z1, z2, z3⟩; rw [if_pos (show ts.length = 40 ∨ _ from z1), z2, z3]; rw [if_neg (show ¬ (ts.length = 40 ∨ _) from z1), z2, z3], hmt2, fun y hy => him y (hiac y hy)⟩ dX6_pick_290
              · refine lv_iconst (v := nI 0) hx hb dX6_pick_233 (by decide) ?_
                refine lv_istore (lv' := [(7, .int (nI 0)), (6, .int (nI v_)), (5, .ref t_1), (4, .int (nI nd2)), (3, .ref a9), (2, .int (nI pcn)), (0, .ref b0), (1, .int (nI j))]) hx hb dX6_pick_234 hl (by decide) rfl (fun ls hl => ?_)
                refine W.widen (k := 3 + 16 + (tCols tb * v_ + 0)) (n := 9 + gs 16 + gs (tCols tb * v_ + 0)) (by first | exact Nat.le_refl _ | omega | (dsimp only; omega)) (by first | exact Nat.le_refl _ | (have e9 : gs (tCols tb * v_ + (c_ + 1)) = gs (tCols tb * v_ + c_) + costA (tCols tb * v_ + c_) (cp (tCols tb * v_ + c_)) := gs_S (tCols tb * v_ + c_); dsimp only; omega)) ?_
                refine ct_loopH (σ := Nat × Nat × Int32 × (Nat → Option Nat)) (fun (c_, dv, mdv, fv) H locs ls => lv_has ls 8 [(7, .int (nI c_)), (6, .int (nI v_)), (5, .ref t_1), (4, .int (nI nd2)), (3, .ref a9), (2, .int (nI pcn)), (0, .ref b0), (1, .int (nI j))] ∧ Hs E A s.heap (([(b0, .inr (6, [.ref b1, .int (nI trayed), .int (nI fed), .int place, .ref b2, .ref b3, .int (nI tcn), .int (nI wby), .ref b4, .int (nI 0), .ref b5, .ref b7])), (b3, .inl (E.2.1 4, 41, .inr (.inr (.inr (.inr tabs))))), (b4, .inl (E.2.1 1, 499, .inl pkf)), (t_1, .inr (11, [.ref n_1, .ref c_1, .null]))] ++ alw E c_1 dv (tCols tb * v_ + c_) (cp (tCols tb * v_ + c_)) mdv fv) ++ im_a) H locs ∧ (c_ ≤ tCols tb) ∧ (∀ j, j < tCols tb * v_ + c_ → ∃ y, fv j = some y ∧ cI E im_a y ((pickW (tCols tb) (fun j => pk.getD j 0) (cellW tb)) j))) (fun (c_, dv, mdv, fv) => tCols tb - c_) (fun (c_, dv, mdv, fv) => 3 + 16 + (tCols tb * v_ + c_)) (fun (c_, dv, mdv, fv) => 9 + gs 16 + gs (tCols tb * v_ + c_)) (g := fun (c_, dv, mdv, fv) ls => F0 m 236 ls []) (x0 := (0, dv, mdv, fv)) (ls0 := ls) ?_ ⟨lv_sub hl [0, 1, 2, 3, 4, 5, 6, 7] rfl, h, Nat.zero_le _, hce1⟩
                clear hl h
                intro x9 H locs ls hI ih_5
                obtain ⟨c_, dv, mdv, fv⟩ := x9
                obtain ⟨hl, h, hc_, hce1⟩ := hI
                refine W.eq (g2 := F0 m 236 ls []) rfl ?_
                have hgm2 : tCols tb * v_ + tCols tb ≤ tCols tb * pk.length := by have := Nat.mul_le_mul_left (tCols tb) (show v_ + 1 ≤ pk.length by omega); rw [Nat.mul_succ] at this; exact this
                have hgn2 := gs_le (show tCols tb * v_ + c_ ≤ 16 * pk.length by omega)
                refine lv_iload hx hb dX6_pick_236 (lv_at hl 0 rfl) ?_
                refine lv_aload_n hx hb dX6_pick_238 rfl (lv_at hl 4 rfl) ?_
                refine ct_get (v := .ref n9) B (ct_sel (va_Pp hi_im_a (ct_Pr h.1)) hma) kX11 0 rfl 0 (Nat.le_of_ble_eq_true rfl) q830 rfl dX6_pick_239 ?_
                refine ct_callR (ct_runV (As := []) (rest := [.int (nI c_)]) B (met_J10_size l E n9 en tb.1.length mdn H.size) (lw_V q1154 q847 q848 q66 q849) (n := 0) ⟨by decide, by decide, by decide +kernel⟩ rfl ⟨rfl, rfl, (Nat.le_of_ble_eq_true rfl), (Nat.le_of_ble_eq_true rfl), (by first | omega | (dsimp only; omega)), (by first | omega | (dsimp only; omega))⟩ h.2.2 hA (ct_recv B (ct_sel (va_Pp hi_im_a (ct_Pr h.1)) hmn) kJ10 0 rfl) ((ct_sel (va_Pp hi_im_a (ct_Pr h.1)) hmn).sub [0] rfl) hl.1 (Nat.le_of_ble_eq_true rfl) dX6_pick_242) (fun v hv => ?_)
                subst hv
                refine W.eq (g2 := F0 m 245 ls [.int (nI tb.1.length), .int (nI c_)]) rfl ?_
                refine W.eq (g2 := F0 m 245 ls [.int (nI (tCols tb)), .int (nI c_)]) (by rw [show tb.1.length = tCols tb from rfl] <;> rfl) ?_
                refine n_icmp_ge (tgt := 276) hx hb dX6_pick_245 (by decide) (by omega) (by omega) (fun cend4 => ?_) (fun cend4 => ?_)
                · obtain rfl : c_ = tCols tb := by omega
                  rw [← Nat.mul_succ] at h hce1
                  refine n_iinc (n := 1) (lv' := [(6, .int (nI (v_ + 1))), (7, .int (nI (tCols tb))), (5, .ref t_1), (4, .int (nI nd2)), (3, .ref a9), (2, .int (nI pcn)), (0, .ref b0), (1, .int (nI j))]) hx hb dX6_pick_276 hl (k := 1) rfl rfl (by decide) (by decide) rfl (fun ls hl => ?_)
                  refine lv_goto (tgt := 227) hx hb dX6_pick_279 (by decide) ?_
                  refine W.widen (k := 3 + 16 + tCols tb * (v_ + 1)) (n := 9 + gs 16 + gs (tCols tb * (v_ + 1))) (by first | exact Nat.le_refl _ | omega | (dsimp only; omega) | (rw [Nat.mul_succ]; omega)) (by first | exact Nat.le_refl _ | omega | (dsimp only; omega) | (rw [Nat.mul_succ]; omega) | (dsimp only; rw [Nat.mul_zero, show gs 0 = 0 from rfl]; omega)) ?_
                  exact ih_4 ((v_ + 1), dv, mdv, fv) H locs ls (by dsimp only; omega) ⟨lv_sub hl [0, 2, 3, 4, 5, 6, 7] rfl, h, by omega, fun j hj => hce1 j (by rw [Nat.mul_succ] at hj; omega)⟩
                · refine lv_aload hx hb dX6_pick_248 (lv_at hl 2 rfl) ?_
                  refine ct_get (v := .ref c_1) B h.1 kX11 3 rfl 1 (Nat.le_of_ble_eq_true rfl) q833 rfl dX6_pick_250 ?_
                  refine lv_aload_n hx hb dX6_pick_253 rfl (lv_at hl 4 rfl) ?_
                  refine lv_aload_n hx hb dX6_pick_254 rfl (lv_at hl 6 rfl) ?_
                  refine ct_get (v := .ref b4) B h.1 kX6 0 rfl 8 (Nat.le_of_ble_eq_true rfl) q735 rfl dX6_pick_255 ?_
                  refine lv_iload hx hb dX6_pick_258 (lv_at hl 1 rfl) ?_
                  refine ct_iald (f := pkf) B h.1 2 rfl (by omega) (by omega) dX6_pick_260 ?_
                  refine W.eq (g2 := F0 m 261 ls [.int (nI (pk.getD v_ 0)), .ref a9, .ref c_1]) (by rw [(hpk.2.2.1 v_ (by omega))]) ?_
                  refine lv_iload hx hb dX6_pick_261 (lv_at hl 0 rfl) ?_
                  refine ct_callR (ct_runV (As := [.int (nI (pk.getD v_ 0)), .int (nI c_)]) (rest := [.ref c_1]) B (met_X11_at l E im_a a9 n9 c9 (some l9) tb (pk.getD v_ 0) c_ H.size (htl.mono hi_im_a) hok (hall _ (by omega)) (by omega)) (lw_V q1163 q1164 q1165 q63 q1166) (n := 2) ⟨by decide, by decide, by decide +kernel⟩ rfl ⟨rfl, rfl, (Nat.le_of_ble_eq_true rfl), (Nat.le_of_ble_eq_true rfl), (by first | omega | (dsimp only; omega)), (by first | omega | (dsimp only; omega))⟩ h.2.2 hA (ct_recv B (ct_sel (va_Pp hi_im_a (ct_Pr h.1)) hma) kX11 0 rfl) ⟨((ct_sel (va_Pp hi_im_a (ct_Pr h.1)) hma).sub [0] rfl), (ct_Pr h.1)⟩ hl.1 (Nat.le_of_ble_eq_true rfl) dX6_pick_263) (fun v hv => ?_)
                  obtain ⟨x9, rfl, hcx9⟩ := hv
                  refine W.eq (g2 := F0 m 266 ls [.ref x9, .ref c_1]) rfl ?_
                  have hcpv := cp_b (tCols tb * v_ + c_)
                  have hgS := gs_S (tCols tb * v_ + c_)
                  have hgn1 := gs_le (show tCols tb * v_ + c_ + 1 ≤ 16 * pk.length by omega)
                  have hcA := cellA_le (tCols tb * v_ + c_) (cp (tCols tb * v_ + c_))
                  have h : Hs E A s.heap ([(b0, .inr (6, [.ref b1, .int (nI trayed), .int (nI fed), .int place, .ref b2, .ref b3, .int (nI tcn), .int (nI wby), .ref b4, .int (nI 0), .ref b5, .ref b7])), (b3, .inl (E.2.1 4, 41, .inr (.inr (.inr (.inr tabs))))), (b4, .inl (E.2.1 1, 499, .inl pkf)), (t_1, .inr (11, [.ref n_1, .ref c_1, .null]))] ++ (([] ++ alw E c_1 dv (tCols tb * v_ + c_) (cp (tCols tb * v_ + c_)) mdv fv) ++ im_a)) H locs := h
                  refine ct_callQ (ct_runV (As := [.ref x9]) (rest := []) B (met_J10_addA l E im_a c_1 dv (tCols tb * v_ + c_) (cp (tCols tb * v_ + c_)) mdv fv x9 H.size ⟨hcpv.1, by omega⟩ (fun i9 h9 y9 e9 => by obtain ⟨s9, z1, z2⟩ := hce1 i9 h9; cases z1.symm.trans e9; exact z2.o) hcx9.o) (lw_V q1307 q1059 q1060 q66 q1061) (n := 1) ⟨by decide, by decide, by decide +kernel⟩ rfl ⟨rfl, rfl, (Nat.le_of_ble_eq_true rfl), (Nat.le_of_ble_eq_true rfl), (by first | omega | (dsimp only; omega)), (by first | omega | (dsimp only; omega))⟩ h.2.2 hA (ct_recv B (alw_o (ct_Pl (ct_Pr h.1))) kJ10 0 rfl) ⟨(ct_Pr h.1), (ct_Dr (ct_D0 h hA))⟩ hl.1 (Nat.le_of_ble_eq_true rfl) dX6_pick_266) h.2.2 (ct_subR h hAn) (ct_subR h hAn) (fun v H locs hv hz hk hS => ?_)
                  obtain ⟨d_a, f_a, rfl, hP1, hD1, hfo, hfx⟩ := hv
                  have h : Hs E A s.heap ([(b0, .inr (6, [.ref b1, .int (nI trayed), .int (nI fed), .int place, .ref b2, .ref b3, .int (nI tcn), .int (nI wby), .ref b4, .int (nI 0), .ref b5, .ref b7])), (b3, .inl (E.2.1 4, 41, .inr (.inr (.inr (.inr tabs))))), (b4, .inl (E.2.1 1, 499, .inl pkf)), (t_1, .inr (11, [.ref n_1, .ref c_1, .null]))] ++ (([] ++ alw E c_1 d_a ((tCols tb * v_ + c_) + 1) (capA (tCols tb * v_ + c_) (cp (tCols tb * v_ + c_))) (mdv + nI 1) f_a) ++ im_a)) H locs := ct_frR h hP1 hD1 hk hS hAn
                  have h : Hs E A s.heap (([(b0, .inr (6, [.ref b1, .int (nI trayed), .int (nI fed), .int place, .ref b2, .ref b3, .int (nI tcn), .int (nI wby), .ref b4, .int (nI 0), .ref b5, .ref b7])), (b3, .inl (E.2.1 4, 41, .inr (.inr (.inr (.inr tabs))))), (b4, .inl (E.2.1 1, 499, .inl pkf)), (t_1, .inr (11, [.ref n_1, .ref c_1, .null]))] ++ alw E c_1 d_a ((tCols tb * v_ + c_) + 1) (capA (tCols tb * v_ + c_) (cp (tCols tb * v_ + c_))) (mdv + nI 1) f_a) ++ im_a) H locs := h
                  clear hP1 hD1 hS hz hk
                  refine W.eq (g2 := F0 m 269 ls [.int (nI 1)]) rfl ?_
                  refine lv_pop hx hb dX6_pick_269 rfl ?_
                  refine n_iinc (n := 1) (lv' := [(7, .int (nI (c_ + 1))), (6, .int (nI v_)), (5, .ref t_1), (4, .int (nI nd2)), (3, .ref a9), (2, .int (nI pcn)), (0, .ref b0), (1, .int (nI j))]) hx hb dX6_pick_270 hl (k := 0) rfl rfl (by decide) (by decide) rfl (fun ls hl => ?_)
                  refine lv_goto (tgt := 236) hx hb dX6_pick_273 (by decide) ?_
                  refine W.widen (k := 3 + 16 + (tCols tb * v_ + (c_ + 1))) (n := 9 + gs 16 + gs (tCols tb * v_ + (c_ + 1))) (by first | exact Nat.le_refl _ | omega | (dsimp only; omega)) (by first | exact Nat.le_refl _ | (have e9 : gs (tCols tb * v_ + (c_ + 1)) = gs (tCols tb * v_ + c_) + costA (tCols tb * v_ + c_) (cp (tCols tb * v_ + c_)) := gs_S (tCols tb * v_ + c_); dsimp only; omega)) ?_
                  exact ih_5 ((c_ + 1), d_a, (mdv + nI 1), f_a) H locs ls (by dsimp only; omega) ⟨lv_sub hl [0, 1, 2, 3, 4, 5, 6, 7] rfl, h, by omega, fun j hj => by by_cases q9 : j = tCols tb * v_ + c_; exact ⟨x9, by rw [q9]; exact hfx, by rw [q9, pick_at (show c_ < tCols tb by omega)]; exact hcx9⟩; obtain ⟨y9, z1, z2⟩ := hce1 j (by omega); exact ⟨y9, by rw [hfo j (by omega)]; exact z1, z2⟩⟩
            · obtain ⟨s_c, hfs, hss⟩ := hnm u_ (by omega)
              refine lv_aload hx hb dX6_pick_197 (lv_at hl 1 rfl) ?_
              refine ct_get (v := .ref n_1) B h.1 kX11 3 rfl 0 (Nat.le_of_ble_eq_true rfl) q830 rfl dX6_pick_199 ?_
              refine lv_aload_n hx hb dX6_pick_202 rfl (lv_at hl 3 rfl) ?_
              refine ct_get (v := .ref n9) B (ct_sel (ct_Pr h.1) hma) kX11 0 rfl 0 (Nat.le_of_ble_eq_true rfl) q830 rfl dX6_pick_203 ?_
              refine lv_iload hx hb dX6_pick_206 (lv_at hl 0 rfl) ?_
              refine ct_callR (ct_runV (As := [.int (nI u_)]) (rest := [.ref n_1]) B (met_J10_get l E n9 d1 tb.1.length cap1 md1 fn u_ H.size (by omega) ⟨hcap, hcap2⟩) (lw_V q1215 q1038 q1039 q66 q1040) (n := 1) ⟨by decide, by decide, by decide +kernel⟩ rfl ⟨rfl, rfl, (Nat.le_of_ble_eq_true rfl), (Nat.le_of_ble_eq_true rfl), (by first | omega | (dsimp only; omega)), (by first | omega | (dsimp only; omega))⟩ h.2.2 hA (ct_recv B (ct_sel (ct_Pr h.1) hm1) kJ10 0 rfl) ((ct_sel (ct_Pr h.1) hm1).sub [0, 1] rfl) hl.1 (Nat.le_of_ble_eq_true rfl) dX6_pick_208) (fun v hv => ?_)
              subst hv
              refine W.eq (g2 := F0 m 211 ls [va_rf (fn u_), .ref n_1]) rfl ?_
              refine W.eq (g2 := F0 m 211 ls [.ref s_c, .ref n_1]) (by rw [hfs] <;> rfl) ?_
              refine va_castE hx hb B.2.2.1 (B.2.2.2.1 _ q1216) (ct_Srecv B (hss.S (ct_Pr h.1))) dX6_pick_211 ?_
              have hcpu := cp_b u_
              have hgS := gs_S u_
              have hgn1 := gs_le (show u_ + 1 ≤ 16 by omega)
              have hcA := cellA_le u_ (cp u_)
              have h : Hs E A s.heap ([(b0, .inr (6, [.ref b1, .int (nI trayed), .int (nI fed), .int place, .ref b2, .ref b3, .int (nI tcn), .int (nI wby), .ref b4, .int (nI 0), .ref b5, .ref b7])), (b3, .inl (E.2.1 4, 41, .inr (.inr (.inr (.inr tabs))))), (b4, .inl (E.2.1 1, 499, .inl pkf)), (t_1, .inr (11, [.ref n_1, .ref c_1, .null])), (c_1, .inr (14, [.int 0, .ref (E.2.2.2 3), .int (nI 0)]))] ++ (([] ++ alw E n_1 du u_ (cp u_) mdu fu) ++ im)) H locs := h
              refine ct_callQ (ct_runV (As := [.ref s_c]) (rest := []) B (met_J10_addA l E im n_1 du u_ (cp u_) mdu fu s_c H.size ⟨hcpu.1, by omega⟩ (fun i9 h9 y9 e9 => by obtain ⟨s9, z1, z2⟩ := hnm i9 (by omega); rw [hfu i9 h9, z1] at e9; cases e9; exact z2.o) hss.o) (lw_V q1307 q1059 q1060 q66 q1061) (n := 1) ⟨by decide, by decide, by decide +kernel⟩ rfl ⟨rfl, rfl, (Nat.le_of_ble_eq_true rfl), (Nat.le_of_ble_eq_true rfl), (by first | omega | (dsimp only; omega)), (by first | omega | (dsimp only; omega))⟩ h.2.2 hA (ct_recv B (alw_o (ct_Pl (ct_Pr h.1))) kJ10 0 rfl) ⟨(ct_Pr h.1), (ct_Dr (ct_D0 h hA))⟩ hl.1 (Nat.le_of_ble_eq_true rfl) dX6_pick_214) h.2.2 (ct_subR h hAn) (ct_subR h hAn) (fun v H locs hv hz hk hS => ?_)
              obtain ⟨d_a, f_a, rfl, hP1, hD1, hfo, hfx⟩ := hv
              have h : Hs E A s.heap ([(b0, .inr (6, [.ref b1, .int (nI trayed), .int (nI fed), .int place, .ref b2, .ref b3, .int (nI tcn), .int (nI wby), .ref b4, .int (nI 0), .ref b5, .ref b7])), (b3, .inl (E.2.1 4, 41, .inr (.inr (.inr (.inr tabs))))), (b4, .inl (E.2.1 1, 499, .inl pkf)), (t_1, .inr (11, [.ref n_1, .ref c_1, .null])), (c_1, .inr (14, [.int 0, .ref (E.2.2.2 3), .int (nI 0)]))] ++ (([] ++ alw E n_1 d_a (u_ + 1) (capA u_ (cp u_)) (mdu + nI 1) f_a) ++ im)) H locs := ct_frR h hP1 hD1 hk hS hAn
              have h : Hs E A s.heap (([(b0, .inr (6, [.ref b1, .int (nI trayed), .int (nI fed), .int place, .ref b2, .ref b3, .int (nI tcn), .int (nI wby), .ref b4, .int (nI 0), .ref b5, .ref b7])), (b3, .inl (E.2.1 4, 41, .inr (.inr (.inr (.inr tabs))))), (b4, .inl (E.2.1 1, 499, .inl pkf)), (t_1, .inr (11, [.ref n_1, .ref c_1, .null])), (c_1, .inr (14, [.int 0, .ref (E.2.2.2 3), .int (nI 0)]))] ++ alw E n_1 d_a (u_ + 1) (capA u_ (cp u_)) (mdu + nI 1) f_a) ++ im) H locs := h
              clear hP1 hD1 hS hz hk
              refine W.eq (g2 := F0 m 217 ls [.int (nI 1)]) rfl ?_
              refine lv_pop hx hb dX6_pick_217 rfl ?_
              refine n_iinc (n := 1) (lv' := [(6, .int (nI (u_ + 1))), (5, .ref t_1), (4, .int (nI nd2)), (3, .ref a9), (2, .int (nI pcn)), (0, .ref b0), (1, .int (nI j))]) hx hb dX6_pick_218 hl (k := 0) rfl rfl (by decide) (by decide) rfl (fun ls hl => ?_)
              refine lv_goto (tgt := 185) hx hb dX6_pick_221 (by decide) ?_
              refine W.widen (k := 3 + (u_ + 1)) (n := 9 + gs (u_ + 1)) (by first | (have := cellA_le u_ (cp u_); dsimp only; omega) | omega | (dsimp only; omega)) (by first | (have := gs_S u_; dsimp only; omega) | omega | (dsimp only; rw [show gs 0 = 0 from rfl]; omega)) ?_
              exact ih_3 ((u_ + 1), d_a, (mdu + nI 1), f_a) H locs ls (by dsimp only; omega) ⟨lv_sub hl [0, 1, 2, 3, 4, 5, 6] rfl, h, by omega, fun j hj => by by_cases q9 : j = u_; rw [q9, hfx, hfs]; rw [hfo j (by omega)]; exact hfu j (by omega)⟩
          · refine lv_bipush (v := (-12)) hx hb dX6_pick_170 (by decide) ?_
            have h : Hs E A s.heap ([(b0, .inr (6, [.ref b1, .int (nI trayed), .int (nI fed), .int place, .ref b2, .ref b3, .int (nI tcn), .int (nI wby), .ref b4, .int (nI 0), .ref b5, .ref b7])), (b3, .inl (E.2.1 4, 41, .inr (.inr (.inr (.inr tabs))))), (b4, .inl (E.2.1 1, 499, .inl pkf))] ++ im) H locs := h
            refine W.widen (k := 30 + 16 * pk.length) (n := 40 + gs 16 + gs (16 * pk.length)) (by first | omega | (dsimp only; omega)) (by first | omega | (dsimp only; omega)) ?_
            exact ct_iret (ty := .int) (v := (-12)) B rfl rfl h.2.2 ⟨(-12), tcn, wby, tabs, ts, im, rfl, h.1, h.2.1, by rw [pickS, htb]; dsimp only; rw [if_neg hnb, if_pos (Or.inr (by rw [← hmt.2.2.1, hptot]; omega))], hmt, fun y hy => hy⟩ dX6_pick_172
      · refine lv_aload_n hx hb dX6_pick_81 rfl (lv_at hl 4 rfl) ?_
        refine ct_get (v := .ref b4) B h.1 kX6 0 rfl 8 (Nat.le_of_ble_eq_true rfl) q735 rfl dX6_pick_82 ?_
        refine lv_iload hx hb dX6_pick_85 (lv_at hl 0 rfl) ?_
        refine ct_iald (f := pkf) B h.1 2 rfl (by omega) (by omega) dX6_pick_87 ?_
        refine W.eq (g2 := F0 m 88 ls [.int (nI (pk.getD r_ 0))]) (by rw [(hpk.2.2.1 r_ (by omega))]) ?_
        refine lv_aload_n hx hb dX6_pick_88 rfl (lv_at hl 2 rfl) ?_
        refine ct_callR (ct_runV (As := []) (rest := [.int (nI (pk.getD r_ 0))]) B (met_X11_rows l E im a9 n9 c9 (some l9) tb H.size htl hok) (lw_V q1158 q1159 q1160 q63 q1161) (n := 0) ⟨by decide, by decide, by decide +kernel⟩ rfl ⟨rfl, rfl, (Nat.le_of_ble_eq_true rfl), (Nat.le_of_ble_eq_true rfl), (by first | omega | (dsimp only; omega)), (by first | omega | (dsimp only; omega))⟩ h.2.2 hA (ct_recv B (ct_sel (ct_Pr h.1) hma) kX11 0 rfl) ⟨((ct_sel (ct_Pr h.1) hma).sub [0] rfl), (ct_Pr h.1)⟩ hl.1 (Nat.le_of_ble_eq_true rfl) dX6_pick_89) (fun v hv => ?_)
        subst hv
        refine W.eq (g2 := F0 m 92 ls [.int (nI (tRows tb)), .int (nI (pk.getD r_ 0))]) rfl ?_
        refine n_icmp_lt (tgt := 98) hx hb dX6_pick_92 (by decide) (by have := hpk.2.2.2 _ (gD_mem (show r_ < pk.length by omega)); omega) (by omega) (fun clt => ?_) (fun clt => ?_)
        · refine lv_iconst (v := nI 0) hx hb dX6_pick_98 (by decide) ?_
          refine lv_istore (lv' := [(6, .int (nI 0)), (5, .int (nI r_)), (4, .int (nI nd2)), (3, .ref a9), (2, .int (nI pcn)), (0, .ref b0), (1, .int (nI j))]) hx hb dX6_pick_99 hl (by decide) rfl (fun ls hl => ?_)
          refine ct_loop (σ := Nat × Nat) (fun (c_, nd3) ls => lv_has ls 8 [(6, .int (nI c_)), (5, .int (nI r_)), (4, .int (nI nd3)), (3, .ref a9), (2, .int (nI pcn)), (0, .ref b0), (1, .int (nI j))] ∧ (c_ ≤ tCols tb) ∧ (nd3 = sumN (lenW (nameW tb)) (tCols tb) + sumN (lenW (pickW (tCols tb) (fun j => pk.getD j 0) (cellW tb))) (tCols tb * r_ + c_))) (fun (c_, nd3) => tCols tb - c_) (g := fun (c_, nd3) ls => F0 m 101 ls []) (x0 := (0, nd2)) (ls0 := ls) ?_ ⟨lv_sub hl [0, 1, 2, 3, 4, 5, 6] rfl, Nat.zero_le _, hnd2⟩
          clear hl
          intro x9 ls hI ih_6
          obtain ⟨c_, nd3⟩ := x9
          obtain ⟨hl, hc_, hnd3⟩ := hI
          refine W.eq (g2 := F0 m 101 ls []) rfl ?_
          refine lv_iload hx hb dX6_pick_101 (lv_at hl 0 rfl) ?_
          refine lv_aload_n hx hb dX6_pick_103 rfl (lv_at hl 3 rfl) ?_
          refine ct_get (v := .ref n9) B (ct_sel (ct_Pr h.1) hma) kX11 0 rfl 0 (Nat.le_of_ble_eq_true rfl) q830 rfl dX6_pick_104 ?_
          refine ct_callR (ct_runV (As := []) (rest := [.int (nI c_)]) B (met_J10_size l E n9 en tb.1.length mdn H.size) (lw_V q1154 q847 q848 q66 q849) (n := 0) ⟨by decide, by decide, by decide +kernel⟩ rfl ⟨rfl, rfl, (Nat.le_of_ble_eq_true rfl), (Nat.le_of_ble_eq_true rfl), (by first | omega | (dsimp only; omega)), (by first | omega | (dsimp only; omega))⟩ h.2.2 hA (ct_recv B (ct_sel (ct_Pr h.1) hmn) kJ10 0 rfl) ((ct_sel (ct_Pr h.1) hmn).sub [0] rfl) hl.1 (Nat.le_of_ble_eq_true rfl) dX6_pick_107) (fun v hv => ?_)
          subst hv
          refine W.eq (g2 := F0 m 110 ls [.int (nI tb.1.length), .int (nI c_)]) rfl ?_
          refine W.eq (g2 := F0 m 110 ls [.int (nI (tCols tb)), .int (nI c_)]) (by rw [show tb.1.length = tCols tb from rfl] <;> rfl) ?_
          refine n_icmp_ge (tgt := 143) hx hb dX6_pick_110 (by decide) (by omega) (by omega) (fun cend2 => ?_) (fun cend2 => ?_)
          · refine n_iinc (n := 1) (lv' := [(5, .int (nI (r_ + 1))), (6, .int (nI c_)), (4, .int (nI nd3)), (3, .ref a9), (2, .int (nI pcn)), (0, .ref b0), (1, .int (nI j))]) hx hb dX6_pick_143 hl (k := 1) rfl rfl (by decide) (by decide) rfl (fun ls hl => ?_)
            refine lv_goto (tgt := 75) hx hb dX6_pick_146 (by decide) ?_
            exact ih_2 ((r_ + 1), nd3) ls (by dsimp only; omega) ⟨lv_sub hl [0, 2, 3, 4, 5, 6] rfl, by omega, fun j hj => by rcases Nat.lt_succ_iff_lt_or_eq.mp hj with q9 | q9; exact hall j q9; rw [q9]; exact clt, by rw [hnd3, Nat.mul_succ, show c_ = tCols tb by omega]⟩
          · refine lv_iload hx hb dX6_pick_113 (lv_at hl 2 rfl) ?_
            refine lv_aload_n hx hb dX6_pick_115 rfl (lv_at hl 3 rfl) ?_
            refine lv_aload_n hx hb dX6_pick_116 rfl (lv_at hl 5 rfl) ?_
            refine ct_get (v := .ref b4) B h.1 kX6 0 rfl 8 (Nat.le_of_ble_eq_true rfl) q735 rfl dX6_pick_117 ?_
            refine lv_iload hx hb dX6_pick_120 (lv_at hl 1 rfl) ?_
            refine ct_iald (f := pkf) B h.1 2 rfl (by omega) (by omega) dX6_pick_122 ?_
            refine W.eq (g2 := F0 m 123 ls [.int (nI (pk.getD r_ 0)), .ref a9, .int (nI nd3)]) (by rw [(hpk.2.2.1 r_ (by omega))]) ?_
            refine lv_iload hx hb dX6_pick_123 (lv_at hl 0 rfl) ?_
            refine ct_callR (ct_runV (As := [.int (nI (pk.getD r_ 0)), .int (nI c_)]) (rest := [.int (nI nd3)]) B (met_X11_at l E im a9 n9 c9 (some l9) tb (pk.getD r_ 0) c_ H.size htl hok clt (by omega)) (lw_V q1163 q1164 q1165 q63 q1166) (n := 2) ⟨by decide, by decide, by decide +kernel⟩ rfl ⟨rfl, rfl, (Nat.le_of_ble_eq_true rfl), (Nat.le_of_ble_eq_true rfl), (by first | omega | (dsimp only; omega)), (by first | omega | (dsimp only; omega))⟩ h.2.2 hA (ct_recv B (ct_sel (ct_Pr h.1) hma) kX11 0 rfl) ⟨((ct_sel (ct_Pr h.1) hma).sub [0] rfl), (ct_Pr h.1)⟩ hl.1 (Nat.le_of_ble_eq_true rfl) dX6_pick_125) (fun v hv => ?_)
            obtain ⟨x9, rfl, s9, hx9, hs9⟩ := hv
            refine W.eq (g2 := F0 m 128 ls [.ref x9, .int (nI nd3)]) rfl ?_
            refine ct_get (v := .ref s9) B (ct_sel (ct_Pr h.1) (by intro z9 h9; rw [List.mem_singleton.mp h9]; exact hx9)) kX12 0 rfl 0 (Nat.le_of_ble_eq_true rfl) q1118 rfl dX6_pick_128 ?_
            refine ct_callR (ct_runV (As := []) (rest := [.int (nI nd3)]) B (met_J4_length l E  _ s9 ((cellW tb (tCols tb * pk.getD r_ 0 + c_)).1) H.size) (lw_V q1189 q466 q467 q58 q468) (n := 0) ⟨by decide, by decide, by decide +kernel⟩ rfl ⟨rfl, rfl, (Nat.le_of_ble_eq_true rfl), (Nat.le_of_ble_eq_true rfl), (by first | omega | (dsimp only; omega)), (by first | omega | (dsimp only; omega))⟩ h.2.2 hA (ct_Srecv B (hs9.S (ct_Pr h.1))) (hs9.S (ct_Pr h.1)) hl.1 (Nat.le_of_ble_eq_true rfl) dX6_pick_131) (fun v hv => ?_)
            subst hv
            refine W.eq (g2 := F0 m 134 ls [.int (nI (((cellW tb (tCols tb * pk.getD r_ 0 + c_)).1).length)), .int (nI nd3)]) rfl ?_
            refine n_iadd hx hb dX6_pick_134 ?_
            refine lv_istore (lv' := [(4, .int (nI (nd3 + (((cellW tb (tCols tb * pk.getD r_ 0 + c_)).1).length)))), (6, .int (nI c_)), (5, .int (nI r_)), (3, .ref a9), (2, .int (nI pcn)), (0, .ref b0), (1, .int (nI j))]) hx hb dX6_pick_135 hl (by decide) rfl (fun ls hl => ?_)
            refine n_iinc (n := 1) (lv' := [(6, .int (nI (c_ + 1))), (4, .int (nI (nd3 + (((cellW tb (tCols tb * pk.getD r_ 0 + c_)).1).length)))), (5, .int (nI r_)), (3, .ref a9), (2, .int (nI pcn)), (0, .ref b0), (1, .int (nI j))]) hx hb dX6_pick_137 hl (k := 1) rfl rfl (by decide) (by decide) rfl (fun ls hl => ?_)
            refine lv_goto (tgt := 101) hx hb dX6_pick_140 (by decide) ?_
            exact ih_6 ((c_ + 1), (nd3 + (((cellW tb (tCols tb * pk.getD r_ 0 + c_)).1).length))) ls (by dsimp only; omega) ⟨lv_sub hl [0, 2, 1, 3, 4, 5, 6] rfl, by omega, by rw [show tCols tb * r_ + (c_ + 1) = (tCols tb * r_ + c_) + 1 from (Nat.add_assoc _ _ _).symm, sumN_S, show lenW (pickW (tCols tb) (fun j => pk.getD j 0) (cellW tb)) (tCols tb * r_ + c_) = (cellW tb (tCols tb * pk.getD r_ 0 + c_)).1.length from by unfold lenW; rw [pick_at (show c_ < tCols tb by omega)]]; omega⟩
        · refine lv_bipush (v := (-2)) hx hb dX6_pick_95 (by decide) ?_
          have h : Hs E A s.heap ([(b0, .inr (6, [.ref b1, .int (nI trayed), .int (nI fed), .int place, .ref b2, .ref b3, .int (nI tcn), .int (nI wby), .ref b4, .int (nI 0), .ref b5, .ref b7])), (b3, .inl (E.2.1 4, 41, .inr (.inr (.inr (.inr tabs))))), (b4, .inl (E.2.1 1, 499, .inl pkf))] ++ im) H locs := h
          refine W.widen (k := 30 + 16 * pk.length) (n := 40 + gs 16 + gs (16 * pk.length)) (by first | omega | (dsimp only; omega)) (by first | omega | (dsimp only; omega)) ?_
          exact ct_iret (ty := .int) (v := (-2)) B rfl rfl h.2.2 ⟨(-2), tcn, wby, tabs, ts, im, rfl, h.1, h.2.1, by rw [pickS, htb]; dsimp only; rw [if_pos (isBig (show r_ < pk.length by omega) (by omega))], hmt, fun y hy => hy⟩ dX6_pick_97
    · obtain ⟨s_c, hfs, hss⟩ := hnm k (by omega)
      have hs8 := (hss.S (ct_Pr h.1)).small
      refine lv_iload hx hb dX6_pick_46 (lv_at hl 1 rfl) ?_
      refine lv_aload_n hx hb dX6_pick_48 rfl (lv_at hl 2 rfl) ?_
      refine ct_get (v := .ref n9) B (ct_sel (ct_Pr h.1) hma) kX11 0 rfl 0 (Nat.le_of_ble_eq_true rfl) q830 rfl dX6_pick_49 ?_
      refine lv_iload hx hb dX6_pick_52 (lv_at hl 0 rfl) ?_
      refine ct_callR (ct_runV (As := [.int (nI k)]) (rest := [.int (nI nd)]) B (met_J10_get l E n9 d1 tb.1.length cap1 md1 fn k H.size (by omega) ⟨hcap, hcap2⟩) (lw_V q1215 q1038 q1039 q66 q1040) (n := 1) ⟨by decide, by decide, by decide +kernel⟩ rfl ⟨rfl, rfl, (Nat.le_of_ble_eq_true rfl), (Nat.le_of_ble_eq_true rfl), (by first | omega | (dsimp only; omega)), (by first | omega | (dsimp only; omega))⟩ h.2.2 hA (ct_recv B (ct_sel (ct_Pr h.1) hm1) kJ10 0 rfl) ((ct_sel (ct_Pr h.1) hm1).sub [0, 1] rfl) hl.1 (Nat.le_of_ble_eq_true rfl) dX6_pick_54) (fun v hv => ?_)
      subst hv
      refine W.eq (g2 := F0 m 57 ls [va_rf (fn k), .int (nI nd)]) rfl ?_
      refine W.eq (g2 := F0 m 57 ls [.ref s_c, .int (nI nd)]) (by rw [hfs] <;> rfl) ?_
      refine va_castE hx hb B.2.2.1 (B.2.2.2.1 _ q1216) (ct_Srecv B (hss.S (ct_Pr h.1))) dX6_pick_57 ?_
      refine ct_callR (ct_runV (As := []) (rest := [.int (nI nd)]) B (met_J4_length l E  _ s_c ((nameW tb k).1) H.size) (lw_V q1189 q466 q467 q58 q468) (n := 0) ⟨by decide, by decide, by decide +kernel⟩ rfl ⟨rfl, rfl, (Nat.le_of_ble_eq_true rfl), (Nat.le_of_ble_eq_true rfl), (by first | omega | (dsimp only; omega)), (by first | omega | (dsimp only; omega))⟩ h.2.2 hA (ct_Srecv B (hss.S (ct_Pr h.1))) (hss.S (ct_Pr h.1)) hl.1 (Nat.le_of_ble_eq_true rfl) dX6_pick_60) (fun v hv => ?_)
      subst hv
      refine W.eq (g2 := F0 m 63 ls [.int (nI (((nameW tb k).1).length)), .int (nI nd)]) rfl ?_
      refine n_iadd hx hb dX6_pick_63 ?_
      refine lv_istore (lv' := [(4, .int (nI (nd + (((nameW tb k).1).length)))), (5, .int (nI k)), (3, .ref a9), (2, .int (nI pcn)), (0, .ref b0), (1, .int (nI j))]) hx hb dX6_pick_64 hl (by decide) rfl (fun ls hl => ?_)
      refine n_iinc (n := 1) (lv' := [(5, .int (nI (k + 1))), (4, .int (nI (nd + (((nameW tb k).1).length)))), (3, .ref a9), (2, .int (nI pcn)), (0, .ref b0), (1, .int (nI j))]) hx hb dX6_pick_66 hl (k := 1) rfl rfl (by decide) (by decide) rfl (fun ls hl => ?_)
      refine lv_goto (tgt := 34) hx hb dX6_pick_69 (by decide) ?_
      exact ih_1 ((k + 1), (nd + (((nameW tb k).1).length))) ls (by dsimp only; omega) ⟨lv_sub hl [0, 1, 2, 3, 4, 5] rfl, by omega, by rw [sumN_S, show lenW (nameW tb) k = (nameW tb k).1.length from rfl]; omega⟩
  · refine lv_bipush (v := (-14)) hx hb dX6_pick_18 (by decide) ?_
    have h : Hs E A s.heap ([(b0, .inr (6, [.ref b1, .int (nI trayed), .int (nI fed), .int place, .ref b2, .ref b3, .int (nI tcn), .int (nI wby), .ref b4, .int (nI 0), .ref b5, .ref b7])), (b3, .inl (E.2.1 4, 41, .inr (.inr (.inr (.inr tabs))))), (b4, .inl (E.2.1 1, 499, .inl pkf))] ++ im) H locs := h
    refine W.widen (k := 30 + 16 * pk.length) (n := 40 + gs 16 + gs (16 * pk.length)) (by first | omega | (dsimp only; omega)) (by first | omega | (dsimp only; omega)) ?_
    exact ct_iret (ty := .int) (v := (-14)) B rfl rfl h.2.2 ⟨(-14), tcn, wby, tabs, ts, im, rfl, h.1, h.2.1, by rw [pickS, isSome_none ct], hmt, fun y hy => hy⟩ dX6_pick_20
