theorem mT_add {E : CE} {im : va_W} {tcn wby by9 t9 : Nat} {tabs : Nat → Option Nat} {ts : List Tab} {tb : Tab} (h : mTabs E im tcn tabs wby ts) (hc : tcn < 40) (hby : by9 = tot tb.1 + tot tb.2) (hw : wby + by9 ≤ 65536) (ht : tI E im t9 tb) : mTabs E im (tcn + 1) (va_up tabs (tcn + 1) (some t9)) (wby + by9) (ts ++ [tb]) := by
  obtain ⟨h1, h2, h3, h4, h5⟩ := h
  refine ⟨by rw [List.length_append, h1]; rfl, by omega, by rw [totT_snoc, h3, hby], hw, fun i hi => ?_⟩
  by_cases e : i = tcn
  · refine ⟨t9, by rw [e]; exact up_s, ?_⟩
    rw [e, h1, gD_r (Nat.le_refl _), Nat.sub_self]
    exact ht
  · obtain ⟨a, e1, e2⟩ := h5 i (by omega)
    exact ⟨a, by rw [up_n (by omega)]; exact e1, by rw [gD_l (by omega)]; exact e2⟩
set_option maxHeartbeats 4000000 in
set_option maxRecDepth 100000 in
theorem met_X6_tabled (l : Launch) (E : CE) (b0 b1 b2 b3 b4 b5 b7 trayed fed : Nat) (place : Int32) (tcn wby pcn : Nat) (tabs : Nat → Option Nat) (ts : List Tab) (t9 n9 c9 by9 : Nat) (tb : Tab) (im : va_W) (sz : Nat) (hmt : mTabs E im tcn tabs wby ts) (hT : tL E im n9 c9 tb) (hok : tabOK tb) (hby : by9 = tot tb.1 + tot tb.2) (hbs : by9 ≤ 1000000) : Met l yX6_tabled (ws_ yX6_tabled cX6_tabled 4 (some .int)) { frames := 8, cells := 1, slots := 16, locals := 184 } (ctP E [.ref b0, .ref t9, .int (nI by9)] sz (fun H => va_P E.1 ct_cl ([(b0, .inr (6, [.ref b1, .int (nI trayed), .int (nI fed), .int place, .ref b2, .ref b3, .int (nI tcn), .int (nI wby), .ref b4, .int (nI pcn), .ref b5, .ref b7])), (b3, .inl (E.2.1 4, 41, .inr (.inr (.inr (.inr tabs))))), (t9, .inr (11, [.ref n9, .ref c9, .null]))] ++ im) H ∧ va_D (fun q => E.2.2.1 ≤ q) ([(b0, .inr (6, [.ref b1, .int (nI trayed), .int (nI fed), .int place, .ref b2, .ref b3, .int (nI tcn), .int (nI wby), .ref b4, .int (nI pcn), .ref b5, .ref b7])), (b3, .inl (E.2.1 4, 41, .inr (.inr (.inr (.inr tabs))))), (t9, .inr (11, [.ref n9, .ref c9, .null]))] ++ im))) (ctQ (fun v H => ∃ r2 : Int32, ∃ tc2 : Nat, ∃ wb2 : Nat, ∃ tabs2 : Nat → Option Nat, ∃ ts2 : List Tab, ∃ im2 : va_W, v = some (.int r2) ∧ va_P E.1 ct_cl ([(b0, .inr (6, [.ref b1, .int (nI trayed), .int (nI fed), .int place, .ref b2, .ref b3, .int (nI tc2), .int (nI wb2), .ref b4, .int (nI pcn), .ref b5, .ref b7])), (b3, .inl (E.2.1 4, 41, .inr (.inr (.inr (.inr tabs2)))))] ++ im2) H ∧ va_D (va_A ([(b0, .inr (6, [.ref b1, .int (nI trayed), .int (nI fed), .int place, .ref b2, .ref b3, .int (nI tcn), .int (nI wby), .ref b4, .int (nI pcn), .ref b5, .ref b7])), (b3, .inl (E.2.1 4, 41, .inr (.inr (.inr (.inr tabs))))), (t9, .inr (11, [.ref n9, .ref c9, .null]))] ++ im) sz) ([(b0, .inr (6, [.ref b1, .int (nI trayed), .int (nI fed), .int place, .ref b2, .ref b3, .int (nI tc2), .int (nI wb2), .ref b4, .int (nI pcn), .ref b5, .ref b7])), (b3, .inl (E.2.1 4, 41, .inr (.inr (.inr (.inr tabs2)))))] ++ im2) ∧ ((fullS ts tb ∧ r2 = -12 ∧ ts2 = ts) ∨ (¬ fullS ts tb ∧ r2 = nI (ts.length + 1) ∧ ts2 = ts ++ [tb])) ∧ (mTabs E im2 tc2 tabs2 wb2 ts2) ∧ (∀ y ∈ im, y ∈ im2)) (va_A ([(b0, .inr (6, [.ref b1, .int (nI trayed), .int (nI fed), .int place, .ref b2, .ref b3, .int (nI tcn), .int (nI wby), .ref b4, .int (nI pcn), .ref b5, .ref b7])), (b3, .inl (E.2.1 4, 41, .inr (.inr (.inr (.inr tabs))))), (t9, .inr (11, [.ref n9, .ref c9, .null]))] ++ im) sz)) 1 16 (va_A ([(b0, .inr (6, [.ref b1, .int (nI trayed), .int (nI fed), .int place, .ref b2, .ref b3, .int (nI tcn), .int (nI wby), .ref b4, .int (nI pcn), .ref b5, .ref b7])), (b3, .inl (E.2.1 4, 41, .inr (.inr (.inr (.inr tabs))))), (t9, .inr (11, [.ref n9, .ref c9, .null]))] ++ im) sz) := by
  refine ct_start (by decide) (Nat.le_of_ble_eq_true rfl) ?_
  intro p e s m below meth c ls B hsz hH hl
  obtain ⟨hP, hD⟩ := hH
  obtain ⟨A, hAe, h, hA, hAn⟩ := ct_enter B.2.2.2.2.2.2.2.2 hsz hP hD
  rw [hAe]
  refine ct_gen h (fun H locs h => ?_)
  have hx := B.1
  have hb := B.2.1
  have hl : lv_has ls 4 [(0, .ref b0), (1, .ref t9), (2, .int (nI by9))] := hl
  obtain ⟨hm1, hm2, hm3, hm4, hm5⟩ := id hmt
  obtain ⟨hcs, hrs, htl, hn20, hc40⟩ := id hok
  obtain ⟨fn, fc, hln, hlc, hnm, hce⟩ := id hT
  obtain ⟨mdn, en, hmn⟩ := hln.obj
  have hc1 : tb.1.length = tCols tb := rfl
  refine lv_aload_n hx hb dX6_tabled_0 rfl (lv_at hl 0 rfl) ?_
  refine ct_get (v := .int (nI tcn)) B h.1 kX6 0 rfl 6 (Nat.le_of_ble_eq_true rfl) q733 rfl dX6_tabled_1 ?_
  refine lv_bipush (v := nI 40) hx hb dX6_tabled_4 (by decide) ?_
  refine n_icmp_eq (tgt := 20) hx hb dX6_tabled_6 (by decide) (by omega) (by omega) (fun c40 => ?_) (fun c40 => ?_)
  · refine lv_bipush (v := (-12)) hx hb dX6_tabled_20 (by decide) ?_
    have h : Hs E A s.heap ([(b0, .inr (6, [.ref b1, .int (nI trayed), .int (nI fed), .int place, .ref b2, .ref b3, .int (nI tcn), .int (nI wby), .ref b4, .int (nI pcn), .ref b5, .ref b7])), (b3, .inl (E.2.1 4, 41, .inr (.inr (.inr (.inr tabs)))))] ++ im) H locs := ct_part h [0, 1] rfl rfl
    have h : Hs E A s.heap ([(b0, .inr (6, [.ref b1, .int (nI trayed), .int (nI fed), .int place, .ref b2, .ref b3, .int (nI tcn), .int (nI wby), .ref b4, .int (nI pcn), .ref b5, .ref b7])), (b3, .inl (E.2.1 4, 41, .inr (.inr (.inr (.inr tabs)))))] ++ im) H locs := h
    refine W.widen (k := 1) (n := 16) (by first | omega | (dsimp only; omega)) (by first | omega | (dsimp only; omega)) ?_
    exact ct_iret (ty := .int) (v := (-12)) B rfl rfl h.2.2 ⟨(-12), tcn, wby, tabs, ts, im, rfl, h.1, h.2.1, Or.inl ⟨Or.inl (by rw [← hm1]; exact c40), rfl, rfl⟩, hmt, fun y hy => hy⟩ dX6_tabled_22
  · refine lv_aload_n hx hb dX6_tabled_9 rfl (lv_at hl 0 rfl) ?_
    refine ct_get (v := .int (nI wby)) B h.1 kX6 0 rfl 7 (Nat.le_of_ble_eq_true rfl) q734 rfl dX6_tabled_10 ?_
    refine lv_iload_n hx hb dX6_tabled_13 rfl (lv_at hl 2 rfl) ?_
    refine n_iadd hx hb dX6_tabled_14 ?_
    refine lv_ldc (v := nI 65536) hx hb B.2.2.1 (B.2.2.2.1 _ q768) dX6_tabled_15 ?_
    refine n_icmp_le (tgt := 23) hx hb dX6_tabled_17 (by decide) (by omega) (by omega) (fun cw => ?_) (fun cw => ?_)
    · refine lv_aload_n hx hb dX6_tabled_23 rfl (lv_at hl 1 rfl) ?_
      refine lv_aload_n hx hb dX6_tabled_24 rfl (lv_at hl 1 rfl) ?_
      refine ct_get (v := .ref n9) B h.1 kX11 2 rfl 0 (Nat.le_of_ble_eq_true rfl) q830 rfl dX6_tabled_25 ?_
      refine ct_callR (ct_runV (As := []) (rest := [.ref t9]) B (met_J10_size l E n9 en tb.1.length mdn H.size) (lw_V q1154 q847 q848 q66 q849) (n := 0) ⟨by decide, by decide, by decide +kernel⟩ rfl ⟨rfl, rfl, (Nat.le_of_ble_eq_true rfl), (Nat.le_of_ble_eq_true rfl), (by first | omega | (dsimp only; omega)), (by first | omega | (dsimp only; omega))⟩ h.2.2 hA (ct_recv B (ct_sel (ct_Pr h.1) hmn) kJ10 0 rfl) ((ct_sel (ct_Pr h.1) hmn).sub [0] rfl) hl.1 (Nat.le_of_ble_eq_true rfl) dX6_tabled_28) (fun v hv => ?_)
      subst hv
      refine W.eq (g2 := F0 m 31 ls [.int (nI tb.1.length), .ref t9]) rfl ?_
      refine W.eq (g2 := F0 m 31 ls [.int (nI (tCols tb)), .ref t9]) (by rw [show tb.1.length = tCols tb from rfl] <;> rfl) ?_
      refine ct_newa (atype := .int) (ty := .int) (a0 := (tCols tb, .inl (fun _ => 0))) B h hAn 1 rfl q214 rfl rfl (fun _ => rfl) (by omega) (by simp only [componentBytes]; omega) (Nat.le_of_ble_eq_true rfl) (by dsimp only; omega) dX6_tabled_31 (fun l_1 H h hl_1 => ?_)
      have h : Hs E A s.heap ([(l_1, .inl (E.2.1 1, tCols tb, .inl (fun _ => 0)))] ++ ([(b0, .inr (6, [.ref b1, .int (nI trayed), .int (nI fed), .int place, .ref b2, .ref b3, .int (nI tcn), .int (nI wby), .ref b4, .int (nI pcn), .ref b5, .ref b7])), (b3, .inl (E.2.1 4, 41, .inr (.inr (.inr (.inr tabs))))), (t9, .inr (11, [.ref n9, .ref c9, .null]))] ++ im)) H locs := ct_Hc h
      have h : Hs E A s.heap ([(l_1, .inl (E.2.1 1, tCols tb, .inl (fun _ => 0))), (b0, .inr (6, [.ref b1, .int (nI trayed), .int (nI fed), .int place, .ref b2, .ref b3, .int (nI tcn), .int (nI wby), .ref b4, .int (nI pcn), .ref b5, .ref b7])), (b3, .inl (E.2.1 4, 41, .inr (.inr (.inr (.inr tabs))))), (t9, .inr (11, [.ref n9, .ref c9, .null]))] ++ im) H locs := h
      refine ct_put (ws' := [(l_1, .inl (E.2.1 1, tCols tb, .inl (fun _ => 0))), (b0, .inr (6, [.ref b1, .int (nI trayed), .int (nI fed), .int place, .ref b2, .ref b3, .int (nI tcn), .int (nI wby), .ref b4, .int (nI pcn), .ref b5, .ref b7])), (b3, .inl (E.2.1 4, 41, .inr (.inr (.inr (.inr tabs))))), (t9, .inr (11, [.ref n9, .ref c9, .ref l_1]))] ++ im) B h kX11 3 rfl 2 (Nat.le_of_ble_eq_true rfl) q834 rfl rfl rfl (Nat.le_of_ble_eq_true rfl) rfl dX6_tabled_33 (fun H locs h => ?_)
      refine lv_iconst (v := nI 0) hx hb dX6_tabled_36 (by decide) ?_
      refine lv_istore_n (lv' := [(3, .int (nI 0)), (0, .ref b0), (1, .ref t9), (2, .int (nI by9))]) hx hb dX6_tabled_37 rfl hl (by decide) rfl (fun ls hl => ?_)
      have h : Hs E A s.heap ([(b0, .inr (6, [.ref b1, .int (nI trayed), .int (nI fed), .int place, .ref b2, .ref b3, .int (nI tcn), .int (nI wby), .ref b4, .int (nI pcn), .ref b5, .ref b7])), (b3, .inl (E.2.1 4, 41, .inr (.inr (.inr (.inr tabs))))), (t9, .inr (11, [.ref n9, .ref c9, .ref l_1])), (l_1, .inl (E.2.1 1, tCols tb, .inl (fun _ => 0)))] ++ im) H locs := ct_part h [1, 2, 3, 0] rfl rfl
      refine W.widen (k := 1) (n := tCols tb) (by first | omega | (dsimp only; omega)) (by first | omega | (dsimp only; omega)) ?_
      refine ct_loopH (σ := Nat × (Nat → Int32)) (fun (k, lf) H locs ls => lv_has ls 4 [(3, .int (nI k)), (0, .ref b0), (1, .ref t9), (2, .int (nI by9))] ∧ Hs E A s.heap ([(b0, .inr (6, [.ref b1, .int (nI trayed), .int (nI fed), .int place, .ref b2, .ref b3, .int (nI tcn), .int (nI wby), .ref b4, .int (nI pcn), .ref b5, .ref b7])), (b3, .inl (E.2.1 4, 41, .inr (.inr (.inr (.inr tabs))))), (t9, .inr (11, [.ref n9, .ref c9, .ref l_1])), (l_1, .inl (E.2.1 1, tCols tb, .inl lf))] ++ im) H locs ∧ (k ≤ tCols tb) ∧ (∀ j, j < k → lf j = nI (laneT (tCols tb) (tRows tb) (cellW tb) j))) (fun (k, lf) => tCols tb - k) (fun _ => 1) (fun _ => tCols tb) (g := fun (k, lf) ls => F0 m 38 ls []) (x0 := (0, (fun _ => 0))) (ls0 := ls) ?_ ⟨lv_sub hl [0, 1, 2, 3] rfl, h, Nat.zero_le _, fun j hj => absurd hj (Nat.not_lt_zero j)⟩
      clear hl h
      intro x9 H locs ls hI ih_1
      obtain ⟨k, lf⟩ := x9
      obtain ⟨hl, h, hk, hlf⟩ := hI
      refine W.eq (g2 := F0 m 38 ls []) rfl ?_
      refine lv_iload_n hx hb dX6_tabled_38 rfl (lv_at hl 0 rfl) ?_
      refine lv_aload_n hx hb dX6_tabled_39 rfl (lv_at hl 2 rfl) ?_
      refine ct_get (v := .ref l_1) B h.1 kX11 2 rfl 2 (Nat.le_of_ble_eq_true rfl) q834 rfl dX6_tabled_40 ?_
      refine ct_alen B h.1 3 1 rfl rfl dX6_tabled_43 ?_
      refine n_icmp_ge (tgt := 64) hx hb dX6_tabled_44 (by decide) (by omega) (by omega) (fun cend => ?_) (fun cend => ?_)
      · refine lv_aload_n hx hb dX6_tabled_64 rfl (lv_at hl 1 rfl) ?_
        refine lv_dup hx hb dX6_tabled_65 rfl ?_
        refine ct_get (v := .int (nI wby)) B h.1 kX6 0 rfl 7 (Nat.le_of_ble_eq_true rfl) q734 rfl dX6_tabled_66 ?_
        refine lv_iload_n hx hb dX6_tabled_69 rfl (lv_at hl 3 rfl) ?_
        refine n_iadd hx hb dX6_tabled_70 ?_
        refine ct_put (ws' := [(b0, .inr (6, [.ref b1, .int (nI trayed), .int (nI fed), .int place, .ref b2, .ref b3, .int (nI tcn), .int (nI (wby + by9)), .ref b4, .int (nI pcn), .ref b5, .ref b7])), (b3, .inl (E.2.1 4, 41, .inr (.inr (.inr (.inr tabs))))), (t9, .inr (11, [.ref n9, .ref c9, .ref l_1])), (l_1, .inl (E.2.1 1, tCols tb, .inl lf))] ++ im) B h kX6 0 rfl 7 (Nat.le_of_ble_eq_true rfl) q734 rfl rfl rfl (Nat.le_of_ble_eq_true rfl) rfl dX6_tabled_71 (fun H locs h => ?_)
        refine lv_aload_n hx hb dX6_tabled_74 rfl (lv_at hl 1 rfl) ?_
        refine lv_dup hx hb dX6_tabled_75 rfl ?_
        refine ct_get (v := .int (nI tcn)) B h.1 kX6 0 rfl 6 (Nat.le_of_ble_eq_true rfl) q733 rfl dX6_tabled_76 ?_
        refine lv_iconst (v := nI 1) hx hb dX6_tabled_79 (by decide) ?_
        refine n_iadd hx hb dX6_tabled_80 ?_
        refine ct_put (ws' := [(b0, .inr (6, [.ref b1, .int (nI trayed), .int (nI fed), .int place, .ref b2, .ref b3, .int (nI (tcn + 1)), .int (nI (wby + by9)), .ref b4, .int (nI pcn), .ref b5, .ref b7])), (b3, .inl (E.2.1 4, 41, .inr (.inr (.inr (.inr tabs))))), (t9, .inr (11, [.ref n9, .ref c9, .ref l_1])), (l_1, .inl (E.2.1 1, tCols tb, .inl lf))] ++ im) B h kX6 0 rfl 6 (Nat.le_of_ble_eq_true rfl) q733 rfl rfl rfl (Nat.le_of_ble_eq_true rfl) rfl dX6_tabled_81 (fun H locs h => ?_)
        refine lv_aload_n hx hb dX6_tabled_84 rfl (lv_at hl 1 rfl) ?_
        refine ct_get (v := .ref b3) B h.1 kX6 0 rfl 5 (Nat.le_of_ble_eq_true rfl) q732 rfl dX6_tabled_85 ?_
        refine lv_aload_n hx hb dX6_tabled_88 rfl (lv_at hl 1 rfl) ?_
        refine ct_get (v := .int (nI (tcn + 1))) B h.1 kX6 0 rfl 6 (Nat.le_of_ble_eq_true rfl) q733 rfl dX6_tabled_89 ?_
        refine lv_aload_n hx hb dX6_tabled_92 rfl (lv_at hl 2 rfl) ?_
        refine ct_aast (ws' := [(b0, .inr (6, [.ref b1, .int (nI trayed), .int (nI fed), .int place, .ref b2, .ref b3, .int (nI (tcn + 1)), .int (nI (wby + by9)), .ref b4, .int (nI pcn), .ref b5, .ref b7])), (b3, .inl (E.2.1 4, 41, .inr (.inr (.inr (.inr (va_up tabs (tcn + 1) (some t9))))))), (t9, .inr (11, [.ref n9, .ref c9, .ref l_1])), (l_1, .inl (E.2.1 1, tCols tb, .inl lf))] ++ im) B h 1 4 2 11 rfl rfl rfl rfl (by omega) (by omega) rfl dX6_tabled_93 (fun H locs h => ?_)
        refine lv_aload_n hx hb dX6_tabled_94 rfl (lv_at hl 1 rfl) ?_
        refine ct_get (v := .int (nI (tcn + 1))) B h.1 kX6 0 rfl 6 (Nat.le_of_ble_eq_true rfl) q733 rfl dX6_tabled_95 ?_
        have h : Hs E A s.heap ([(b0, .inr (6, [.ref b1, .int (nI trayed), .int (nI fed), .int place, .ref b2, .ref b3, .int (nI (tcn + 1)), .int (nI (wby + by9)), .ref b4, .int (nI pcn), .ref b5, .ref b7])), (b3, .inl (E.2.1 4, 41, .inr (.inr (.inr (.inr (va_up tabs (tcn + 1) (some t9)))))))] ++ ([(t9, .inr (11, [.ref n9, .ref c9, .ref l_1])), (l_1, .inl (E.2.1 1, tCols tb, .inl lf))] ++ im)) H locs := h
        obtain ⟨im_t, hh_im_t⟩ : ∃ z9 : va_W, z9 = [(t9, .inr (11, [.ref n9, .ref c9, .ref l_1])), (l_1, .inl (E.2.1 1, tCols tb, .inl lf))] ++ im := ⟨_, rfl⟩
        rw [← hh_im_t] at h
        have hi_im_t : ∀ y ∈ im, y ∈ im_t := by rw [hh_im_t]; exact fun y hy => List.mem_append_right _ hy
        have hlall : ∀ k9, k9 < tCols tb → lf k9 = nI (laneT (tCols tb) (tRows tb) (cellW tb) k9) := fun k9 h9 => hlf k9 (by omega)
        have hmt2 := hmt.mono hi_im_t
        have htn : tI E im_t t9 tb := ⟨n9, c9, l_1, lf, by intro x9 h9; rw [List.mem_singleton.mp h9, hh_im_t]; exact List.mem_cons_self, hT.mono hi_im_t, by intro x9 h9; rw [List.mem_singleton.mp h9, hh_im_t]; exact List.mem_cons_of_mem _ List.mem_cons_self, hlall, hok⟩
        have h : Hs E A s.heap ([(b0, .inr (6, [.ref b1, .int (nI trayed), .int (nI fed), .int place, .ref b2, .ref b3, .int (nI (tcn + 1)), .int (nI (wby + by9)), .ref b4, .int (nI pcn), .ref b5, .ref b7])), (b3, .inl (E.2.1 4, 41, .inr (.inr (.inr (.inr (va_up tabs (tcn + 1) (some t9)))))))] ++ im_t) H locs := h
        refine W.widen (k := 1) (n := 16) (by first | omega | (dsimp only; omega)) (by first | omega | (dsimp only; omega)) ?_
        exact ct_iret (ty := .int) (v := (nI (tcn + 1))) B rfl rfl h.2.2 ⟨_, (tcn + 1), (wby + by9), (va_up tabs (tcn + 1) (some t9)), (ts ++ [tb]), im_t, rfl, h.1, h.2.1, Or.inr ⟨by rintro (z9 | z9); rw [← hm1] at z9; exact c40 z9; rw [← hm3, ← hby] at z9; omega, by rw [hm1], rfl⟩, mT_add hmt2 (by omega) hby (by omega) htn, hi_im_t⟩ dX6_tabled_98
      · refine lv_aload_n hx hb dX6_tabled_47 rfl (lv_at hl 2 rfl) ?_
        refine ct_get (v := .ref l_1) B h.1 kX11 2 rfl 2 (Nat.le_of_ble_eq_true rfl) q834 rfl dX6_tabled_48 ?_
        refine lv_iload_n hx hb dX6_tabled_51 rfl (lv_at hl 0 rfl) ?_
        refine lv_aload_n hx hb dX6_tabled_52 rfl (lv_at hl 2 rfl) ?_
        refine lv_iload_n hx hb dX6_tabled_53 rfl (lv_at hl 0 rfl) ?_
        refine ct_callR (ct_runS (As := [.ref t9, .int (nI k)]) (rest := [.int (nI k), .ref l_1]) B (met_X6_laneOfColumn l E im t9 n9 c9 (some l_1) tb k H.size hT hok (by omega)) (lw_S q1155 q1156 q54 q1157) (n := 2) ⟨by decide, by decide, by decide +kernel⟩ rfl ⟨rfl, rfl, (Nat.le_of_ble_eq_true rfl), (Nat.le_of_ble_eq_true rfl), (by first | omega | (dsimp only; omega)), (by first | omega | (dsimp only; omega))⟩ h.2.2 hA ⟨(h.1.sub [2] rfl), (ct_Pr h.1)⟩ hl.1 (Nat.le_of_ble_eq_true rfl) dX6_tabled_54) (fun v hv => ?_)
        subst hv
        refine W.eq (g2 := F0 m 57 ls [.int (nI (laneT (tCols tb) (tRows tb) (cellW tb) k)), .int (nI k), .ref l_1]) rfl ?_
        refine ct_iast (ws' := [(b0, .inr (6, [.ref b1, .int (nI trayed), .int (nI fed), .int place, .ref b2, .ref b3, .int (nI tcn), .int (nI wby), .ref b4, .int (nI pcn), .ref b5, .ref b7])), (b3, .inl (E.2.1 4, 41, .inr (.inr (.inr (.inr tabs))))), (t9, .inr (11, [.ref n9, .ref c9, .ref l_1])), (l_1, .inl (E.2.1 1, tCols tb, .inl (upd lf k (nI (laneT (tCols tb) (tRows tb) (cellW tb) k)))))] ++ im) B h 3 rfl (by omega) (by omega) rfl dX6_tabled_57 (fun H locs h => ?_)
        refine n_iinc (n := 1) (lv' := [(3, .int (nI (k + 1))), (0, .ref b0), (1, .ref t9), (2, .int (nI by9))]) hx hb dX6_tabled_58 hl (k := 0) rfl rfl (by decide) (by decide) rfl (fun ls hl => ?_)
        refine lv_goto (tgt := 38) hx hb dX6_tabled_61 (by decide) ?_
        refine W.widen (k := 1) (n := tCols tb) (by first | omega | (dsimp only; omega)) (by first | omega | (dsimp only; omega)) ?_
        exact ih_1 ((k + 1), (upd lf k (nI (laneT (tCols tb) (tRows tb) (cellW tb) k)))) H locs ls (by dsimp only; omega) ⟨lv_sub hl [0, 1, 2, 3] rfl, h, by omega, fun j hj => by by_cases q9 : j = k; rw [q9, upd_s]; rw [upd_n q9]; exact hlf j (by omega)⟩
    · refine lv_bipush (v := (-12)) hx hb dX6_tabled_20 (by decide) ?_
      have h : Hs E A s.heap ([(b0, .inr (6, [.ref b1, .int (nI trayed), .int (nI fed), .int place, .ref b2, .ref b3, .int (nI tcn), .int (nI wby), .ref b4, .int (nI pcn), .ref b5, .ref b7])), (b3, .inl (E.2.1 4, 41, .inr (.inr (.inr (.inr tabs)))))] ++ im) H locs := ct_part h [0, 1] rfl rfl
      have h : Hs E A s.heap ([(b0, .inr (6, [.ref b1, .int (nI trayed), .int (nI fed), .int place, .ref b2, .ref b3, .int (nI tcn), .int (nI wby), .ref b4, .int (nI pcn), .ref b5, .ref b7])), (b3, .inl (E.2.1 4, 41, .inr (.inr (.inr (.inr tabs)))))] ++ im) H locs := h
      refine W.widen (k := 1) (n := 16) (by first | omega | (dsimp only; omega)) (by first | omega | (dsimp only; omega)) ?_
      exact ct_iret (ty := .int) (v := (-12)) B rfl rfl h.2.2 ⟨(-12), tcn, wby, tabs, ts, im, rfl, h.1, h.2.1, Or.inl ⟨Or.inr (by rw [← hm3, ← hby]; omega), rfl, rfl⟩, hmt, fun y hy => hy⟩ dX6_tabled_22
