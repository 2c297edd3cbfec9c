set_option maxHeartbeats 4000000 in
set_option maxRecDepth 100000 in
theorem met_X2_finish (l : Launch) (E : CE) (ad : Nat → Nat) (q : Nat → Nat) (tc tr : Nat) (F : XF) (O : XO) (S : XS) (made : Nat) (all : Nat → Option Nat) (wn : Nat) (wb : Nat → Int32) (P : XP) (R : XR) (t0 : Nat → Int32) (t1 : Nat → Int32) (t2 : Nat → Int32) (t3 : Nat → Int32) (t4 : Nat → Int32) (cw : Nat → Wd) (sz : Nat) (hm : made < 40) (hrs : tr < 2147483648) (hn : tc * tr < 2147483648) (hcs : tc ≤ 16) (hTD : TD wb wn (tc * tr) t2 t3 cw) : Met l yX2_finish (ws_ yX2_finish cX2_finish 3 (some .int)) { frames := 10, cells := 0, slots := 0, locals := 239 } (ctP E [.ref (ad 3), .ref (q 0)] sz (fun H => va_P E.1 ct_cl (xw E ad F O S (made, all, wn, wb) P R ++ twm E q tc tr t0 t1 t2 t3 t4) H ∧ va_D (fun q => E.2.2.1 ≤ q) (xw E ad F O S (made, all, wn, wb) P R ++ twm E q tc tr t0 t1 t2 t3 t4))) (ctQ (fun v H => ∃ ln2 : Nat → Int32, v = some (.int (nI (made + 1))) ∧ va_P E.1 ct_cl (xw E ad F O S (made + 1, va_up all (made + 1) (some (q 0)), wn, wb) P R ++ twm E q tc tr t0 t1 t2 t3 ln2) H ∧ (∀ j, j < tc → ln2 j = nI (laneT tc tr cw j))) (va_A (xw E ad F O S (made, all, wn, wb) P R ++ twm E q tc tr t0 t1 t2 t3 t4) sz)) 0 0 (va_A (xw E ad F O S (made, all, wn, wb) P R ++ twm E q tc tr t0 t1 t2 t3 t4) sz) := by
  refine ct_start (by decide) (Nat.le_of_ble_eq_true rfl) ?_
  intro p e s m below meth c ls B hsz hH hl
  obtain ⟨hP, hD⟩ := hH
  obtain ⟨A, hAe, h, hA, hAn⟩ := ct_enter B.2.2.2.2.2.2.2.2 hsz hP hD
  rw [hAe]
  refine ct_gen h (fun H locs h => ?_)
  have hx := B.1
  have hb := B.2.1
  have hl : lv_has ls 3 [(0, .ref (ad 3)), (1, .ref (q 0))] := hl
  refine lv_iconst (v := nI 0) hx hb dX2_finish_0 (by decide) ?_
  refine lv_istore_n (lv' := [(2, .int (nI 0)), (0, .ref (ad 3)), (1, .ref (q 0))]) hx hb dX2_finish_1 rfl hl (by decide) rfl (fun ls hl => ?_)
  refine ct_loopH (σ := Nat × (Nat → Int32)) (fun (c_, ln) H locs ls => lv_has ls 3 [(2, .int (nI c_)), (0, .ref (ad 3)), (1, .ref (q 0))] ∧ Hs E A s.heap (xw E ad F O S (made, all, wn, wb) P R ++ twm E q tc tr t0 t1 t2 t3 ln) H locs ∧ (c_ ≤ tc) ∧ (∀ j, j < c_ → ln j = nI (laneT tc tr cw j))) (fun (c_, ln) => tc - c_) (fun _ => 0) (fun _ => 0) (g := fun (c_, ln) ls => F0 m 2 ls []) (x0 := (0, t4)) (ls0 := ls) ?_ ⟨lv_sub hl [0, 1, 2] rfl, h, Nat.zero_le _, fun j hj => absurd hj (Nat.not_lt_zero j)⟩
  clear hl h
  intro x9 H locs ls hI ih_1
  obtain ⟨c_, ln⟩ := x9
  obtain ⟨hl, h, hc, hln⟩ := hI
  refine W.eq (g2 := F0 m 2 ls []) rfl ?_
  refine lv_iload_n hx hb dX2_finish_2 rfl (lv_at hl 0 rfl) ?_
  refine lv_aload_n hx hb dX2_finish_3 rfl (lv_at hl 2 rfl) ?_
  refine ct_get (v := .int (nI tc)) B h.1 kX9 20 rfl 0 (Nat.le_of_ble_eq_true rfl) q393 rfl dX2_finish_4 ?_
  refine n_icmp_ge (tgt := 28) hx hb dX2_finish_7 (by decide) (by omega) (by omega) (fun c_2 => ?_) (fun c_2 => ?_)
  · refine lv_aload_n hx hb dX2_finish_28 rfl (lv_at hl 1 rfl) ?_
    refine lv_dup hx hb dX2_finish_29 rfl ?_
    refine ct_get (v := .int (nI made)) B h.1 kX2 3 rfl 3 (Nat.le_of_ble_eq_true rfl) q218 rfl dX2_finish_30 ?_
    refine lv_iconst (v := nI 1) hx hb dX2_finish_33 (by decide) ?_
    refine n_iadd hx hb dX2_finish_34 ?_
    refine ct_put (ws' := xw E ad F O S (made + 1, all, wn, wb) P R ++ twm E q tc tr t0 t1 t2 t3 ln) B h kX2 3 rfl 3 (Nat.le_of_ble_eq_true rfl) q218 rfl rfl rfl (Nat.le_of_ble_eq_true rfl) rfl dX2_finish_35 (fun H locs h => ?_)
    refine lv_aload_n hx hb dX2_finish_38 rfl (lv_at hl 1 rfl) ?_
    refine ct_get (v := .ref (ad 6)) B h.1 kX2 3 rfl 2 (Nat.le_of_ble_eq_true rfl) q217 rfl dX2_finish_39 ?_
    refine lv_aload_n hx hb dX2_finish_42 rfl (lv_at hl 1 rfl) ?_
    refine ct_get (v := .int (nI (made + 1))) B h.1 kX2 3 rfl 3 (Nat.le_of_ble_eq_true rfl) q218 rfl dX2_finish_43 ?_
    refine lv_aload_n hx hb dX2_finish_46 rfl (lv_at hl 2 rfl) ?_
    refine ct_aast (ws' := xw E ad F O S (made + 1, (va_up all (made + 1) (some (q 0))), wn, wb) P R ++ twm E q tc tr t0 t1 t2 t3 ln) B h 6 3 20 9 rfl rfl rfl rfl (by omega) (by omega) rfl dX2_finish_47 (fun H locs h => ?_)
    refine lv_aload_n hx hb dX2_finish_48 rfl (lv_at hl 1 rfl) ?_
    refine ct_get (v := .int (nI (made + 1))) B h.1 kX2 3 rfl 3 (Nat.le_of_ble_eq_true rfl) q218 rfl dX2_finish_49 ?_
    exact ct_iret (ty := .int) (v := (nI (made + 1))) B rfl rfl h.2.2 ⟨ln, rfl, h.1, fun j hj => hln j (by omega)⟩ dX2_finish_52
  · refine lv_aload_n hx hb dX2_finish_10 rfl (lv_at hl 2 rfl) ?_
    refine ct_get (v := .ref (q 5)) B h.1 kX9 20 rfl 6 (Nat.le_of_ble_eq_true rfl) q408 rfl dX2_finish_11 ?_
    refine lv_iload_n hx hb dX2_finish_14 rfl (lv_at hl 0 rfl) ?_
    refine lv_aload_n hx hb dX2_finish_15 rfl (lv_at hl 1 rfl) ?_
    refine lv_aload_n hx hb dX2_finish_16 rfl (lv_at hl 2 rfl) ?_
    refine lv_iload_n hx hb dX2_finish_17 rfl (lv_at hl 0 rfl) ?_
    refine ct_callR (ct_runV (As := [.ref (q 0), .int (nI c_)]) (rest := [.int (nI c_), .ref (q 5)]) B (met_X2_laneOf l E ad F O S made all wn wb P R q tc tr c_ (tf t0 t1 t2 t3 ln) cw H.size hrs hn (by omega) hTD) (lw_V q432 q434 qs13 q50 q435) (n := 2) ⟨by decide, by decide, by decide +kernel⟩ rfl ⟨rfl, rfl, (Nat.le_of_ble_eq_true rfl), (Nat.le_of_ble_eq_true rfl), (Nat.le_of_ble_eq_true rfl), (Nat.le_of_ble_eq_true rfl)⟩ h.2.2 hA (ct_recv B h.1 kX2 3 rfl) ⟨(ct_Pl h.1), (ct_Pr h.1)⟩ hl.1 (Nat.le_of_ble_eq_true rfl) dX2_finish_18) (fun v hv => ?_)
    subst hv
    refine W.eq (g2 := F0 m 21 ls [.int (nI (laneT tc tr cw c_)), .int (nI c_), .ref (q 5)]) rfl ?_
    refine ct_iast (ws' := xw E ad F O S (made, all, wn, wb) P R ++ twm E q tc tr t0 t1 t2 t3 (upd ln c_ (nI (laneT tc tr cw c_)))) B h 25 rfl (by omega) (by omega) rfl dX2_finish_21 (fun H locs h => ?_)
    refine n_iinc (n := 1) (lv' := [(2, .int (nI (c_ + 1))), (0, .ref (ad 3)), (1, .ref (q 0))]) hx hb dX2_finish_22 hl (k := 0) rfl rfl (by decide) (by decide) rfl (fun ls hl => ?_)
    refine lv_goto (tgt := 2) hx hb dX2_finish_25 (by decide) ?_
    exact ih_1 ((c_ + 1), (upd ln c_ (nI (laneT tc tr cw c_)))) H locs ls (by dsimp only; omega) ⟨lv_sub hl [0, 1, 2] rfl, h, by omega, fun j hj => by by_cases q9 : j = c_; rw [q9, upd_s]; rw [upd_n q9]; exact hln j (by omega)⟩
set_option maxHeartbeats 4000000 in
set_option maxRecDepth 100000 in
theorem met_X9_init (l : Launch) (E : CE) (a tc tr : Nat) (sz : Nat) (htc : tc ≤ 16) (htr : tr ≤ 500) : Met l yX9_init (ws_ yX9_init cX9_init 3 none) { frames := 1, cells := 5, slots := 3 * tc + 2 * (tc * tr), locals := 20 } (ctP E [.ref a, .int (nI tc), .int (nI tr)] sz (fun H => va_P E.1 ct_cl ([(a, .inr (9, [.int 0, .int 0, .null, .null, .null, .null, .null]))]) H ∧ va_D (fun q => E.2.2.1 ≤ q) ([(a, .inr (9, [.int 0, .int 0, .null, .null, .null, .null, .null]))]))) (ctQ (fun v H => v = none ∧ ∃ q : Nat → Nat, q 0 = a ∧ va_P E.1 ct_cl (twm E q tc tr (fun _ => 0) (fun _ => 0) (fun _ => 0) (fun _ => 0) (fun _ => 0)) H ∧ va_D (va_A [(a, .inr (9, [.int 0, .int 0, .null, .null, .null, .null, .null]))] sz) (twm E q tc tr (fun _ => 0) (fun _ => 0) (fun _ => 0) (fun _ => 0) (fun _ => 0))) (va_A ([(a, .inr (9, [.int 0, .int 0, .null, .null, .null, .null, .null]))]) sz)) 5 (3 * tc + 2 * (tc * tr)) (va_A ([(a, .inr (9, [.int 0, .int 0, .null, .null, .null, .null, .null]))]) sz) := by
  refine ct_start (by decide) (Nat.le_of_ble_eq_true rfl) ?_
  intro p e s m below meth c ls B hsz hH hl
  obtain ⟨hP, hD⟩ := hH
  obtain ⟨A, hAe, h, hA, hAn⟩ := ct_enter B.2.2.2.2.2.2.2.2 hsz hP hD
  rw [hAe]
  refine ct_gen h (fun H locs h => ?_)
  have hx := B.1
  have hb := B.2.1
  have hl : lv_has ls 3 [(0, .ref a), (1, .int (nI tc)), (2, .int (nI tr))] := hl
  have hmul : tc * tr ≤ 16 * 500 := Nat.mul_le_mul htc htr
  refine lv_aload_n hx hb dX9_init_0 rfl (lv_at hl 0 rfl) ?_
  refine ct_objInit B q390 q87 q88 hl.1 dX9_init_1 (Nat.le_of_ble_eq_true rfl) (Nat.le_of_ble_eq_true rfl) ?_
  refine lv_aload_n hx hb dX9_init_4 rfl (lv_at hl 0 rfl) ?_
  refine lv_iload_n hx hb dX9_init_5 rfl (lv_at hl 1 rfl) ?_
  refine ct_putF (ws' := [(a, .inr (9, [.int (nI tc), .int 0, .null, .null, .null, .null, .null]))]) B h kX9 0 rfl 0 (Nat.le_of_ble_eq_true rfl) q391 rfl rfl rfl rfl (Nat.le_of_ble_eq_true rfl) rfl dX9_init_6 (fun H locs h => ?_)
  refine lv_aload_n hx hb dX9_init_9 rfl (lv_at hl 0 rfl) ?_
  refine lv_iload_n hx hb dX9_init_10 rfl (lv_at hl 2 rfl) ?_
  refine ct_putF (ws' := [(a, .inr (9, [.int (nI tc), .int (nI tr), .null, .null, .null, .null, .null]))]) B h kX9 0 rfl 1 (Nat.le_of_ble_eq_true rfl) q394 rfl rfl rfl rfl (Nat.le_of_ble_eq_true rfl) rfl dX9_init_11 (fun H locs h => ?_)
  refine lv_aload_n hx hb dX9_init_14 rfl (lv_at hl 0 rfl) ?_
  refine lv_iload_n hx hb dX9_init_15 rfl (lv_at hl 1 rfl) ?_
  refine ct_newa (atype := .int) (ty := .int) (a0 := (tc, .inl (fun _ => 0))) B h hAn 1 rfl q214 rfl rfl (fun _ => rfl) (by omega) (by simp only [componentBytes]; omega) (Nat.le_of_ble_eq_true rfl) (by dsimp only; omega) dX9_init_16 (fun q_1 H h hq_1 => ?_)
  have h : Hs E A s.heap ([(a, .inr (9, [.int (nI tc), .int (nI tr), .null, .null, .null, .null, .null])), (q_1, .inl (E.2.1 1, tc, .inl (fun _ => 0)))]) H locs := h
  refine ct_putF (ws' := [(a, .inr (9, [.int (nI tc), .int (nI tr), .ref q_1, .null, .null, .null, .null])), (q_1, .inl (E.2.1 1, tc, .inl (fun _ => 0)))]) B h kX9 0 rfl 2 (Nat.le_of_ble_eq_true rfl) q397 rfl rfl rfl rfl (Nat.le_of_ble_eq_true rfl) rfl dX9_init_18 (fun H locs h => ?_)
  refine lv_aload_n hx hb dX9_init_21 rfl (lv_at hl 0 rfl) ?_
  refine lv_iload_n hx hb dX9_init_22 rfl (lv_at hl 1 rfl) ?_
  refine ct_newa (atype := .byte) (ty := .byte) (a0 := (tc, .inl (fun _ => 0))) B h hAn 0 rfl q156 rfl rfl (fun _ => rfl) (by omega) (by simp only [componentBytes]; omega) (Nat.le_of_ble_eq_true rfl) (by dsimp only; omega) dX9_init_23 (fun q_2 H h hq_2 => ?_)
  have h : Hs E A s.heap ([(a, .inr (9, [.int (nI tc), .int (nI tr), .ref q_1, .null, .null, .null, .null])), (q_1, .inl (E.2.1 1, tc, .inl (fun _ => 0))), (q_2, .inl (E.2.1 0, tc, .inl (fun _ => 0)))]) H locs := h
  refine ct_putF (ws' := [(a, .inr (9, [.int (nI tc), .int (nI tr), .ref q_1, .ref q_2, .null, .null, .null])), (q_1, .inl (E.2.1 1, tc, .inl (fun _ => 0))), (q_2, .inl (E.2.1 0, tc, .inl (fun _ => 0)))]) B h kX9 0 rfl 3 (Nat.le_of_ble_eq_true rfl) q399 rfl rfl rfl rfl (Nat.le_of_ble_eq_true rfl) rfl dX9_init_25 (fun H locs h => ?_)
  refine lv_aload_n hx hb dX9_init_28 rfl (lv_at hl 0 rfl) ?_
  refine lv_iload_n hx hb dX9_init_29 rfl (lv_at hl 1 rfl) ?_
  refine lv_iload_n hx hb dX9_init_30 rfl (lv_at hl 2 rfl) ?_
  refine n_imul hx hb dX9_init_31 ?_
  refine ct_newa (atype := .int) (ty := .int) (a0 := (tc * tr, .inl (fun _ => 0))) B h hAn 1 rfl q214 rfl rfl (fun _ => rfl) (by omega) (by simp only [componentBytes]; omega) (Nat.le_of_ble_eq_true rfl) (by dsimp only; omega) dX9_init_32 (fun q_3 H h hq_3 => ?_)
  have h : Hs E A s.heap ([(a, .inr (9, [.int (nI tc), .int (nI tr), .ref q_1, .ref q_2, .null, .null, .null])), (q_1, .inl (E.2.1 1, tc, .inl (fun _ => 0))), (q_2, .inl (E.2.1 0, tc, .inl (fun _ => 0))), (q_3, .inl (E.2.1 1, tc * tr, .inl (fun _ => 0)))]) H locs := h
  refine ct_putF (ws' := [(a, .inr (9, [.int (nI tc), .int (nI tr), .ref q_1, .ref q_2, .ref q_3, .null, .null])), (q_1, .inl (E.2.1 1, tc, .inl (fun _ => 0))), (q_2, .inl (E.2.1 0, tc, .inl (fun _ => 0))), (q_3, .inl (E.2.1 1, tc * tr, .inl (fun _ => 0)))]) B h kX9 0 rfl 4 (Nat.le_of_ble_eq_true rfl) q401 rfl rfl rfl rfl (Nat.le_of_ble_eq_true rfl) rfl dX9_init_34 (fun H locs h => ?_)
  refine lv_aload_n hx hb dX9_init_37 rfl (lv_at hl 0 rfl) ?_
  refine lv_iload_n hx hb dX9_init_38 rfl (lv_at hl 1 rfl) ?_
  refine lv_iload_n hx hb dX9_init_39 rfl (lv_at hl 2 rfl) ?_
  refine n_imul hx hb dX9_init_40 ?_
  refine ct_newa (atype := .byte) (ty := .byte) (a0 := (tc * tr, .inl (fun _ => 0))) B h hAn 0 rfl q156 rfl rfl (fun _ => rfl) (by omega) (by simp only [componentBytes]; omega) (Nat.le_of_ble_eq_true rfl) (by dsimp only; omega) dX9_init_41 (fun q_4 H h hq_4 => ?_)
  have h : Hs E A s.heap ([(a, .inr (9, [.int (nI tc), .int (nI tr), .ref q_1, .ref q_2, .ref q_3, .null, .null])), (q_1, .inl (E.2.1 1, tc, .inl (fun _ => 0))), (q_2, .inl (E.2.1 0, tc, .inl (fun _ => 0))), (q_3, .inl (E.2.1 1, tc * tr, .inl (fun _ => 0))), (q_4, .inl (E.2.1 0, tc * tr, .inl (fun _ => 0)))]) H locs := h
  refine ct_putF (ws' := [(a, .inr (9, [.int (nI tc), .int (nI tr), .ref q_1, .ref q_2, .ref q_3, .ref q_4, .null])), (q_1, .inl (E.2.1 1, tc, .inl (fun _ => 0))), (q_2, .inl (E.2.1 0, tc, .inl (fun _ => 0))), (q_3, .inl (E.2.1 1, tc * tr, .inl (fun _ => 0))), (q_4, .inl (E.2.1 0, tc * tr, .inl (fun _ => 0)))]) B h kX9 0 rfl 5 (Nat.le_of_ble_eq_true rfl) q404 rfl rfl rfl rfl (Nat.le_of_ble_eq_true rfl) rfl dX9_init_43 (fun H locs h => ?_)
  refine lv_aload_n hx hb dX9_init_46 rfl (lv_at hl 0 rfl) ?_
  refine lv_iload_n hx hb dX9_init_47 rfl (lv_at hl 1 rfl) ?_
  refine ct_newa (atype := .int) (ty := .int) (a0 := (tc, .inl (fun _ => 0))) B h hAn 1 rfl q214 rfl rfl (fun _ => rfl) (by omega) (by simp only [componentBytes]; omega) (Nat.le_of_ble_eq_true rfl) (by dsimp only; omega) dX9_init_48 (fun q_5 H h hq_5 => ?_)
  have h : Hs E A s.heap ([(a, .inr (9, [.int (nI tc), .int (nI tr), .ref q_1, .ref q_2, .ref q_3, .ref q_4, .null])), (q_1, .inl (E.2.1 1, tc, .inl (fun _ => 0))), (q_2, .inl (E.2.1 0, tc, .inl (fun _ => 0))), (q_3, .inl (E.2.1 1, tc * tr, .inl (fun _ => 0))), (q_4, .inl (E.2.1 0, tc * tr, .inl (fun _ => 0))), (q_5, .inl (E.2.1 1, tc, .inl (fun _ => 0)))]) H locs := h
  refine ct_putF (ws' := [(a, .inr (9, [.int (nI tc), .int (nI tr), .ref q_1, .ref q_2, .ref q_3, .ref q_4, .ref q_5])), (q_1, .inl (E.2.1 1, tc, .inl (fun _ => 0))), (q_2, .inl (E.2.1 0, tc, .inl (fun _ => 0))), (q_3, .inl (E.2.1 1, tc * tr, .inl (fun _ => 0))), (q_4, .inl (E.2.1 0, tc * tr, .inl (fun _ => 0))), (q_5, .inl (E.2.1 1, tc, .inl (fun _ => 0)))]) B h kX9 0 rfl 6 (Nat.le_of_ble_eq_true rfl) q406 rfl rfl rfl rfl (Nat.le_of_ble_eq_true rfl) rfl dX9_init_50 (fun H locs h => ?_)
  have h : Hs E A s.heap (twm E (q6 a q_1 q_2 q_3 q_4 q_5) tc tr (fun _ => 0) (fun _ => 0) (fun _ => 0) (fun _ => 0) (fun _ => 0)) H locs := h
  refine W.widen (k := 5) (n := 3 * tc + 2 * (tc * tr)) (by omega) (by omega) ?_
  exact ct_vret B h.2.2 (⟨rfl, _, rfl, h.1, h.2.1⟩) dX9_init_53
