def qO (q : Nat) : List Nat := if q = 0 then [] else [34]
theorem say_q {t : List Nat} {q : Nat} (hq : q ≤ 1) : sayO t (nI q) = qO q ++ (esc t ++ qO q) := by
  rcases (show q = 0 ∨ q = 1 by omega) with e | e <;> subst e
  · show (if nI 0 = 0 then esc t else _) = _
    rw [if_pos nI_0]
    show _ = [] ++ (esc t ++ [])
    rw [List.append_nil, List.nil_append]
  · show (if nI 1 = 0 then esc t else _) = _
    rw [if_neg (by decide)]
    rfl
theorem esc1_len (c : Nat) : (esc1 c).length ≤ 2 := by
  unfold esc1
  split
  · exact Nat.le_refl 2
  · show 1 ≤ 2; omega
theorem esc_len : ∀ t : List Nat, (esc t).length ≤ 2 * t.length
  | [] => Nat.le_refl _
  | c :: cs => by
    show (esc1 c ++ esc cs).length ≤ 2 * (cs.length + 1)
    rw [List.length_append]
    have := esc1_len c
    have := esc_len cs
    omega
theorem say_len (t : List Nat) (mk : Int32) : (sayO t mk).length ≤ 2 * t.length + 2 := by
  unfold sayO
  have := esc_len t
  split
  · omega
  · rw [List.length_append, List.length_append]; simp only [List.length_singleton]; omega
set_option maxHeartbeats 4000000 in
set_option maxRecDepth 100000 in
theorem met_X6_writeWord (l : Launch) (E : CE) (b0 b1 b2 b3 b4 b5 b7 trayed fed : Nat) (place : Int32) (tcn wby pcn : Nat) (a q9 b8 dn : Nat) (db : Nat → Int32) (t o : List Nat) (im : va_W) (sz : Nat) (hq : q9 ≤ 1) (hdn : dn ≤ 100000000) (hsI : sI E im a t) (hw : wB db dn o) : Met l yX6_writeWord (ws_ yX6_writeWord cX6_writeWord 4 none) { frames := 4, cells := 0, slots := 0, locals := 85 } (ctP E [.ref b0, .ref a, .int (nI q9)] sz (fun H => va_P E.1 ct_cl ([(b0, .inr (6, [.ref b1, .int (nI trayed), .int (nI fed), .int place, .ref b2, .ref b3, .int (nI tcn), .int (nI wby), .ref b4, .int (nI pcn), .ref b5, .ref b7])), (b7, .inr (8, [.ref b8, .int (nI dn)])), (b8, .inl (E.2.1 0, 30000, .inl db))] ++ im) H ∧ va_D (fun q => E.2.2.1 ≤ q) ([(b0, .inr (6, [.ref b1, .int (nI trayed), .int (nI fed), .int place, .ref b2, .ref b3, .int (nI tcn), .int (nI wby), .ref b4, .int (nI pcn), .ref b5, .ref b7])), (b7, .inr (8, [.ref b8, .int (nI dn)])), (b8, .inl (E.2.1 0, 30000, .inl db))] ++ im))) (ctQ (fun v H => ∃ dn2 : Nat, ∃ db2 : Nat → Int32, v = none ∧ va_P E.1 ct_cl ([(b0, .inr (6, [.ref b1, .int (nI trayed), .int (nI fed), .int place, .ref b2, .ref b3, .int (nI tcn), .int (nI wby), .ref b4, .int (nI pcn), .ref b5, .ref b7])), (b7, .inr (8, [.ref b8, .int (nI dn2)])), (b8, .inl (E.2.1 0, 30000, .inl db2))] ++ im) H ∧ va_D (va_A ([(b0, .inr (6, [.ref b1, .int (nI trayed), .int (nI fed), .int place, .ref b2, .ref b3, .int (nI tcn), .int (nI wby), .ref b4, .int (nI pcn), .ref b5, .ref b7])), (b7, .inr (8, [.ref b8, .int (nI dn)])), (b8, .inl (E.2.1 0, 30000, .inl db))] ++ im) sz) ([(b0, .inr (6, [.ref b1, .int (nI trayed), .int (nI fed), .int place, .ref b2, .ref b3, .int (nI tcn), .int (nI wby), .ref b4, .int (nI pcn), .ref b5, .ref b7])), (b7, .inr (8, [.ref b8, .int (nI dn2)])), (b8, .inl (E.2.1 0, 30000, .inl db2))] ++ im) ∧ (wB db2 dn2 (o ++ sayO t (nI q9)))) (va_A ([(b0, .inr (6, [.ref b1, .int (nI trayed), .int (nI fed), .int place, .ref b2, .ref b3, .int (nI tcn), .int (nI wby), .ref b4, .int (nI pcn), .ref b5, .ref b7])), (b7, .inr (8, [.ref b8, .int (nI dn)])), (b8, .inl (E.2.1 0, 30000, .inl db))] ++ im) sz)) 0 0 (va_A ([(b0, .inr (6, [.ref b1, .int (nI trayed), .int (nI fed), .int place, .ref b2, .ref b3, .int (nI tcn), .int (nI wby), .ref b4, .int (nI pcn), .ref b5, .ref b7])), (b7, .inr (8, [.ref b8, .int (nI dn)])), (b8, .inl (E.2.1 0, 30000, .inl db))] ++ im) sz) := by
  refine ct_start (by decide) (Nat.le_of_ble_eq_true rfl) ?_
  intro p e s m below meth c ls B hsz hH hl
  obtain ⟨hP, hD⟩ := hH
  obtain ⟨A, hAe, h, hA, hAn⟩ := ct_enter B.2.2.2.2.2.2.2.2 hsz hP hD
  rw [hAe]
  refine ct_gen h (fun H locs h => ?_)
  have hx := B.1
  have hb := B.2.1
  have hl : lv_has ls 4 [(0, .ref b0), (1, .ref a), (2, .int (nI q9))] := hl
  have hs0 := (hsI.S (ct_Pr h.1)).small
  refine lv_iload_n hx hb dX6_writeWord_0 rfl (lv_at hl 2 rfl) ?_
  refine n_if_eq (tgt := 13) hx hb dX6_writeWord_1 (by decide) (by omega) (fun cq => ?_) (fun cq => ?_)
  · have hq0 : wB db dn (o ++ qO q9) := by rw [show qO q9 = [] from if_pos cq, List.append_nil]; exact hw
    have hb0 : dn ≤ dn + 1 := by omega
    refine lv_iconst (v := nI 0) hx hb dX6_writeWord_13 (by decide) ?_
    refine lv_istore_n (lv' := [(3, .int (nI 0)), (0, .ref b0), (1, .ref a), (2, .int (nI q9))]) hx hb dX6_writeWord_14 rfl hl (by decide) rfl (fun ls hl => ?_)
    refine ct_loopH (σ := Nat × Nat × (Nat → Int32)) (fun (k, dn1, db1) H locs ls => lv_has ls 4 [(3, .int (nI k)), (0, .ref b0), (1, .ref a), (2, .int (nI q9))] ∧ Hs E A s.heap ([(b0, .inr (6, [.ref b1, .int (nI trayed), .int (nI fed), .int place, .ref b2, .ref b3, .int (nI tcn), .int (nI wby), .ref b4, .int (nI pcn), .ref b5, .ref b7])), (b7, .inr (8, [.ref b8, .int (nI dn1)])), (b8, .inl (E.2.1 0, 30000, .inl db1))] ++ im) H locs ∧ (k ≤ t.length) ∧ (dn1 ≤ dn + 1 + 2 * k) ∧ (wB db1 dn1 ((o ++ qO q9) ++ esc (t.take k)))) (fun (k, dn1, db1) => t.length - k) (fun _ => 0) (fun _ => 0) (g := fun (k, dn1, db1) ls => F0 m 15 ls []) (x0 := (0, dn, db)) (ls0 := ls) ?_ ⟨lv_sub hl [0, 1, 2, 3] rfl, h, Nat.zero_le _, by omega, by rw [show esc (t.take 0) = [] from rfl, List.append_nil]; exact hq0⟩
    clear hl h
    intro x9 H locs ls hI ih_1
    obtain ⟨k, dn1, db1⟩ := x9
    obtain ⟨hl, h, hk, hdn1, hw1⟩ := hI
    refine W.eq (g2 := F0 m 15 ls []) rfl ?_
    refine lv_iload_n hx hb dX6_writeWord_15 rfl (lv_at hl 0 rfl) ?_
    refine lv_aload_n hx hb dX6_writeWord_16 rfl (lv_at hl 2 rfl) ?_
    refine ct_callR (ct_runV (As := []) (rest := [.int (nI k)]) B (met_J4_length l E  _ a t H.size) (lw_V q1189 q466 q467 q58 q468) (n := 0) ⟨by decide, by decide, by decide +kernel⟩ rfl ⟨rfl, rfl, (Nat.le_of_ble_eq_true rfl), (Nat.le_of_ble_eq_true rfl), (Nat.le_of_ble_eq_true rfl), (Nat.le_of_ble_eq_true rfl)⟩ h.2.2 hA (ct_Srecv B (hsI.S (ct_Pr h.1))) (hsI.S (ct_Pr h.1)) hl.1 (Nat.le_of_ble_eq_true rfl) dX6_writeWord_17) (fun v hv => ?_)
    subst hv
    refine W.eq (g2 := F0 m 20 ls [.int (nI t.length), .int (nI k)]) rfl ?_
    refine n_icmp_ge (tgt := 60) hx hb dX6_writeWord_20 (by decide) (by omega) (by omega) (fun c_2 => ?_) (fun c_2 => ?_)
    · refine lv_iload_n hx hb dX6_writeWord_60 rfl (lv_at hl 3 rfl) ?_
      refine n_if_eq (tgt := 73) hx hb dX6_writeWord_61 (by decide) (by omega) (fun cq2 => ?_) (fun cq2 => ?_)
      · have hkt : k = t.length := by omega
        have hwe : wB db1 dn1 ((o ++ qO q9) ++ esc t) := by rw [hkt, List.take_length] at hw1; exact hw1
        have h : Hs E A s.heap ([(b0, .inr (6, [.ref b1, .int (nI trayed), .int (nI fed), .int place, .ref b2, .ref b3, .int (nI tcn), .int (nI wby), .ref b4, .int (nI pcn), .ref b5, .ref b7])), (b7, .inr (8, [.ref b8, .int (nI dn1)])), (b8, .inl (E.2.1 0, 30000, .inl db1))] ++ im) H locs := h
        exact ct_vret B h.2.2 ⟨dn1, db1, rfl, h.1, h.2.1, by rw [say_q hq, show qO q9 = [] from if_pos cq2, List.append_nil, List.nil_append]; rw [show qO q9 = [] from if_pos cq2, List.append_nil] at hwe; exact hwe⟩ dX6_writeWord_73
      · refine lv_aload_n hx hb dX6_writeWord_64 rfl (lv_at hl 1 rfl) ?_
        refine ct_get (v := .ref b7) B h.1 kX6 0 rfl 11 (Nat.le_of_ble_eq_true rfl) q738 rfl dX6_writeWord_65 ?_
        refine lv_bipush (v := nI 34) hx hb dX6_writeWord_68 (by decide) ?_
        have h : Hs E A s.heap ([(b7, .inr (8, [.ref b8, .int (nI dn1)])), (b8, .inl (E.2.1 0, 30000, .inl db1)), (b0, .inr (6, [.ref b1, .int (nI trayed), .int (nI fed), .int place, .ref b2, .ref b3, .int (nI tcn), .int (nI wby), .ref b4, .int (nI pcn), .ref b5, .ref b7]))] ++ im) H locs := ct_part h [1, 2, 0] rfl rfl
        have h : Hs E A s.heap ([(b7, .inr (8, [.ref b8, .int (nI dn1)])), (b8, .inl (E.2.1 0, 30000, .inl db1))] ++ ([(b0, .inr (6, [.ref b1, .int (nI trayed), .int (nI fed), .int place, .ref b2, .ref b3, .int (nI tcn), .int (nI wby), .ref b4, .int (nI pcn), .ref b5, .ref b7]))] ++ im)) H locs := h
        refine ct_callQ (ct_runV (As := [.int (nI 34)]) (rest := []) B (met_X8_add l E b7 b8 dn1 db1 34 H.size (by omega) (by omega)) (lw_V q1326 q1327 q1328 q56 q1329) (n := 1) ⟨by decide, by decide, by decide +kernel⟩ rfl ⟨rfl, rfl, (Nat.le_of_ble_eq_true rfl), (Nat.le_of_ble_eq_true rfl), (Nat.le_of_ble_eq_true rfl), (Nat.le_of_ble_eq_true rfl)⟩ h.2.2 hA (ct_recv B h.1 kX8 0 rfl) ⟨(ct_Pl h.1), (ct_Dl (ct_D0 h hA))⟩ hl.1 (Nat.le_of_ble_eq_true rfl) dX6_writeWord_70) h.2.2 (ct_subL h hAn) (ct_subL h hAn) (fun v H locs hv hz hk hS => ?_)
        obtain ⟨f_d, rfl, hP1, hD1, hf_d⟩ := hv
        have h : Hs E A s.heap ([(b7, .inr (8, [.ref b8, .int (nI (dn1 + 1))])), (b8, .inl (E.2.1 0, 30000, .inl f_d))] ++ ([(b0, .inr (6, [.ref b1, .int (nI trayed), .int (nI fed), .int place, .ref b2, .ref b3, .int (nI tcn), .int (nI wby), .ref b4, .int (nI pcn), .ref b5, .ref b7]))] ++ im)) H locs := ct_frL h hP1 hD1 hk hS hAn
        have h : Hs E A s.heap ([(b7, .inr (8, [.ref b8, .int (nI (dn1 + 1))])), (b8, .inl (E.2.1 0, 30000, .inl f_d)), (b0, .inr (6, [.ref b1, .int (nI trayed), .int (nI fed), .int place, .ref b2, .ref b3, .int (nI tcn), .int (nI wby), .ref b4, .int (nI pcn), .ref b5, .ref b7]))] ++ im) H locs := h
        clear hP1 hD1 hS hz hk
        refine W.eq (g2 := F0 m 73 ls []) rfl ?_
        have hkt : k = t.length := by omega
        have hwe : wB db1 dn1 ((o ++ qO q9) ++ esc t) := by rw [hkt, List.take_length] at hw1; exact hw1
        have h : Hs E A s.heap ([(b0, .inr (6, [.ref b1, .int (nI trayed), .int (nI fed), .int place, .ref b2, .ref b3, .int (nI tcn), .int (nI wby), .ref b4, .int (nI pcn), .ref b5, .ref b7])), (b7, .inr (8, [.ref b8, .int (nI (dn1 + 1))])), (b8, .inl (E.2.1 0, 30000, .inl f_d))] ++ im) H locs := ct_part h [2, 0, 1] rfl rfl
        exact ct_vret B h.2.2 ⟨(dn1 + 1), f_d, rfl, h.1, h.2.1, by rw [say_q hq, show qO q9 = [34] from if_neg (by omega), hf_d, show o ++ ([34] ++ (esc t ++ [34])) = ((o ++ [34]) ++ esc t) ++ [34] from by simp only [List.append_assoc]]; exact wB_add (by rw [show qO q9 = [34] from if_neg (by omega)] at hwe; exact hwe)⟩ dX6_writeWord_73
    · refine lv_aload_n hx hb dX6_writeWord_23 rfl (lv_at hl 2 rfl) ?_
      refine lv_iload_n hx hb dX6_writeWord_24 rfl (lv_at hl 0 rfl) ?_
      refine ct_callR (ct_runV (As := [.int (nI k)]) (rest := []) B (met_J4_charAt l E  _ a k t H.size (by omega)) (lw_V q1190 q476 q477 q58 q478) (n := 1) ⟨by decide, by decide, by decide +kernel⟩ rfl ⟨rfl, rfl, (Nat.le_of_ble_eq_true rfl), (Nat.le_of_ble_eq_true rfl), (Nat.le_of_ble_eq_true rfl), (Nat.le_of_ble_eq_true rfl)⟩ h.2.2 hA (ct_Srecv B (hsI.S (ct_Pr h.1))) (hsI.S (ct_Pr h.1)) hl.1 (Nat.le_of_ble_eq_true rfl) dX6_writeWord_25) (fun v hv => ?_)
      subst hv
      refine W.eq (g2 := F0 m 28 ls [.int (nI (t.getD k 0))]) rfl ?_
      refine lv_bipush (v := nI 34) hx hb dX6_writeWord_28 (by decide) ?_
      refine n_icmp_ne (tgt := 42) hx hb dX6_writeWord_30 (by decide) (by have := tx_lt hs0.2 k; omega) (by omega) (fun c34 => ?_) (fun c34 => ?_)
      · refine lv_aload_n hx hb dX6_writeWord_42 rfl (lv_at hl 1 rfl) ?_
        refine ct_get (v := .ref b7) B h.1 kX6 0 rfl 11 (Nat.le_of_ble_eq_true rfl) q738 rfl dX6_writeWord_43 ?_
        refine lv_aload_n hx hb dX6_writeWord_46 rfl (lv_at hl 2 rfl) ?_
        refine lv_iload_n hx hb dX6_writeWord_47 rfl (lv_at hl 0 rfl) ?_
        refine ct_callR (ct_runV (As := [.int (nI k)]) (rest := [.ref b7]) B (met_J4_charAt l E  _ a k t H.size (by omega)) (lw_V q1190 q476 q477 q58 q478) (n := 1) ⟨by decide, by decide, by decide +kernel⟩ rfl ⟨rfl, rfl, (Nat.le_of_ble_eq_true rfl), (Nat.le_of_ble_eq_true rfl), (Nat.le_of_ble_eq_true rfl), (Nat.le_of_ble_eq_true rfl)⟩ h.2.2 hA (ct_Srecv B (hsI.S (ct_Pr h.1))) (hsI.S (ct_Pr h.1)) hl.1 (Nat.le_of_ble_eq_true rfl) dX6_writeWord_48) (fun v hv => ?_)
        subst hv
        refine W.eq (g2 := F0 m 51 ls [.int (nI (t.getD k 0)), .ref b7]) rfl ?_
        have h : Hs E A s.heap ([(b7, .inr (8, [.ref b8, .int (nI dn1)])), (b8, .inl (E.2.1 0, 30000, .inl db1)), (b0, .inr (6, [.ref b1, .int (nI trayed), .int (nI fed), .int place, .ref b2, .ref b3, .int (nI tcn), .int (nI wby), .ref b4, .int (nI pcn), .ref b5, .ref b7]))] ++ im) H locs := ct_part h [1, 2, 0] rfl rfl
        have h : Hs E A s.heap ([(b7, .inr (8, [.ref b8, .int (nI dn1)])), (b8, .inl (E.2.1 0, 30000, .inl db1))] ++ ([(b0, .inr (6, [.ref b1, .int (nI trayed), .int (nI fed), .int place, .ref b2, .ref b3, .int (nI tcn), .int (nI wby), .ref b4, .int (nI pcn), .ref b5, .ref b7]))] ++ im)) H locs := h
        refine ct_callQ (ct_runV (As := [.int (nI (t.getD k 0))]) (rest := []) B (met_X8_add l E b7 b8 dn1 db1 (t.getD k 0) H.size (tx_lt hs0.2 k) (by omega)) (lw_V q1326 q1327 q1328 q56 q1329) (n := 1) ⟨by decide, by decide, by decide +kernel⟩ rfl ⟨rfl, rfl, (Nat.le_of_ble_eq_true rfl), (Nat.le_of_ble_eq_true rfl), (Nat.le_of_ble_eq_true rfl), (Nat.le_of_ble_eq_true rfl)⟩ h.2.2 hA (ct_recv B h.1 kX8 0 rfl) ⟨(ct_Pl h.1), (ct_Dl (ct_D0 h hA))⟩ hl.1 (Nat.le_of_ble_eq_true rfl) dX6_writeWord_51) h.2.2 (ct_subL h hAn) (ct_subL h hAn) (fun v H locs hv hz hk hS => ?_)
        obtain ⟨f_c, rfl, hP1, hD1, hf_c⟩ := hv
        have h : Hs E A s.heap ([(b7, .inr (8, [.ref b8, .int (nI (dn1 + 1))])), (b8, .inl (E.2.1 0, 30000, .inl f_c))] ++ ([(b0, .inr (6, [.ref b1, .int (nI trayed), .int (nI fed), .int place, .ref b2, .ref b3, .int (nI tcn), .int (nI wby), .ref b4, .int (nI pcn), .ref b5, .ref b7]))] ++ im)) H locs := ct_frL h hP1 hD1 hk hS hAn
        have h : Hs E A s.heap ([(b7, .inr (8, [.ref b8, .int (nI (dn1 + 1))])), (b8, .inl (E.2.1 0, 30000, .inl f_c)), (b0, .inr (6, [.ref b1, .int (nI trayed), .int (nI fed), .int place, .ref b2, .ref b3, .int (nI tcn), .int (nI wby), .ref b4, .int (nI pcn), .ref b5, .ref b7]))] ++ im) H locs := h
        clear hP1 hD1 hS hz hk
        refine W.eq (g2 := F0 m 54 ls []) rfl ?_
        refine n_iinc (n := 1) (lv' := [(3, .int (nI (k + 1))), (0, .ref b0), (1, .ref a), (2, .int (nI q9))]) hx hb dX6_writeWord_54 hl (k := 0) rfl rfl (by decide) (by decide) rfl (fun ls hl => ?_)
        refine lv_goto (tgt := 15) hx hb dX6_writeWord_57 (by decide) ?_
        have h : Hs E A s.heap ([(b0, .inr (6, [.ref b1, .int (nI trayed), .int (nI fed), .int place, .ref b2, .ref b3, .int (nI tcn), .int (nI wby), .ref b4, .int (nI pcn), .ref b5, .ref b7])), (b7, .inr (8, [.ref b8, .int (nI (dn1 + 1))])), (b8, .inl (E.2.1 0, 30000, .inl f_c))] ++ im) H locs := ct_part h [2, 0, 1] rfl rfl
        exact ih_1 ((k + 1), (dn1 + 1), f_c) H locs ls (by dsimp only; omega) ⟨lv_sub hl [0, 1, 2, 3] rfl, h, by omega, by omega, by rw [esc_S (by omega), show esc1 (t.getD k 0) = [t.getD k 0] from if_neg c34, hf_c, ← List.append_assoc]; exact wB_add hw1⟩
      · refine lv_aload_n hx hb dX6_writeWord_33 rfl (lv_at hl 1 rfl) ?_
        refine ct_get (v := .ref b7) B h.1 kX6 0 rfl 11 (Nat.le_of_ble_eq_true rfl) q738 rfl dX6_writeWord_34 ?_
        refine lv_bipush (v := nI 34) hx hb dX6_writeWord_37 (by decide) ?_
        have h : Hs E A s.heap ([(b7, .inr (8, [.ref b8, .int (nI dn1)])), (b8, .inl (E.2.1 0, 30000, .inl db1)), (b0, .inr (6, [.ref b1, .int (nI trayed), .int (nI fed), .int place, .ref b2, .ref b3, .int (nI tcn), .int (nI wby), .ref b4, .int (nI pcn), .ref b5, .ref b7]))] ++ im) H locs := ct_part h [1, 2, 0] rfl rfl
        have h : Hs E A s.heap ([(b7, .inr (8, [.ref b8, .int (nI dn1)])), (b8, .inl (E.2.1 0, 30000, .inl db1))] ++ ([(b0, .inr (6, [.ref b1, .int (nI trayed), .int (nI fed), .int place, .ref b2, .ref b3, .int (nI tcn), .int (nI wby), .ref b4, .int (nI pcn), .ref b5, .ref b7]))] ++ im)) H locs := h
        refine ct_callQ (ct_runV (As := [.int (nI 34)]) (rest := []) B (met_X8_add l E b7 b8 dn1 db1 34 H.size (by omega) (by omega)) (lw_V q1326 q1327 q1328 q56 q1329) (n := 1) ⟨by decide, by decide, by decide +kernel⟩ rfl ⟨rfl, rfl, (Nat.le_of_ble_eq_true rfl), (Nat.le_of_ble_eq_true rfl), (Nat.le_of_ble_eq_true rfl), (Nat.le_of_ble_eq_true rfl)⟩ h.2.2 hA (ct_recv B h.1 kX8 0 rfl) ⟨(ct_Pl h.1), (ct_Dl (ct_D0 h hA))⟩ hl.1 (Nat.le_of_ble_eq_true rfl) dX6_writeWord_39) h.2.2 (ct_subL h hAn) (ct_subL h hAn) (fun v H locs hv hz hk hS => ?_)
        obtain ⟨f_b, rfl, hP1, hD1, hf_b⟩ := hv
        have h : Hs E A s.heap ([(b7, .inr (8, [.ref b8, .int (nI (dn1 + 1))])), (b8, .inl (E.2.1 0, 30000, .inl f_b))] ++ ([(b0, .inr (6, [.ref b1, .int (nI trayed), .int (nI fed), .int place, .ref b2, .ref b3, .int (nI tcn), .int (nI wby), .ref b4, .int (nI pcn), .ref b5, .ref b7]))] ++ im)) H locs := ct_frL h hP1 hD1 hk hS hAn
        have h : Hs E A s.heap ([(b7, .inr (8, [.ref b8, .int (nI (dn1 + 1))])), (b8, .inl (E.2.1 0, 30000, .inl f_b)), (b0, .inr (6, [.ref b1, .int (nI trayed), .int (nI fed), .int place, .ref b2, .ref b3, .int (nI tcn), .int (nI wby), .ref b4, .int (nI pcn), .ref b5, .ref b7]))] ++ im) H locs := h
        clear hP1 hD1 hS hz hk
        refine W.eq (g2 := F0 m 42 ls []) rfl ?_
        refine lv_aload_n hx hb dX6_writeWord_42 rfl (lv_at hl 1 rfl) ?_
        refine ct_get (v := .ref b7) B h.1 kX6 2 rfl 11 (Nat.le_of_ble_eq_true rfl) q738 rfl dX6_writeWord_43 ?_
        refine lv_aload_n hx hb dX6_writeWord_46 rfl (lv_at hl 2 rfl) ?_
        refine lv_iload_n hx hb dX6_writeWord_47 rfl (lv_at hl 0 rfl) ?_
        refine ct_callR (ct_runV (As := [.int (nI k)]) (rest := [.ref b7]) B (met_J4_charAt l E  _ a k t H.size (by omega)) (lw_V q1190 q476 q477 q58 q478) (n := 1) ⟨by decide, by decide, by decide +kernel⟩ rfl ⟨rfl, rfl, (Nat.le_of_ble_eq_true rfl), (Nat.le_of_ble_eq_true rfl), (Nat.le_of_ble_eq_true rfl), (Nat.le_of_ble_eq_true rfl)⟩ h.2.2 hA (ct_Srecv B (hsI.S (ct_Pr h.1))) (hsI.S (ct_Pr h.1)) hl.1 (Nat.le_of_ble_eq_true rfl) dX6_writeWord_48) (fun v hv => ?_)
        subst hv
        refine W.eq (g2 := F0 m 51 ls [.int (nI (t.getD k 0)), .ref b7]) rfl ?_
        have h : Hs E A s.heap ([(b7, .inr (8, [.ref b8, .int (nI (dn1 + 1))])), (b8, .inl (E.2.1 0, 30000, .inl f_b))] ++ ([(b0, .inr (6, [.ref b1, .int (nI trayed), .int (nI fed), .int place, .ref b2, .ref b3, .int (nI tcn), .int (nI wby), .ref b4, .int (nI pcn), .ref b5, .ref b7]))] ++ im)) H locs := h
        refine ct_callQ (ct_runV (As := [.int (nI (t.getD k 0))]) (rest := []) B (met_X8_add l E b7 b8 (dn1 + 1) f_b (t.getD k 0) H.size (tx_lt hs0.2 k) (by omega)) (lw_V q1326 q1327 q1328 q56 q1329) (n := 1) ⟨by decide, by decide, by decide +kernel⟩ rfl ⟨rfl, rfl, (Nat.le_of_ble_eq_true rfl), (Nat.le_of_ble_eq_true rfl), (Nat.le_of_ble_eq_true rfl), (Nat.le_of_ble_eq_true rfl)⟩ h.2.2 hA (ct_recv B h.1 kX8 0 rfl) ⟨(ct_Pl h.1), (ct_Dl (ct_D0 h hA))⟩ hl.1 (Nat.le_of_ble_eq_true rfl) dX6_writeWord_51) h.2.2 (ct_subL h hAn) (ct_subL h hAn) (fun v H locs hv hz hk hS => ?_)
        obtain ⟨f_c, rfl, hP1, hD1, hf_c⟩ := hv
        have h : Hs E A s.heap ([(b7, .inr (8, [.ref b8, .int (nI ((dn1 + 1) + 1))])), (b8, .inl (E.2.1 0, 30000, .inl f_c))] ++ ([(b0, .inr (6, [.ref b1, .int (nI trayed), .int (nI fed), .int place, .ref b2, .ref b3, .int (nI tcn), .int (nI wby), .ref b4, .int (nI pcn), .ref b5, .ref b7]))] ++ im)) H locs := ct_frL h hP1 hD1 hk hS hAn
        have h : Hs E A s.heap ([(b7, .inr (8, [.ref b8, .int (nI ((dn1 + 1) + 1))])), (b8, .inl (E.2.1 0, 30000, .inl f_c)), (b0, .inr (6, [.ref b1, .int (nI trayed), .int (nI fed), .int place, .ref b2, .ref b3, .int (nI tcn), .int (nI wby), .ref b4, .int (nI pcn), .ref b5, .ref b7]))] ++ im) H locs := h
        clear hP1 hD1 hS hz hk
        refine W.eq (g2 := F0 m 54 ls []) rfl ?_
        refine n_iinc (n := 1) (lv' := [(3, .int (nI (k + 1))), (0, .ref b0), (1, .ref a), (2, .int (nI q9))]) hx hb dX6_writeWord_54 hl (k := 0) rfl rfl (by decide) (by decide) rfl (fun ls hl => ?_)
        refine lv_goto (tgt := 15) hx hb dX6_writeWord_57 (by decide) ?_
        have h : Hs E A s.heap ([(b0, .inr (6, [.ref b1, .int (nI trayed), .int (nI fed), .int place, .ref b2, .ref b3, .int (nI tcn), .int (nI wby), .ref b4, .int (nI pcn), .ref b5, .ref b7])), (b7, .inr (8, [.ref b8, .int (nI ((dn1 + 1) + 1))])), (b8, .inl (E.2.1 0, 30000, .inl f_c))] ++ im) H locs := ct_part h [2, 0, 1] rfl rfl
        exact ih_1 ((k + 1), ((dn1 + 1) + 1), f_c) H locs ls (by dsimp only; omega) ⟨lv_sub hl [0, 1, 2, 3] rfl, h, by omega, by omega, by rw [esc_S (by omega), show esc1 (t.getD k 0) = [34, t.getD k 0] from by unfold esc1; rw [if_pos c34, c34], hf_c, hf_b, show (o ++ qO q9) ++ (esc (t.take k) ++ [34, t.getD k 0]) = (((o ++ qO q9) ++ esc (t.take k)) ++ [34]) ++ [t.getD k 0] from by simp only [List.append_assoc, List.cons_append, List.nil_append]]; exact wB_add (wB_add hw1)⟩
  · refine lv_aload_n hx hb dX6_writeWord_4 rfl (lv_at hl 0 rfl) ?_
    refine ct_get (v := .ref b7) B h.1 kX6 0 rfl 11 (Nat.le_of_ble_eq_true rfl) q738 rfl dX6_writeWord_5 ?_
    refine lv_bipush (v := nI 34) hx hb dX6_writeWord_8 (by decide) ?_
    have h : Hs E A s.heap ([(b7, .inr (8, [.ref b8, .int (nI dn)])), (b8, .inl (E.2.1 0, 30000, .inl db)), (b0, .inr (6, [.ref b1, .int (nI trayed), .int (nI fed), .int place, .ref b2, .ref b3, .int (nI tcn), .int (nI wby), .ref b4, .int (nI pcn), .ref b5, .ref b7]))] ++ im) H locs := ct_part h [1, 2, 0] rfl rfl
    have h : Hs E A s.heap ([(b7, .inr (8, [.ref b8, .int (nI dn)])), (b8, .inl (E.2.1 0, 30000, .inl db))] ++ ([(b0, .inr (6, [.ref b1, .int (nI trayed), .int (nI fed), .int place, .ref b2, .ref b3, .int (nI tcn), .int (nI wby), .ref b4, .int (nI pcn), .ref b5, .ref b7]))] ++ im)) H locs := h
    refine ct_callQ (ct_runV (As := [.int (nI 34)]) (rest := []) B (met_X8_add l E b7 b8 dn db 34 H.size (by omega) (by omega)) (lw_V q1326 q1327 q1328 q56 q1329) (n := 1) ⟨by decide, by decide, by decide +kernel⟩ rfl ⟨rfl, rfl, (Nat.le_of_ble_eq_true rfl), (Nat.le_of_ble_eq_true rfl), (Nat.le_of_ble_eq_true rfl), (Nat.le_of_ble_eq_true rfl)⟩ h.2.2 hA (ct_recv B h.1 kX8 0 rfl) ⟨(ct_Pl h.1), (ct_Dl (ct_D0 h hA))⟩ hl.1 (Nat.le_of_ble_eq_true rfl) dX6_writeWord_10) h.2.2 (ct_subL h hAn) (ct_subL h hAn) (fun v H locs hv hz hk hS => ?_)
    obtain ⟨f_a, rfl, hP1, hD1, hf_a⟩ := hv
    have h : Hs E A s.heap ([(b7, .inr (8, [.ref b8, .int (nI (dn + 1))])), (b8, .inl (E.2.1 0, 30000, .inl f_a))] ++ ([(b0, .inr (6, [.ref b1, .int (nI trayed), .int (nI fed), .int place, .ref b2, .ref b3, .int (nI tcn), .int (nI wby), .ref b4, .int (nI pcn), .ref b5, .ref b7]))] ++ im)) H locs := ct_frL h hP1 hD1 hk hS hAn
    have h : Hs E A s.heap ([(b7, .inr (8, [.ref b8, .int (nI (dn + 1))])), (b8, .inl (E.2.1 0, 30000, .inl f_a)), (b0, .inr (6, [.ref b1, .int (nI trayed), .int (nI fed), .int place, .ref b2, .ref b3, .int (nI tcn), .int (nI wby), .ref b4, .int (nI pcn), .ref b5, .ref b7]))] ++ im) H locs := h
    clear hP1 hD1 hS hz hk
    refine W.eq (g2 := F0 m 13 ls []) rfl ?_
    have hq0 : wB f_a (dn + 1) (o ++ qO q9) := by rw [show qO q9 = [34] from if_neg (by omega), hf_a]; exact wB_add hw
    have hb0 : (dn + 1) ≤ dn + 1 := by omega
    refine lv_iconst (v := nI 0) hx hb dX6_writeWord_13 (by decide) ?_
    refine lv_istore_n (lv' := [(3, .int (nI 0)), (0, .ref b0), (1, .ref a), (2, .int (nI q9))]) hx hb dX6_writeWord_14 rfl hl (by decide) rfl (fun ls hl => ?_)
    have h : Hs E A s.heap ([(b0, .inr (6, [.ref b1, .int (nI trayed), .int (nI fed), .int place, .ref b2, .ref b3, .int (nI tcn), .int (nI wby), .ref b4, .int (nI pcn), .ref b5, .ref b7])), (b7, .inr (8, [.ref b8, .int (nI (dn + 1))])), (b8, .inl (E.2.1 0, 30000, .inl f_a))] ++ im) H locs := ct_part h [2, 0, 1] rfl rfl
    refine ct_loopH (σ := Nat × Nat × (Nat → Int32)) (fun (k, dn1, db1) H locs ls => lv_has ls 4 [(3, .int (nI k)), (0, .ref b0), (1, .ref a), (2, .int (nI q9))] ∧ Hs E A s.heap ([(b0, .inr (6, [.ref b1, .int (nI trayed), .int (nI fed), .int place, .ref b2, .ref b3, .int (nI tcn), .int (nI wby), .ref b4, .int (nI pcn), .ref b5, .ref b7])), (b7, .inr (8, [.ref b8, .int (nI dn1)])), (b8, .inl (E.2.1 0, 30000, .inl db1))] ++ im) H locs ∧ (k ≤ t.length) ∧ (dn1 ≤ dn + 1 + 2 * k) ∧ (wB db1 dn1 ((o ++ qO q9) ++ esc (t.take k)))) (fun (k, dn1, db1) => t.length - k) (fun _ => 0) (fun _ => 0) (g := fun (k, dn1, db1) ls => F0 m 15 ls []) (x0 := (0, (dn + 1), f_a)) (ls0 := ls) ?_ ⟨lv_sub hl [0, 1, 2, 3] rfl, h, Nat.zero_le _, by omega, by rw [show esc (t.take 0) = [] from rfl, List.append_nil]; exact hq0⟩
    clear hl h
    intro x9 H locs ls hI ih_3
    obtain ⟨k, dn1, db1⟩ := x9
    obtain ⟨hl, h, hk, hdn1, hw1⟩ := hI
    refine W.eq (g2 := F0 m 15 ls []) rfl ?_
    refine lv_iload_n hx hb dX6_writeWord_15 rfl (lv_at hl 0 rfl) ?_
    refine lv_aload_n hx hb dX6_writeWord_16 rfl (lv_at hl 2 rfl) ?_
    refine ct_callR (ct_runV (As := []) (rest := [.int (nI k)]) B (met_J4_length l E  _ a t H.size) (lw_V q1189 q466 q467 q58 q468) (n := 0) ⟨by decide, by decide, by decide +kernel⟩ rfl ⟨rfl, rfl, (Nat.le_of_ble_eq_true rfl), (Nat.le_of_ble_eq_true rfl), (Nat.le_of_ble_eq_true rfl), (Nat.le_of_ble_eq_true rfl)⟩ h.2.2 hA (ct_Srecv B (hsI.S (ct_Pr h.1))) (hsI.S (ct_Pr h.1)) hl.1 (Nat.le_of_ble_eq_true rfl) dX6_writeWord_17) (fun v hv => ?_)
    subst hv
    refine W.eq (g2 := F0 m 20 ls [.int (nI t.length), .int (nI k)]) rfl ?_
    refine n_icmp_ge (tgt := 60) hx hb dX6_writeWord_20 (by decide) (by omega) (by omega) (fun c_4 => ?_) (fun c_4 => ?_)
    · refine lv_iload_n hx hb dX6_writeWord_60 rfl (lv_at hl 3 rfl) ?_
      refine n_if_eq (tgt := 73) hx hb dX6_writeWord_61 (by decide) (by omega) (fun cq2 => ?_) (fun cq2 => ?_)
      · have hkt : k = t.length := by omega
        have hwe : wB db1 dn1 ((o ++ qO q9) ++ esc t) := by rw [hkt, List.take_length] at hw1; exact hw1
        have h : Hs E A s.heap ([(b0, .inr (6, [.ref b1, .int (nI trayed), .int (nI fed), .int place, .ref b2, .ref b3, .int (nI tcn), .int (nI wby), .ref b4, .int (nI pcn), .ref b5, .ref b7])), (b7, .inr (8, [.ref b8, .int (nI dn1)])), (b8, .inl (E.2.1 0, 30000, .inl db1))] ++ im) H locs := h
        exact ct_vret B h.2.2 ⟨dn1, db1, rfl, h.1, h.2.1, by rw [say_q hq, show qO q9 = [] from if_pos cq2, List.append_nil, List.nil_append]; rw [show qO q9 = [] from if_pos cq2, List.append_nil] at hwe; exact hwe⟩ dX6_writeWord_73
      · refine lv_aload_n hx hb dX6_writeWord_64 rfl (lv_at hl 1 rfl) ?_
        refine ct_get (v := .ref b7) B h.1 kX6 0 rfl 11 (Nat.le_of_ble_eq_true rfl) q738 rfl dX6_writeWord_65 ?_
        refine lv_bipush (v := nI 34) hx hb dX6_writeWord_68 (by decide) ?_
        have h : Hs E A s.heap ([(b7, .inr (8, [.ref b8, .int (nI dn1)])), (b8, .inl (E.2.1 0, 30000, .inl db1)), (b0, .inr (6, [.ref b1, .int (nI trayed), .int (nI fed), .int place, .ref b2, .ref b3, .int (nI tcn), .int (nI wby), .ref b4, .int (nI pcn), .ref b5, .ref b7]))] ++ im) H locs := ct_part h [1, 2, 0] rfl rfl
        have h : Hs E A s.heap ([(b7, .inr (8, [.ref b8, .int (nI dn1)])), (b8, .inl (E.2.1 0, 30000, .inl db1))] ++ ([(b0, .inr (6, [.ref b1, .int (nI trayed), .int (nI fed), .int place, .ref b2, .ref b3, .int (nI tcn), .int (nI wby), .ref b4, .int (nI pcn), .ref b5, .ref b7]))] ++ im)) H locs := h
        refine ct_callQ (ct_runV (As := [.int (nI 34)]) (rest := []) B (met_X8_add l E b7 b8 dn1 db1 34 H.size (by omega) (by omega)) (lw_V q1326 q1327 q1328 q56 q1329) (n := 1) ⟨by decide, by decide, by decide +kernel⟩ rfl ⟨rfl, rfl, (Nat.le_of_ble_eq_true rfl), (Nat.le_of_ble_eq_true rfl), (Nat.le_of_ble_eq_true rfl), (Nat.le_of_ble_eq_true rfl)⟩ h.2.2 hA (ct_recv B h.1 kX8 0 rfl) ⟨(ct_Pl h.1), (ct_Dl (ct_D0 h hA))⟩ hl.1 (Nat.le_of_ble_eq_true rfl) dX6_writeWord_70) h.2.2 (ct_subL h hAn) (ct_subL h hAn) (fun v H locs hv hz hk hS => ?_)
        obtain ⟨f_d, rfl, hP1, hD1, hf_d⟩ := hv
        have h : Hs E A s.heap ([(b7, .inr (8, [.ref b8, .int (nI (dn1 + 1))])), (b8, .inl (E.2.1 0, 30000, .inl f_d))] ++ ([(b0, .inr (6, [.ref b1, .int (nI trayed), .int (nI fed), .int place, .ref b2, .ref b3, .int (nI tcn), .int (nI wby), .ref b4, .int (nI pcn), .ref b5, .ref b7]))] ++ im)) H locs := ct_frL h hP1 hD1 hk hS hAn
        have h : Hs E A s.heap ([(b7, .inr (8, [.ref b8, .int (nI (dn1 + 1))])), (b8, .inl (E.2.1 0, 30000, .inl f_d)), (b0, .inr (6, [.ref b1, .int (nI trayed), .int (nI fed), .int place, .ref b2, .ref b3, .int (nI tcn), .int (nI wby), .ref b4, .int (nI pcn), .ref b5, .ref b7]))] ++ im) H locs := h
        clear hP1 hD1 hS hz hk
        refine W.eq (g2 := F0 m 73 ls []) rfl ?_
        have hkt : k = t.length := by omega
        have hwe : wB db1 dn1 ((o ++ qO q9) ++ esc t) := by rw [hkt, List.take_length] at hw1; exact hw1
        have h : Hs E A s.heap ([(b0, .inr (6, [.ref b1, .int (nI trayed), .int (nI fed), .int place, .ref b2, .ref b3, .int (nI tcn), .int (nI wby), .ref b4, .int (nI pcn), .ref b5, .ref b7])), (b7, .inr (8, [.ref b8, .int (nI (dn1 + 1))])), (b8, .inl (E.2.1 0, 30000, .inl f_d))] ++ im) H locs := ct_part h [2, 0, 1] rfl rfl
        exact ct_vret B h.2.2 ⟨(dn1 + 1), f_d, rfl, h.1, h.2.1, by rw [say_q hq, show qO q9 = [34] from if_neg (by omega), hf_d, show o ++ ([34] ++ (esc t ++ [34])) = ((o ++ [34]) ++ esc t) ++ [34] from by simp only [List.append_assoc]]; exact wB_add (by rw [show qO q9 = [34] from if_neg (by omega)] at hwe; exact hwe)⟩ dX6_writeWord_73
    · refine lv_aload_n hx hb dX6_writeWord_23 rfl (lv_at hl 2 rfl) ?_
      refine lv_iload_n hx hb dX6_writeWord_24 rfl (lv_at hl 0 rfl) ?_
      refine ct_callR (ct_runV (As := [.int (nI k)]) (rest := []) B (met_J4_charAt l E  _ a k t H.size (by omega)) (lw_V q1190 q476 q477 q58 q478) (n := 1) ⟨by decide, by decide, by decide +kernel⟩ rfl ⟨rfl, rfl, (Nat.le_of_ble_eq_true rfl), (Nat.le_of_ble_eq_true rfl), (Nat.le_of_ble_eq_true rfl), (Nat.le_of_ble_eq_true rfl)⟩ h.2.2 hA (ct_Srecv B (hsI.S (ct_Pr h.1))) (hsI.S (ct_Pr h.1)) hl.1 (Nat.le_of_ble_eq_true rfl) dX6_writeWord_25) (fun v hv => ?_)
      subst hv
      refine W.eq (g2 := F0 m 28 ls [.int (nI (t.getD k 0))]) rfl ?_
      refine lv_bipush (v := nI 34) hx hb dX6_writeWord_28 (by decide) ?_
      refine n_icmp_ne (tgt := 42) hx hb dX6_writeWord_30 (by decide) (by have := tx_lt hs0.2 k; omega) (by omega) (fun c34 => ?_) (fun c34 => ?_)
      · refine lv_aload_n hx hb dX6_writeWord_42 rfl (lv_at hl 1 rfl) ?_
        refine ct_get (v := .ref b7) B h.1 kX6 0 rfl 11 (Nat.le_of_ble_eq_true rfl) q738 rfl dX6_writeWord_43 ?_
        refine lv_aload_n hx hb dX6_writeWord_46 rfl (lv_at hl 2 rfl) ?_
        refine lv_iload_n hx hb dX6_writeWord_47 rfl (lv_at hl 0 rfl) ?_
        refine ct_callR (ct_runV (As := [.int (nI k)]) (rest := [.ref b7]) B (met_J4_charAt l E  _ a k t H.size (by omega)) (lw_V q1190 q476 q477 q58 q478) (n := 1) ⟨by decide, by decide, by decide +kernel⟩ rfl ⟨rfl, rfl, (Nat.le_of_ble_eq_true rfl), (Nat.le_of_ble_eq_true rfl), (Nat.le_of_ble_eq_true rfl), (Nat.le_of_ble_eq_true rfl)⟩ h.2.2 hA (ct_Srecv B (hsI.S (ct_Pr h.1))) (hsI.S (ct_Pr h.1)) hl.1 (Nat.le_of_ble_eq_true rfl) dX6_writeWord_48) (fun v hv => ?_)
        subst hv
        refine W.eq (g2 := F0 m 51 ls [.int (nI (t.getD k 0)), .ref b7]) rfl ?_
        have h : Hs E A s.heap ([(b7, .inr (8, [.ref b8, .int (nI dn1)])), (b8, .inl (E.2.1 0, 30000, .inl db1)), (b0, .inr (6, [.ref b1, .int (nI trayed), .int (nI fed), .int place, .ref b2, .ref b3, .int (nI tcn), .int (nI wby), .ref b4, .int (nI pcn), .ref b5, .ref b7]))] ++ im) H locs := ct_part h [1, 2, 0] rfl rfl
        have h : Hs E A s.heap ([(b7, .inr (8, [.ref b8, .int (nI dn1)])), (b8, .inl (E.2.1 0, 30000, .inl db1))] ++ ([(b0, .inr (6, [.ref b1, .int (nI trayed), .int (nI fed), .int place, .ref b2, .ref b3, .int (nI tcn), .int (nI wby), .ref b4, .int (nI pcn), .ref b5, .ref b7]))] ++ im)) H locs := h
        refine ct_callQ (ct_runV (As := [.int (nI (t.getD k 0))]) (rest := []) B (met_X8_add l E b7 b8 dn1 db1 (t.getD k 0) H.size (tx_lt hs0.2 k) (by omega)) (lw_V q1326 q1327 q1328 q56 q1329) (n := 1) ⟨by decide, by decide, by decide +kernel⟩ rfl ⟨rfl, rfl, (Nat.le_of_ble_eq_true rfl), (Nat.le_of_ble_eq_true rfl), (Nat.le_of_ble_eq_true rfl), (Nat.le_of_ble_eq_true rfl)⟩ h.2.2 hA (ct_recv B h.1 kX8 0 rfl) ⟨(ct_Pl h.1), (ct_Dl (ct_D0 h hA))⟩ hl.1 (Nat.le_of_ble_eq_true rfl) dX6_writeWord_51) h.2.2 (ct_subL h hAn) (ct_subL h hAn) (fun v H locs hv hz hk hS => ?_)
        obtain ⟨f_c, rfl, hP1, hD1, hf_c⟩ := hv
        have h : Hs E A s.heap ([(b7, .inr (8, [.ref b8, .int (nI (dn1 + 1))])), (b8, .inl (E.2.1 0, 30000, .inl f_c))] ++ ([(b0, .inr (6, [.ref b1, .int (nI trayed), .int (nI fed), .int place, .ref b2, .ref b3, .int (nI tcn), .int (nI wby), .ref b4, .int (nI pcn), .ref b5, .ref b7]))] ++ im)) H locs := ct_frL h hP1 hD1 hk hS hAn
        have h : Hs E A s.heap ([(b7, .inr (8, [.ref b8, .int (nI (dn1 + 1))])), (b8, .inl (E.2.1 0, 30000, .inl f_c)), (b0, .inr (6, [.ref b1, .int (nI trayed), .int (nI fed), .int place, .ref b2, .ref b3, .int (nI tcn), .int (nI wby), .ref b4, .int (nI pcn), .ref b5, .ref b7]))] ++ im) H locs := h
        clear hP1 hD1 hS hz hk
        refine W.eq (g2 := F0 m 54 ls []) rfl ?_
        refine n_iinc (n := 1) (lv' := [(3, .int (nI (k + 1))), (0, .ref b0), (1, .ref a), (2, .int (nI q9))]) hx hb dX6_writeWord_54 hl (k := 0) rfl rfl (by decide) (by decide) rfl (fun ls hl => ?_)
        refine lv_goto (tgt := 15) hx hb dX6_writeWord_57 (by decide) ?_
        have h : Hs E A s.heap ([(b0, .inr (6, [.ref b1, .int (nI trayed), .int (nI fed), .int place, .ref b2, .ref b3, .int (nI tcn), .int (nI wby), .ref b4, .int (nI pcn), .ref b5, .ref b7])), (b7, .inr (8, [.ref b8, .int (nI (dn1 + 1))])), (b8, .inl (E.2.1 0, 30000, .inl f_c))] ++ im) H locs := ct_part h [2, 0, 1] rfl rfl
        exact ih_3 ((k + 1), (dn1 + 1), f_c) H locs ls (by dsimp only; omega) ⟨lv_sub hl [0, 1, 2, 3] rfl, h, by omega, by omega, by rw [esc_S (by omega), show esc1 (t.getD k 0) = [t.getD k 0] from if_neg c34, hf_c, ← List.append_assoc]; exact wB_add hw1⟩
      · refine lv_aload_n hx hb dX6_writeWord_33 rfl (lv_at hl 1 rfl) ?_
        refine ct_get (v := .ref b7) B h.1 kX6 0 rfl 11 (Nat.le_of_ble_eq_true rfl) q738 rfl dX6_writeWord_34 ?_
        refine lv_bipush (v := nI 34) hx hb dX6_writeWord_37 (by decide) ?_
        have h : Hs E A s.heap ([(b7, .inr (8, [.ref b8, .int (nI dn1)])), (b8, .inl (E.2.1 0, 30000, .inl db1)), (b0, .inr (6, [.ref b1, .int (nI trayed), .int (nI fed), .int place, .ref b2, .ref b3, .int (nI tcn), .int (nI wby), .ref b4, .int (nI pcn), .ref b5, .ref b7]))] ++ im) H locs := ct_part h [1, 2, 0] rfl rfl
        have h : Hs E A s.heap ([(b7, .inr (8, [.ref b8, .int (nI dn1)])), (b8, .inl (E.2.1 0, 30000, .inl db1))] ++ ([(b0, .inr (6, [.ref b1, .int (nI trayed), .int (nI fed), .int place, .ref b2, .ref b3, .int (nI tcn), .int (nI wby), .ref b4, .int (nI pcn), .ref b5, .ref b7]))] ++ im)) H locs := h
        refine ct_callQ (ct_runV (As := [.int (nI 34)]) (rest := []) B (met_X8_add l E b7 b8 dn1 db1 34 H.size (by omega) (by omega)) (lw_V q1326 q1327 q1328 q56 q1329) (n := 1) ⟨by decide, by decide, by decide +kernel⟩ rfl ⟨rfl, rfl, (Nat.le_of_ble_eq_true rfl), (Nat.le_of_ble_eq_true rfl), (Nat.le_of_ble_eq_true rfl), (Nat.le_of_ble_eq_true rfl)⟩ h.2.2 hA (ct_recv B h.1 kX8 0 rfl) ⟨(ct_Pl h.1), (ct_Dl (ct_D0 h hA))⟩ hl.1 (Nat.le_of_ble_eq_true rfl) dX6_writeWord_39) h.2.2 (ct_subL h hAn) (ct_subL h hAn) (fun v H locs hv hz hk hS => ?_)
        obtain ⟨f_b, rfl, hP1, hD1, hf_b⟩ := hv
        have h : Hs E A s.heap ([(b7, .inr (8, [.ref b8, .int (nI (dn1 + 1))])), (b8, .inl (E.2.1 0, 30000, .inl f_b))] ++ ([(b0, .inr (6, [.ref b1, .int (nI trayed), .int (nI fed), .int place, .ref b2, .ref b3, .int (nI tcn), .int (nI wby), .ref b4, .int (nI pcn), .ref b5, .ref b7]))] ++ im)) H locs := ct_frL h hP1 hD1 hk hS hAn
        have h : Hs E A s.heap ([(b7, .inr (8, [.ref b8, .int (nI (dn1 + 1))])), (b8, .inl (E.2.1 0, 30000, .inl f_b)), (b0, .inr (6, [.ref b1, .int (nI trayed), .int (nI fed), .int place, .ref b2, .ref b3, .int (nI tcn), .int (nI wby), .ref b4, .int (nI pcn), .ref b5, .ref b7]))] ++ im) H locs := h
        clear hP1 hD1 hS hz hk
        refine W.eq (g2 := F0 m 42 ls []) rfl ?_
        refine lv_aload_n hx hb dX6_writeWord_42 rfl (lv_at hl 1 rfl) ?_
        refine ct_get (v := .ref b7) B h.1 kX6 2 rfl 11 (Nat.le_of_ble_eq_true rfl) q738 rfl dX6_writeWord_43 ?_
        refine lv_aload_n hx hb dX6_writeWord_46 rfl (lv_at hl 2 rfl) ?_
        refine lv_iload_n hx hb dX6_writeWord_47 rfl (lv_at hl 0 rfl) ?_
        refine ct_callR (ct_runV (As := [.int (nI k)]) (rest := [.ref b7]) B (met_J4_charAt l E  _ a k t H.size (by omega)) (lw_V q1190 q476 q477 q58 q478) (n := 1) ⟨by decide, by decide, by decide +kernel⟩ rfl ⟨rfl, rfl, (Nat.le_of_ble_eq_true rfl), (Nat.le_of_ble_eq_true rfl), (Nat.le_of_ble_eq_true rfl), (Nat.le_of_ble_eq_true rfl)⟩ h.2.2 hA (ct_Srecv B (hsI.S (ct_Pr h.1))) (hsI.S (ct_Pr h.1)) hl.1 (Nat.le_of_ble_eq_true rfl) dX6_writeWord_48) (fun v hv => ?_)
        subst hv
        refine W.eq (g2 := F0 m 51 ls [.int (nI (t.getD k 0)), .ref b7]) rfl ?_
        have h : Hs E A s.heap ([(b7, .inr (8, [.ref b8, .int (nI (dn1 + 1))])), (b8, .inl (E.2.1 0, 30000, .inl f_b))] ++ ([(b0, .inr (6, [.ref b1, .int (nI trayed), .int (nI fed), .int place, .ref b2, .ref b3, .int (nI tcn), .int (nI wby), .ref b4, .int (nI pcn), .ref b5, .ref b7]))] ++ im)) H locs := h
        refine ct_callQ (ct_runV (As := [.int (nI (t.getD k 0))]) (rest := []) B (met_X8_add l E b7 b8 (dn1 + 1) f_b (t.getD k 0) H.size (tx_lt hs0.2 k) (by omega)) (lw_V q1326 q1327 q1328 q56 q1329) (n := 1) ⟨by decide, by decide, by decide +kernel⟩ rfl ⟨rfl, rfl, (Nat.le_of_ble_eq_true rfl), (Nat.le_of_ble_eq_true rfl), (Nat.le_of_ble_eq_true rfl), (Nat.le_of_ble_eq_true rfl)⟩ h.2.2 hA (ct_recv B h.1 kX8 0 rfl) ⟨(ct_Pl h.1), (ct_Dl (ct_D0 h hA))⟩ hl.1 (Nat.le_of_ble_eq_true rfl) dX6_writeWord_51) h.2.2 (ct_subL h hAn) (ct_subL h hAn) (fun v H locs hv hz hk hS => ?_)
        obtain ⟨f_c, rfl, hP1, hD1, hf_c⟩ := hv
        have h : Hs E A s.heap ([(b7, .inr (8, [.ref b8, .int (nI ((dn1 + 1) + 1))])), (b8, .inl (E.2.1 0, 30000, .inl f_c))] ++ ([(b0, .inr (6, [.ref b1, .int (nI trayed), .int (nI fed), .int place, .ref b2, .ref b3, .int (nI tcn), .int (nI wby), .ref b4, .int (nI pcn), .ref b5, .ref b7]))] ++ im)) H locs := ct_frL h hP1 hD1 hk hS hAn
        have h : Hs E A s.heap ([(b7, .inr (8, [.ref b8, .int (nI ((dn1 + 1) + 1))])), (b8, .inl (E.2.1 0, 30000, .inl f_c)), (b0, .inr (6, [.ref b1, .int (nI trayed), .int (nI fed), .int place, .ref b2, .ref b3, .int (nI tcn), .int (nI wby), .ref b4, .int (nI pcn), .ref b5, .ref b7]))] ++ im) H locs := h
        clear hP1 hD1 hS hz hk
        refine W.eq (g2 := F0 m 54 ls []) rfl ?_
        refine n_iinc (n := 1) (lv' := [(3, .int (nI (k + 1))), (0, .ref b0), (1, .ref a), (2, .int (nI q9))]) hx hb dX6_writeWord_54 hl (k := 0) rfl rfl (by decide) (by decide) rfl (fun ls hl => ?_)
        refine lv_goto (tgt := 15) hx hb dX6_writeWord_57 (by decide) ?_
        have h : Hs E A s.heap ([(b0, .inr (6, [.ref b1, .int (nI trayed), .int (nI fed), .int place, .ref b2, .ref b3, .int (nI tcn), .int (nI wby), .ref b4, .int (nI pcn), .ref b5, .ref b7])), (b7, .inr (8, [.ref b8, .int (nI ((dn1 + 1) + 1))])), (b8, .inl (E.2.1 0, 30000, .inl f_c))] ++ im) H locs := ct_part h [2, 0, 1] rfl rfl
        exact ih_3 ((k + 1), ((dn1 + 1) + 1), f_c) H locs ls (by dsimp only; omega) ⟨lv_sub hl [0, 1, 2, 3] rfl, h, by omega, by omega, by rw [esc_S (by omega), show esc1 (t.getD k 0) = [34, t.getD k 0] from by unfold esc1; rw [if_pos c34, c34], hf_c, hf_b, show (o ++ qO q9) ++ (esc (t.take k) ++ [34, t.getD k 0]) = (((o ++ qO q9) ++ esc (t.take k)) ++ [34]) ++ [t.getD k 0] from by simp only [List.append_assoc, List.cons_append, List.nil_append]]; exact wB_add (wB_add hw1)⟩
