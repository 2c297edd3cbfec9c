set_option maxHeartbeats 4000000 in
set_option maxRecDepth 100000 in
theorem met_X6_isOfLane (l : Launch) (E : CE) (im : va_W) (x ln : Nat) (w_ : Wd) (sz : Nat) (hcx : cI E im x w_) (hln : ln = 0 ∨ ln = 4 ∨ ln = 5 ∨ ln = 7) : Met l yX6_isOfLane (ws_ yX6_isOfLane cX6_isOfLane 2 (some .boolean)) { frames := 6, cells := 0, slots := 0, locals := 137 } (ctP E [.ref x, .int (nI ln)] sz (fun H => va_P E.1 ct_cl im H)) (ctR (fun v => v = some (.int (if missW w_ ∨ takesW ln w_ then 1 else 0)))) 0 0 (fun _ => False) := by
  refine ct_start (by decide) (Nat.le_of_ble_eq_true rfl) ?_
  intro p e s m below meth c ls B hsz hH hl
  have hI := hH
  have hx := B.1
  have hb := B.2.1
  have hl : lv_has ls 2 [(0, .ref x), (1, .int (nI ln))] := hl
  obtain ⟨s9, hx9, hs9⟩ := hcx
  refine lv_aload_n hx hb dX6_isOfLane_0 rfl (lv_at hl 0 rfl) ?_
  refine ct_callR (ct_runV (As := []) (rest := []) B (met_X12_isMissing l E _ x s9 (if w_.2 = true then 1 else 0) w_.1 s.heap.size (by split <;> omega)) (lw_V q1169 q1170 q1171 q74 q1172) (n := 0) ⟨by decide, by decide, by decide +kernel⟩ rfl ⟨rfl, rfl, (Nat.le_of_ble_eq_true rfl), (Nat.le_of_ble_eq_true rfl), (Nat.le_of_ble_eq_true rfl), (Nat.le_of_ble_eq_true rfl)⟩ (va_S.rf (A := fun _ => False)) (fun _ h => h.elim) (ct_recv B (ct_sel hI (by intro z9 h9; rw [List.mem_singleton.mp h9]; exact hx9)) kX12 0 rfl) ⟨((ct_sel hI (by intro z9 h9; rw [List.mem_singleton.mp h9]; exact hx9)).sub [0] rfl), (hs9.S hI)⟩ hl.1 (Nat.le_of_ble_eq_true rfl) dX6_isOfLane_1) (fun v hv => ?_)
  subst hv
  refine W.eq (g2 := F0 m 4 ls [.int (if (if w_.2 = true then 1 else 0) = 0 ∧ w_.1.length = 0 then 1 else 0)]) rfl ?_
  refine b_if_eq (tgt := 9) hx hb dX6_isOfLane_4 (by decide) (fun cm => ?_) (fun cm => ?_)
  · refine lv_aload_n hx hb dX6_isOfLane_9 rfl (lv_at hl 0 rfl) ?_
    refine ct_get (v := .int (nI (if w_.2 = true then 1 else 0))) B (ct_sel hI (by intro z9 h9; rw [List.mem_singleton.mp h9]; exact hx9)) kX12 0 rfl 1 (Nat.le_of_ble_eq_true rfl) q1120 rfl dX6_isOfLane_10 ?_
    refine n_if_eq (tgt := 18) hx hb dX6_isOfLane_13 (by decide) (by split <;> omega) (fun cq => ?_) (fun cq => ?_)
    · refine lv_iload_n hx hb dX6_isOfLane_18 rfl (lv_at hl 1 rfl) ?_
      refine n_if_ne (tgt := 30) hx hb dX6_isOfLane_19 (by decide) (by omega) (fun cl0 => ?_) (fun cl0 => ?_)
      · refine lv_iload_n hx hb dX6_isOfLane_30 rfl (lv_at hl 1 rfl) ?_
        refine lv_bipush (v := nI 7) hx hb dX6_isOfLane_31 (by decide) ?_
        refine n_icmp_ne (tgt := 46) hx hb dX6_isOfLane_33 (by decide) (by omega) (by omega) (fun cl7 => ?_) (fun cl7 => ?_)
        · refine lv_aload_n hx hb dX6_isOfLane_46 rfl (lv_at hl 0 rfl) ?_
          refine ct_get (v := .ref s9) B (ct_sel hI (by intro z9 h9; rw [List.mem_singleton.mp h9]; exact hx9)) kX12 0 rfl 0 (Nat.le_of_ble_eq_true rfl) q1118 rfl dX6_isOfLane_47 ?_
          refine lv_iload_n hx hb dX6_isOfLane_50 rfl (lv_at hl 1 rfl) ?_
          refine ct_callR (ct_runS (As := [.ref s9, .int (nI ln)]) (rest := []) B (met_X6_isWholeWord l E _ s9 ln w_.1 s.heap.size (by omega)) (lw_S q1194 q1195 q54 q1196) (n := 2) ⟨by decide, by decide, by decide +kernel⟩ rfl ⟨rfl, rfl, (Nat.le_of_ble_eq_true rfl), (Nat.le_of_ble_eq_true rfl), (Nat.le_of_ble_eq_true rfl), (Nat.le_of_ble_eq_true rfl)⟩ (va_S.rf (A := fun _ => False)) (fun _ h => h.elim) (hs9.S hI) hl.1 (Nat.le_of_ble_eq_true rfl) dX6_isOfLane_51) (fun v hv => ?_)
          subst hv
          refine W.eq (g2 := F0 m 54 ls [.int (if whW w_.1 ln then 1 else 0)]) rfl ?_
          exact ct_iretR (ty := .boolean) (v := (if whW w_.1 ln then 1 else 0)) B rfl (by split <;> rfl) (by by_cases z9 : whW w_.1 ln; rw [if_pos z9, if_pos (Or.inr ((tk_w (show w_.2 = false by cases e9 : w_.2 with | false => rfl | true => rw [e9] at cq; cases cq) (by omega)).mpr z9))]; rw [if_neg z9, if_neg (by rintro (y9 | y9); exact cm (missW_to y9); exact z9 ((tk_w (show w_.2 = false by cases e9 : w_.2 with | false => rfl | true => rw [e9] at cq; cases cq) (by omega)).mp y9))]) dX6_isOfLane_54
        · refine lv_aload_n hx hb dX6_isOfLane_36 rfl (lv_at hl 0 rfl) ?_
          refine ct_get (v := .ref s9) B (ct_sel hI (by intro z9 h9; rw [List.mem_singleton.mp h9]; exact hx9)) kX12 0 rfl 0 (Nat.le_of_ble_eq_true rfl) q1118 rfl dX6_isOfLane_37 ?_
          refine ct_callR (ct_runS (As := [.ref s9]) (rest := []) B (met_X6_isRealWord l E _ s9 w_.1 s.heap.size) (lw_S q1183 q1184 q54 q1185) (n := 1) ⟨by decide, by decide, by decide +kernel⟩ rfl ⟨rfl, rfl, (Nat.le_of_ble_eq_true rfl), (Nat.le_of_ble_eq_true rfl), (Nat.le_of_ble_eq_true rfl), (Nat.le_of_ble_eq_true rfl)⟩ (va_S.rf (A := fun _ => False)) (fun _ h => h.elim) (hs9.S hI) hl.1 (Nat.le_of_ble_eq_true rfl) dX6_isOfLane_40) (fun v hv => ?_)
          subst hv
          refine W.eq (g2 := F0 m 43 ls [.int (if 0 < dgV true w_.1 ∧ dgV true w_.1 ≤ nI 15 then 1 else 0)]) rfl ?_
          refine lv_goto (tgt := 54) hx hb dX6_isOfLane_43 (by decide) ?_
          exact ct_iretR (ty := .boolean) (v := (if 0 < dgV true w_.1 ∧ dgV true w_.1 ≤ nI 15 then 1 else 0)) B rfl (by split <;> rfl) (by rw [cl7]; by_cases z9 : 0 < dgV true w_.1 ∧ dgV true w_.1 ≤ nI 15; rw [if_pos z9, if_pos (Or.inr ((tk_7 (hs9.S hI).small.1 (show w_.2 = false by cases e9 : w_.2 with | false => rfl | true => rw [e9] at cq; cases cq)).mpr z9))]; rw [if_neg z9, if_neg (by rintro (y9 | y9); exact cm (missW_to y9); exact z9 ((tk_7 (hs9.S hI).small.1 (show w_.2 = false by cases e9 : w_.2 with | false => rfl | true => rw [e9] at cq; cases cq)).mp y9))]) dX6_isOfLane_54
      · refine lv_aload_n hx hb dX6_isOfLane_22 rfl (lv_at hl 0 rfl) ?_
        refine ct_get (v := .ref s9) B (ct_sel hI (by intro z9 h9; rw [List.mem_singleton.mp h9]; exact hx9)) kX12 0 rfl 0 (Nat.le_of_ble_eq_true rfl) q1118 rfl dX6_isOfLane_23 ?_
        refine ct_callR (ct_runS (As := [.ref s9]) (rest := []) B (met_X6_isTruth l E _ s9 w_.1 s.heap.size) (lw_S q1177 q1178 q54 q1179) (n := 1) ⟨by decide, by decide, by decide +kernel⟩ rfl ⟨rfl, rfl, (Nat.le_of_ble_eq_true rfl), (Nat.le_of_ble_eq_true rfl), (Nat.le_of_ble_eq_true rfl), (Nat.le_of_ble_eq_true rfl)⟩ (va_S.rf (A := fun _ => False)) (fun _ h => h.elim) (hs9.S hI) hl.1 (Nat.le_of_ble_eq_true rfl) dX6_isOfLane_26) (fun v hv => ?_)
        subst hv
        refine W.eq (g2 := F0 m 29 ls [.int (if w_.1 = tx_true ∨ w_.1 = tx_false then 1 else 0)]) rfl ?_
        exact ct_iretR (ty := .boolean) (v := (if w_.1 = tx_true ∨ w_.1 = tx_false then 1 else 0)) B rfl (by split <;> rfl) (by rw [cl0]; by_cases z9 : w_.1 = tx_true ∨ w_.1 = tx_false; rw [if_pos z9, if_pos (Or.inr ((tk_0 (show w_.2 = false by cases e9 : w_.2 with | false => rfl | true => rw [e9] at cq; cases cq)).mpr z9))]; rw [if_neg z9, if_neg (by rintro (y9 | y9); exact cm (missW_to y9); exact z9 ((tk_0 (show w_.2 = false by cases e9 : w_.2 with | false => rfl | true => rw [e9] at cq; cases cq)).mp y9))]) dX6_isOfLane_29
    · refine lv_iconst (v := nI 0) hx hb dX6_isOfLane_16 (by decide) ?_
      exact ct_iretR (ty := .boolean) (v := (nI 0)) B rfl rfl (by rw [if_neg (by rintro (z9 | z9); exact cm (missW_to z9); exact tk_q (by cases e9 : w_.2 with | true => rfl | false => rw [e9] at cq; exact absurd rfl cq) (by omega) z9)] <;> rfl) dX6_isOfLane_17
  · refine lv_iconst (v := nI 1) hx hb dX6_isOfLane_7 (by decide) ?_
    exact ct_iretR (ty := .boolean) (v := (nI 1)) B rfl rfl (by rw [if_pos (Or.inl (missW_of cm))] <;> rfl) dX6_isOfLane_8
