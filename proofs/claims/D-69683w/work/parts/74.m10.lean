set_option maxHeartbeats 4000000 in
set_option maxRecDepth 100000 in
theorem met_X6_isDigit (l : Launch) (E : CE) (c9 : Nat) (sz : Nat) (hc : c9 < 65536) : Met l yX6_isDigit (ws_ yX6_isDigit cX6_isDigit 1 (some .boolean)) { frames := 0, cells := 0, slots := 0, locals := 0 } (ctP E [.int (nI c9)] sz (fun H => True)) (ctR (fun v => v = some (.int (if isD c9 then 1 else 0)))) 0 0 (fun _ => False) := by
  refine ct_start (by decide) (Nat.le_of_ble_eq_true rfl) ?_
  intro p e s m below meth c ls B hsz hH hl
  have hx := B.1
  have hb := B.2.1
  have hl : lv_has ls 1 [(0, .int (nI c9))] := hl
  refine lv_iload_n hx hb dX6_isDigit_0 rfl (lv_at hl 0 rfl) ?_
  refine lv_bipush (v := nI 48) hx hb dX6_isDigit_1 (by decide) ?_
  refine n_icmp_lt (tgt := 16) hx hb dX6_isDigit_3 (by decide) (by omega) (by omega) (fun c1 => ?_) (fun c1 => ?_)
  · refine lv_iconst (v := nI 0) hx hb dX6_isDigit_16 (by decide) ?_
    exact ct_iretR (ty := .boolean) (v := (nI 0)) B rfl rfl (by rw [if_neg (fun z9 => by have := z9.1; have := z9.2; omega)] <;> rfl) dX6_isDigit_17
  · refine lv_iload_n hx hb dX6_isDigit_6 rfl (lv_at hl 0 rfl) ?_
    refine lv_bipush (v := nI 57) hx hb dX6_isDigit_7 (by decide) ?_
    refine n_icmp_gt (tgt := 16) hx hb dX6_isDigit_9 (by decide) (by omega) (by omega) (fun c2 => ?_) (fun c2 => ?_)
    · refine lv_iconst (v := nI 0) hx hb dX6_isDigit_16 (by decide) ?_
      exact ct_iretR (ty := .boolean) (v := (nI 0)) B rfl rfl (by rw [if_neg (fun z9 => by have := z9.1; have := z9.2; omega)] <;> rfl) dX6_isDigit_17
    · refine lv_iconst (v := nI 1) hx hb dX6_isDigit_12 (by decide) ?_
      refine lv_goto (tgt := 17) hx hb dX6_isDigit_13 (by decide) ?_
      exact ct_iretR (ty := .boolean) (v := (nI 1)) B rfl rfl (by rw [if_pos ⟨by omega, by omega⟩] <;> rfl) dX6_isDigit_17
set_option maxHeartbeats 4000000 in
set_option maxRecDepth 100000 in
theorem met_X6_digits_false (l : Launch) (E : CE) (A0 : Nat → Prop) (a : Nat) (t : List Nat) (sz : Nat)  : Met l yX6_digits (ws_ yX6_digits cX6_digits 6 (some .int)) { frames := 4, cells := 0, slots := 0, locals := 85 } (ctP E [.ref a, .int (nI 0)] sz (fun H => ct_S E A0 H a t)) (ctR (fun v => v = some (.int (dgV false t)))) 0 0 (fun _ => False) := by
  refine ct_start (by decide) (Nat.le_of_ble_eq_true rfl) ?_
  intro p e s m below meth c ls B hsz hH hl
  have hS0 := hH
  have hx := B.1
  have hb := B.2.1
  have hl : lv_has ls 6 [(0, .ref a), (1, .int (nI 0))] := hl
  obtain ⟨v0, hV0⟩ := hS0.val
  have hs0 := hS0.small
  have hD0 := DG_0 (t := t)
  have hfb := frT_le t
  refine lv_aload_n hx hb dX6_digits_0 rfl (lv_at hl 0 rfl) ?_
  refine ct_callR (ct_runV (As := []) (rest := []) B (met_J4_length l E  _ a t s.heap.size) (lw_V q1189 q466 q467 q58 q468) (n := 0) ⟨by decide, by decide, by decide +kernel⟩ rfl ⟨rfl, rfl, (Nat.le_of_ble_eq_true rfl), (Nat.le_of_ble_eq_true rfl), (Nat.le_of_ble_eq_true rfl), (Nat.le_of_ble_eq_true rfl)⟩ (va_S.rf (A := fun _ => False)) (fun _ h => h.elim) (ct_Srecv B hV0.str) hV0.str hl.1 (Nat.le_of_ble_eq_true rfl) dX6_digits_1) (fun v hv => ?_)
  subst hv
  refine W.eq (g2 := F0 m 4 ls [.int (nI t.length)]) rfl ?_
  refine n_if_le (tgt := 21) hx hb dX6_digits_4 (by decide) (by omega) (fun c0 => ?_) (fun c0 => ?_)
  · refine lv_iconst (v := nI 0) hx hb dX6_digits_21 (by decide) ?_
    have hfr : frT t = 0 := by unfold frT; rw [if_neg (by rw [List.length_eq_zero_iff.mp c0]; decide)]
    rw [hfr] at hD0 hfb
    refine lv_istore_n (lv' := [(2, .int (nI 0)), (0, .ref a), (1, .int (nI 0))]) hx hb dX6_digits_22 rfl hl (by decide) rfl (fun ls hl => ?_)
    refine lv_iconst (v := nI 0) hx hb dX6_digits_23 (by decide) ?_
    refine lv_istore_n (lv' := [(3, .int (nI 0)), (2, .int (nI 0)), (0, .ref a), (1, .int (nI 0))]) hx hb dX6_digits_24 rfl hl (by decide) rfl (fun ls hl => ?_)
    refine lv_iconst (v := (-1)) hx hb dX6_digits_25 (by decide) ?_
    refine lv_istore (lv' := [(4, .int (-1)), (3, .int (nI 0)), (2, .int (nI 0)), (0, .ref a), (1, .int (nI 0))]) hx hb dX6_digits_26 hl (by decide) rfl (fun ls hl => ?_)
    refine ct_loop (σ := Nat × Nat) (fun (p9, n9) ls => lv_has ls 6 [(4, .int (-1)), (3, .int (nI n9)), (2, .int (nI p9)), (0, .ref a), (1, .int (nI 0))] ∧ (DG t 0 p9 n9 (-1))) (fun (p9, n9) => t.length - p9) (g := fun (p9, n9) ls => F0 m 28 ls []) (x0 := (0, 0)) (ls0 := ls) ?_ ⟨lv_sub hl [0, 1, 2, 3, 4] rfl, hD0⟩
    clear hl
    intro x9 ls hI ih_1
    obtain ⟨p9, n9⟩ := x9
    obtain ⟨hl, hD⟩ := hI
    refine W.eq (g2 := F0 m 28 ls []) rfl ?_
    have hDb := DG_b hD
    refine lv_iload_n hx hb dX6_digits_28 rfl (lv_at hl 2 rfl) ?_
    refine lv_aload_n hx hb dX6_digits_29 rfl (lv_at hl 3 rfl) ?_
    refine ct_callR (ct_runV (As := []) (rest := [.int (nI p9)]) B (met_J4_length l E  _ a t s.heap.size) (lw_V q1189 q466 q467 q58 q468) (n := 0) ⟨by decide, by decide, by decide +kernel⟩ rfl ⟨rfl, rfl, (Nat.le_of_ble_eq_true rfl), (Nat.le_of_ble_eq_true rfl), (Nat.le_of_ble_eq_true rfl), (Nat.le_of_ble_eq_true rfl)⟩ (va_S.rf (A := fun _ => False)) (fun _ h => h.elim) (ct_Srecv B hV0.str) hV0.str hl.1 (Nat.le_of_ble_eq_true rfl) dX6_digits_30) (fun v hv => ?_)
    subst hv
    refine W.eq (g2 := F0 m 33 ls [.int (nI t.length), .int (nI p9)]) rfl ?_
    refine n_icmp_ge (tgt := 91) hx hb dX6_digits_33 (by decide) (by omega) (by omega) (fun c_2 => ?_) (fun c_2 => ?_)
    · refine lv_iload_n hx hb dX6_digits_91 rfl (lv_at hl 1 rfl) ?_
      refine n_if_eq (tgt := 101) hx hb dX6_digits_92 (by decide) (by omega) (fun cn0 => ?_) (fun cn0 => ?_)
      · refine lv_iconst (v := (-1)) hx hb dX6_digits_101 (by decide) ?_
        refine lv_goto (tgt := 106) hx hb dX6_digits_102 (by decide) ?_
        exact ct_iretR (ty := .int) (v := (-1)) B rfl rfl (by rw [DG_e (pt := false) (by rw [hfr]; exact hD) hs0.1 (by omega) (fun z9 => absurd rfl z9), if_pos (Or.inl cn0)]) dX6_digits_106
      · refine lv_iload_n hx hb dX6_digits_95 rfl (lv_at hl 1 rfl) ?_
        refine lv_iload hx hb dX6_digits_96 (lv_at hl 0 rfl) ?_
        refine lv_icmp_ne (tgt := 105) hx hb dX6_digits_98 (by decide) (fun cnb => ?_) (fun cnb => ?_)
        · refine lv_iload_n hx hb dX6_digits_105 rfl (lv_at hl 1 rfl) ?_
          exact ct_iretR (ty := .int) (v := (nI n9)) B rfl rfl (by rw [DG_e (pt := false) (by rw [hfr]; exact hD) hs0.1 (by omega) (fun z9 => absurd rfl z9), if_neg (by rintro (z9 | z9); exact cn0 z9; exact cnb z9)]) dX6_digits_106
        · refine lv_iconst (v := (-1)) hx hb dX6_digits_101 (by decide) ?_
          refine lv_goto (tgt := 106) hx hb dX6_digits_102 (by decide) ?_
          exact ct_iretR (ty := .int) (v := (-1)) B rfl rfl (by rw [DG_e (pt := false) (by rw [hfr]; exact hD) hs0.1 (by omega) (fun z9 => absurd rfl z9), if_pos (Or.inr cnb)]) dX6_digits_106
    · refine lv_aload_n hx hb dX6_digits_36 rfl (lv_at hl 3 rfl) ?_
      refine lv_iload_n hx hb dX6_digits_37 rfl (lv_at hl 2 rfl) ?_
      refine ct_callR (ct_runV (As := [.int (nI p9)]) (rest := []) B (met_J4_charAt l E  _ a p9 t s.heap.size (by omega)) (lw_V q1190 q476 q477 q58 q478) (n := 1) ⟨by decide, by decide, by decide +kernel⟩ rfl ⟨rfl, rfl, (Nat.le_of_ble_eq_true rfl), (Nat.le_of_ble_eq_true rfl), (Nat.le_of_ble_eq_true rfl), (Nat.le_of_ble_eq_true rfl)⟩ (va_S.rf (A := fun _ => False)) (fun _ h => h.elim) (ct_Srecv B hV0.str) hV0.str hl.1 (Nat.le_of_ble_eq_true rfl) dX6_digits_38) (fun v hv => ?_)
      subst hv
      refine W.eq (g2 := F0 m 41 ls [.int (nI (t.getD p9 0))]) rfl ?_
      refine lv_istore (lv' := [(5, .int (nI (t.getD p9 0))), (4, .int (-1)), (3, .int (nI n9)), (2, .int (nI p9)), (0, .ref a), (1, .int (nI 0))]) hx hb dX6_digits_41 hl (by decide) rfl (fun ls hl => ?_)
      refine lv_iload hx hb dX6_digits_43 (lv_at hl 0 rfl) ?_
      refine lv_bipush (v := nI 46) hx hb dX6_digits_45 (by decide) ?_
      refine n_icmp_ne (tgt := 69) hx hb dX6_digits_47 (by decide) (by have := tx_lt hs0.2 p9; omega) (by omega) (fun c46 => ?_) (fun c46 => ?_)
      · refine lv_iload hx hb dX6_digits_69 (lv_at hl 0 rfl) ?_
        refine ct_callR (ct_runS (As := [.int (nI (t.getD p9 0))]) (rest := []) B (met_X6_isDigit l E (t.getD p9 0) s.heap.size (by have := tx_lt hs0.2 p9; omega)) (lw_S q1191 q1192 q54 q1193) (n := 1) ⟨by decide, by decide, by decide +kernel⟩ rfl ⟨rfl, rfl, (Nat.le_of_ble_eq_true rfl), (Nat.le_of_ble_eq_true rfl), (Nat.le_of_ble_eq_true rfl), (Nat.le_of_ble_eq_true rfl)⟩ (va_S.rf (A := fun _ => False)) (fun _ h => h.elim) trivial hl.1 (Nat.le_of_ble_eq_true rfl) dX6_digits_71) (fun v hv => ?_)
        subst hv
        refine W.eq (g2 := F0 m 74 ls [.int (if isD (t.getD p9 0) then 1 else 0)]) rfl ?_
        refine b_if_eq (tgt := 83) hx hb dX6_digits_74 (by decide) (fun cdg => ?_) (fun cdg => ?_)
        · refine lv_iconst (v := (-1)) hx hb dX6_digits_83 (by decide) ?_
          exact ct_iretR (ty := .int) (v := (-1)) B rfl rfl (by rw [DG_x (pt := false) (by rw [hfr]; exact hD) hs0.1 (by omega) cdg (fun z1 z2 z3 => absurd z1 (by decide))]) dX6_digits_84
        · refine n_iinc (n := 1) (lv' := [(3, .int (nI (n9 + 1))), (5, .int (nI (t.getD p9 0))), (4, .int (-1)), (2, .int (nI p9)), (0, .ref a), (1, .int (nI 0))]) hx hb dX6_digits_77 hl (k := 2) rfl rfl (by decide) (by decide) rfl (fun ls hl => ?_)
          refine lv_goto (tgt := 85) hx hb dX6_digits_80 (by decide) ?_
          refine n_iinc (n := 1) (lv' := [(2, .int (nI (p9 + 1))), (3, .int (nI (n9 + 1))), (5, .int (nI (t.getD p9 0))), (4, .int (-1)), (0, .ref a), (1, .int (nI 0))]) hx hb dX6_digits_85 hl (k := 3) rfl rfl (by decide) (by decide) rfl (fun ls hl => ?_)
          refine lv_goto (tgt := 28) hx hb dX6_digits_88 (by decide) ?_
          exact ih_1 ((p9 + 1), (n9 + 1)) ls (by dsimp only; omega) ⟨lv_sub hl [3, 1, 0, 4, 5] rfl, DG_d hD (by omega) cdg⟩
      · refine lv_iload_n hx hb dX6_digits_50 rfl (lv_at hl 5 rfl) ?_
        refine n_if_eq (tgt := 69) hx hb dX6_digits_51 (by decide) (by omega) (fun c_3 => ?_) (fun c_3 => absurd c_3 (by omega))
        refine lv_iload hx hb dX6_digits_69 (lv_at hl 0 rfl) ?_
        refine ct_callR (ct_runS (As := [.int (nI (t.getD p9 0))]) (rest := []) B (met_X6_isDigit l E (t.getD p9 0) s.heap.size (by have := tx_lt hs0.2 p9; omega)) (lw_S q1191 q1192 q54 q1193) (n := 1) ⟨by decide, by decide, by decide +kernel⟩ rfl ⟨rfl, rfl, (Nat.le_of_ble_eq_true rfl), (Nat.le_of_ble_eq_true rfl), (Nat.le_of_ble_eq_true rfl), (Nat.le_of_ble_eq_true rfl)⟩ (va_S.rf (A := fun _ => False)) (fun _ h => h.elim) trivial hl.1 (Nat.le_of_ble_eq_true rfl) dX6_digits_71) (fun v hv => ?_)
        subst hv
        refine W.eq (g2 := F0 m 74 ls [.int (if isD (t.getD p9 0) then 1 else 0)]) rfl ?_
        refine b_if_eq (tgt := 83) hx hb dX6_digits_74 (by decide) (fun cdg => ?_) (fun cdg => ?_)
        · refine lv_iconst (v := (-1)) hx hb dX6_digits_83 (by decide) ?_
          exact ct_iretR (ty := .int) (v := (-1)) B rfl rfl (by rw [DG_x (pt := false) (by rw [hfr]; exact hD) hs0.1 (by omega) cdg (fun z1 z2 z3 => absurd z1 (by decide))]) dX6_digits_84
        · refine n_iinc (n := 1) (lv' := [(3, .int (nI (n9 + 1))), (5, .int (nI (t.getD p9 0))), (4, .int (-1)), (2, .int (nI p9)), (0, .ref a), (1, .int (nI 0))]) hx hb dX6_digits_77 hl (k := 2) rfl rfl (by decide) (by decide) rfl (fun ls hl => ?_)
          refine lv_goto (tgt := 85) hx hb dX6_digits_80 (by decide) ?_
          refine n_iinc (n := 1) (lv' := [(2, .int (nI (p9 + 1))), (3, .int (nI (n9 + 1))), (5, .int (nI (t.getD p9 0))), (4, .int (-1)), (0, .ref a), (1, .int (nI 0))]) hx hb dX6_digits_85 hl (k := 3) rfl rfl (by decide) (by decide) rfl (fun ls hl => ?_)
          refine lv_goto (tgt := 28) hx hb dX6_digits_88 (by decide) ?_
          exact ih_1 ((p9 + 1), (n9 + 1)) ls (by dsimp only; omega) ⟨lv_sub hl [3, 1, 0, 4, 5] rfl, DG_d hD (by omega) cdg⟩
  · refine lv_aload_n hx hb dX6_digits_7 rfl (lv_at hl 0 rfl) ?_
    refine lv_iconst (v := nI 0) hx hb dX6_digits_8 (by decide) ?_
    refine ct_callR (ct_runV (As := [.int (nI 0)]) (rest := []) B (met_J4_charAt l E  _ a 0 t s.heap.size c0) (lw_V q1190 q476 q477 q58 q478) (n := 1) ⟨by decide, by decide, by decide +kernel⟩ rfl ⟨rfl, rfl, (Nat.le_of_ble_eq_true rfl), (Nat.le_of_ble_eq_true rfl), (Nat.le_of_ble_eq_true rfl), (Nat.le_of_ble_eq_true rfl)⟩ (va_S.rf (A := fun _ => False)) (fun _ h => h.elim) (ct_Srecv B hV0.str) hV0.str hl.1 (Nat.le_of_ble_eq_true rfl) dX6_digits_9) (fun v hv => ?_)
    subst hv
    refine W.eq (g2 := F0 m 12 ls [.int (nI (t.getD 0 0))]) rfl ?_
    refine lv_bipush (v := nI 45) hx hb dX6_digits_12 (by decide) ?_
    refine n_icmp_ne (tgt := 21) hx hb dX6_digits_14 (by decide) (by have := tx_lt hs0.2 0; omega) (by omega) (fun c45 => ?_) (fun c45 => ?_)
    · refine lv_iconst (v := nI 0) hx hb dX6_digits_21 (by decide) ?_
      have hfr : frT t = 0 := by unfold frT; rw [if_neg (by exact c45)]
      rw [hfr] at hD0 hfb
      refine lv_istore_n (lv' := [(2, .int (nI 0)), (0, .ref a), (1, .int (nI 0))]) hx hb dX6_digits_22 rfl hl (by decide) rfl (fun ls hl => ?_)
      refine lv_iconst (v := nI 0) hx hb dX6_digits_23 (by decide) ?_
      refine lv_istore_n (lv' := [(3, .int (nI 0)), (2, .int (nI 0)), (0, .ref a), (1, .int (nI 0))]) hx hb dX6_digits_24 rfl hl (by decide) rfl (fun ls hl => ?_)
      refine lv_iconst (v := (-1)) hx hb dX6_digits_25 (by decide) ?_
      refine lv_istore (lv' := [(4, .int (-1)), (3, .int (nI 0)), (2, .int (nI 0)), (0, .ref a), (1, .int (nI 0))]) hx hb dX6_digits_26 hl (by decide) rfl (fun ls hl => ?_)
      refine ct_loop (σ := Nat × Nat) (fun (p9, n9) ls => lv_has ls 6 [(4, .int (-1)), (3, .int (nI n9)), (2, .int (nI p9)), (0, .ref a), (1, .int (nI 0))] ∧ (DG t 0 p9 n9 (-1))) (fun (p9, n9) => t.length - p9) (g := fun (p9, n9) ls => F0 m 28 ls []) (x0 := (0, 0)) (ls0 := ls) ?_ ⟨lv_sub hl [0, 1, 2, 3, 4] rfl, hD0⟩
      clear hl
      intro x9 ls hI ih_4
      obtain ⟨p9, n9⟩ := x9
      obtain ⟨hl, hD⟩ := hI
      refine W.eq (g2 := F0 m 28 ls []) rfl ?_
      have hDb := DG_b hD
      refine lv_iload_n hx hb dX6_digits_28 rfl (lv_at hl 2 rfl) ?_
      refine lv_aload_n hx hb dX6_digits_29 rfl (lv_at hl 3 rfl) ?_
      refine ct_callR (ct_runV (As := []) (rest := [.int (nI p9)]) B (met_J4_length l E  _ a t s.heap.size) (lw_V q1189 q466 q467 q58 q468) (n := 0) ⟨by decide, by decide, by decide +kernel⟩ rfl ⟨rfl, rfl, (Nat.le_of_ble_eq_true rfl), (Nat.le_of_ble_eq_true rfl), (Nat.le_of_ble_eq_true rfl), (Nat.le_of_ble_eq_true rfl)⟩ (va_S.rf (A := fun _ => False)) (fun _ h => h.elim) (ct_Srecv B hV0.str) hV0.str hl.1 (Nat.le_of_ble_eq_true rfl) dX6_digits_30) (fun v hv => ?_)
      subst hv
      refine W.eq (g2 := F0 m 33 ls [.int (nI t.length), .int (nI p9)]) rfl ?_
      refine n_icmp_ge (tgt := 91) hx hb dX6_digits_33 (by decide) (by omega) (by omega) (fun c_5 => ?_) (fun c_5 => ?_)
      · refine lv_iload_n hx hb dX6_digits_91 rfl (lv_at hl 1 rfl) ?_
        refine n_if_eq (tgt := 101) hx hb dX6_digits_92 (by decide) (by omega) (fun cn0 => ?_) (fun cn0 => ?_)
        · refine lv_iconst (v := (-1)) hx hb dX6_digits_101 (by decide) ?_
          refine lv_goto (tgt := 106) hx hb dX6_digits_102 (by decide) ?_
          exact ct_iretR (ty := .int) (v := (-1)) B rfl rfl (by rw [DG_e (pt := false) (by rw [hfr]; exact hD) hs0.1 (by omega) (fun z9 => absurd rfl z9), if_pos (Or.inl cn0)]) dX6_digits_106
        · refine lv_iload_n hx hb dX6_digits_95 rfl (lv_at hl 1 rfl) ?_
          refine lv_iload hx hb dX6_digits_96 (lv_at hl 0 rfl) ?_
          refine lv_icmp_ne (tgt := 105) hx hb dX6_digits_98 (by decide) (fun cnb => ?_) (fun cnb => ?_)
          · refine lv_iload_n hx hb dX6_digits_105 rfl (lv_at hl 1 rfl) ?_
            exact ct_iretR (ty := .int) (v := (nI n9)) B rfl rfl (by rw [DG_e (pt := false) (by rw [hfr]; exact hD) hs0.1 (by omega) (fun z9 => absurd rfl z9), if_neg (by rintro (z9 | z9); exact cn0 z9; exact cnb z9)]) dX6_digits_106
          · refine lv_iconst (v := (-1)) hx hb dX6_digits_101 (by decide) ?_
            refine lv_goto (tgt := 106) hx hb dX6_digits_102 (by decide) ?_
            exact ct_iretR (ty := .int) (v := (-1)) B rfl rfl (by rw [DG_e (pt := false) (by rw [hfr]; exact hD) hs0.1 (by omega) (fun z9 => absurd rfl z9), if_pos (Or.inr cnb)]) dX6_digits_106
      · refine lv_aload_n hx hb dX6_digits_36 rfl (lv_at hl 3 rfl) ?_
        refine lv_iload_n hx hb dX6_digits_37 rfl (lv_at hl 2 rfl) ?_
        refine ct_callR (ct_runV (As := [.int (nI p9)]) (rest := []) B (met_J4_charAt l E  _ a p9 t s.heap.size (by omega)) (lw_V q1190 q476 q477 q58 q478) (n := 1) ⟨by decide, by decide, by decide +kernel⟩ rfl ⟨rfl, rfl, (Nat.le_of_ble_eq_true rfl), (Nat.le_of_ble_eq_true rfl), (Nat.le_of_ble_eq_true rfl), (Nat.le_of_ble_eq_true rfl)⟩ (va_S.rf (A := fun _ => False)) (fun _ h => h.elim) (ct_Srecv B hV0.str) hV0.str hl.1 (Nat.le_of_ble_eq_true rfl) dX6_digits_38) (fun v hv => ?_)
        subst hv
        refine W.eq (g2 := F0 m 41 ls [.int (nI (t.getD p9 0))]) rfl ?_
        refine lv_istore (lv' := [(5, .int (nI (t.getD p9 0))), (4, .int (-1)), (3, .int (nI n9)), (2, .int (nI p9)), (0, .ref a), (1, .int (nI 0))]) hx hb dX6_digits_41 hl (by decide) rfl (fun ls hl => ?_)
        refine lv_iload hx hb dX6_digits_43 (lv_at hl 0 rfl) ?_
        refine lv_bipush (v := nI 46) hx hb dX6_digits_45 (by decide) ?_
        refine n_icmp_ne (tgt := 69) hx hb dX6_digits_47 (by decide) (by have := tx_lt hs0.2 p9; omega) (by omega) (fun c46 => ?_) (fun c46 => ?_)
        · refine lv_iload hx hb dX6_digits_69 (lv_at hl 0 rfl) ?_
          refine ct_callR (ct_runS (As := [.int (nI (t.getD p9 0))]) (rest := []) B (met_X6_isDigit l E (t.getD p9 0) s.heap.size (by have := tx_lt hs0.2 p9; omega)) (lw_S q1191 q1192 q54 q1193) (n := 1) ⟨by decide, by decide, by decide +kernel⟩ rfl ⟨rfl, rfl, (Nat.le_of_ble_eq_true rfl), (Nat.le_of_ble_eq_true rfl), (Nat.le_of_ble_eq_true rfl), (Nat.le_of_ble_eq_true rfl)⟩ (va_S.rf (A := fun _ => False)) (fun _ h => h.elim) trivial hl.1 (Nat.le_of_ble_eq_true rfl) dX6_digits_71) (fun v hv => ?_)
          subst hv
          refine W.eq (g2 := F0 m 74 ls [.int (if isD (t.getD p9 0) then 1 else 0)]) rfl ?_
          refine b_if_eq (tgt := 83) hx hb dX6_digits_74 (by decide) (fun cdg => ?_) (fun cdg => ?_)
          · refine lv_iconst (v := (-1)) hx hb dX6_digits_83 (by decide) ?_
            exact ct_iretR (ty := .int) (v := (-1)) B rfl rfl (by rw [DG_x (pt := false) (by rw [hfr]; exact hD) hs0.1 (by omega) cdg (fun z1 z2 z3 => absurd z1 (by decide))]) dX6_digits_84
          · refine n_iinc (n := 1) (lv' := [(3, .int (nI (n9 + 1))), (5, .int (nI (t.getD p9 0))), (4, .int (-1)), (2, .int (nI p9)), (0, .ref a), (1, .int (nI 0))]) hx hb dX6_digits_77 hl (k := 2) rfl rfl (by decide) (by decide) rfl (fun ls hl => ?_)
            refine lv_goto (tgt := 85) hx hb dX6_digits_80 (by decide) ?_
            refine n_iinc (n := 1) (lv' := [(2, .int (nI (p9 + 1))), (3, .int (nI (n9 + 1))), (5, .int (nI (t.getD p9 0))), (4, .int (-1)), (0, .ref a), (1, .int (nI 0))]) hx hb dX6_digits_85 hl (k := 3) rfl rfl (by decide) (by decide) rfl (fun ls hl => ?_)
            refine lv_goto (tgt := 28) hx hb dX6_digits_88 (by decide) ?_
            exact ih_4 ((p9 + 1), (n9 + 1)) ls (by dsimp only; omega) ⟨lv_sub hl [3, 1, 0, 4, 5] rfl, DG_d hD (by omega) cdg⟩
        · refine lv_iload_n hx hb dX6_digits_50 rfl (lv_at hl 5 rfl) ?_
          refine n_if_eq (tgt := 69) hx hb dX6_digits_51 (by decide) (by omega) (fun c_6 => ?_) (fun c_6 => absurd c_6 (by omega))
          refine lv_iload hx hb dX6_digits_69 (lv_at hl 0 rfl) ?_
          refine ct_callR (ct_runS (As := [.int (nI (t.getD p9 0))]) (rest := []) B (met_X6_isDigit l E (t.getD p9 0) s.heap.size (by have := tx_lt hs0.2 p9; omega)) (lw_S q1191 q1192 q54 q1193) (n := 1) ⟨by decide, by decide, by decide +kernel⟩ rfl ⟨rfl, rfl, (Nat.le_of_ble_eq_true rfl), (Nat.le_of_ble_eq_true rfl), (Nat.le_of_ble_eq_true rfl), (Nat.le_of_ble_eq_true rfl)⟩ (va_S.rf (A := fun _ => False)) (fun _ h => h.elim) trivial hl.1 (Nat.le_of_ble_eq_true rfl) dX6_digits_71) (fun v hv => ?_)
          subst hv
          refine W.eq (g2 := F0 m 74 ls [.int (if isD (t.getD p9 0) then 1 else 0)]) rfl ?_
          refine b_if_eq (tgt := 83) hx hb dX6_digits_74 (by decide) (fun cdg => ?_) (fun cdg => ?_)
          · refine lv_iconst (v := (-1)) hx hb dX6_digits_83 (by decide) ?_
            exact ct_iretR (ty := .int) (v := (-1)) B rfl rfl (by rw [DG_x (pt := false) (by rw [hfr]; exact hD) hs0.1 (by omega) cdg (fun z1 z2 z3 => absurd z1 (by decide))]) dX6_digits_84
          · refine n_iinc (n := 1) (lv' := [(3, .int (nI (n9 + 1))), (5, .int (nI (t.getD p9 0))), (4, .int (-1)), (2, .int (nI p9)), (0, .ref a), (1, .int (nI 0))]) hx hb dX6_digits_77 hl (k := 2) rfl rfl (by decide) (by decide) rfl (fun ls hl => ?_)
            refine lv_goto (tgt := 85) hx hb dX6_digits_80 (by decide) ?_
            refine n_iinc (n := 1) (lv' := [(2, .int (nI (p9 + 1))), (3, .int (nI (n9 + 1))), (5, .int (nI (t.getD p9 0))), (4, .int (-1)), (0, .ref a), (1, .int (nI 0))]) hx hb dX6_digits_85 hl (k := 3) rfl rfl (by decide) (by decide) rfl (fun ls hl => ?_)
            refine lv_goto (tgt := 28) hx hb dX6_digits_88 (by decide) ?_
            exact ih_4 ((p9 + 1), (n9 + 1)) ls (by dsimp only; omega) ⟨lv_sub hl [3, 1, 0, 4, 5] rfl, DG_d hD (by omega) cdg⟩
    · refine lv_iconst (v := nI 1) hx hb dX6_digits_17 (by decide) ?_
      refine lv_goto (tgt := 22) hx hb dX6_digits_18 (by decide) ?_
      have hfr : frT t = 1 := by unfold frT; rw [if_pos c45]
      rw [hfr] at hD0 hfb
      refine lv_istore_n (lv' := [(2, .int (nI 1)), (0, .ref a), (1, .int (nI 0))]) hx hb dX6_digits_22 rfl hl (by decide) rfl (fun ls hl => ?_)
      refine lv_iconst (v := nI 0) hx hb dX6_digits_23 (by decide) ?_
      refine lv_istore_n (lv' := [(3, .int (nI 0)), (2, .int (nI 1)), (0, .ref a), (1, .int (nI 0))]) hx hb dX6_digits_24 rfl hl (by decide) rfl (fun ls hl => ?_)
      refine lv_iconst (v := (-1)) hx hb dX6_digits_25 (by decide) ?_
      refine lv_istore (lv' := [(4, .int (-1)), (3, .int (nI 0)), (2, .int (nI 1)), (0, .ref a), (1, .int (nI 0))]) hx hb dX6_digits_26 hl (by decide) rfl (fun ls hl => ?_)
      refine ct_loop (σ := Nat × Nat) (fun (p9, n9) ls => lv_has ls 6 [(4, .int (-1)), (3, .int (nI n9)), (2, .int (nI p9)), (0, .ref a), (1, .int (nI 0))] ∧ (DG t 1 p9 n9 (-1))) (fun (p9, n9) => t.length - p9) (g := fun (p9, n9) ls => F0 m 28 ls []) (x0 := (1, 0)) (ls0 := ls) ?_ ⟨lv_sub hl [0, 1, 2, 3, 4] rfl, hD0⟩
      clear hl
      intro x9 ls hI ih_7
      obtain ⟨p9, n9⟩ := x9
      obtain ⟨hl, hD⟩ := hI
      refine W.eq (g2 := F0 m 28 ls []) rfl ?_
      have hDb := DG_b hD
      refine lv_iload_n hx hb dX6_digits_28 rfl (lv_at hl 2 rfl) ?_
      refine lv_aload_n hx hb dX6_digits_29 rfl (lv_at hl 3 rfl) ?_
      refine ct_callR (ct_runV (As := []) (rest := [.int (nI p9)]) B (met_J4_length l E  _ a t s.heap.size) (lw_V q1189 q466 q467 q58 q468) (n := 0) ⟨by decide, by decide, by decide +kernel⟩ rfl ⟨rfl, rfl, (Nat.le_of_ble_eq_true rfl), (Nat.le_of_ble_eq_true rfl), (Nat.le_of_ble_eq_true rfl), (Nat.le_of_ble_eq_true rfl)⟩ (va_S.rf (A := fun _ => False)) (fun _ h => h.elim) (ct_Srecv B hV0.str) hV0.str hl.1 (Nat.le_of_ble_eq_true rfl) dX6_digits_30) (fun v hv => ?_)
      subst hv
      refine W.eq (g2 := F0 m 33 ls [.int (nI t.length), .int (nI p9)]) rfl ?_
      refine n_icmp_ge (tgt := 91) hx hb dX6_digits_33 (by decide) (by omega) (by omega) (fun c_8 => ?_) (fun c_8 => ?_)
      · refine lv_iload_n hx hb dX6_digits_91 rfl (lv_at hl 1 rfl) ?_
        refine n_if_eq (tgt := 101) hx hb dX6_digits_92 (by decide) (by omega) (fun cn0 => ?_) (fun cn0 => ?_)
        · refine lv_iconst (v := (-1)) hx hb dX6_digits_101 (by decide) ?_
          refine lv_goto (tgt := 106) hx hb dX6_digits_102 (by decide) ?_
          exact ct_iretR (ty := .int) (v := (-1)) B rfl rfl (by rw [DG_e (pt := false) (by rw [hfr]; exact hD) hs0.1 (by omega) (fun z9 => absurd rfl z9), if_pos (Or.inl cn0)]) dX6_digits_106
        · refine lv_iload_n hx hb dX6_digits_95 rfl (lv_at hl 1 rfl) ?_
          refine lv_iload hx hb dX6_digits_96 (lv_at hl 0 rfl) ?_
          refine lv_icmp_ne (tgt := 105) hx hb dX6_digits_98 (by decide) (fun cnb => ?_) (fun cnb => ?_)
          · refine lv_iload_n hx hb dX6_digits_105 rfl (lv_at hl 1 rfl) ?_
            exact ct_iretR (ty := .int) (v := (nI n9)) B rfl rfl (by rw [DG_e (pt := false) (by rw [hfr]; exact hD) hs0.1 (by omega) (fun z9 => absurd rfl z9), if_neg (by rintro (z9 | z9); exact cn0 z9; exact cnb z9)]) dX6_digits_106
          · refine lv_iconst (v := (-1)) hx hb dX6_digits_101 (by decide) ?_
            refine lv_goto (tgt := 106) hx hb dX6_digits_102 (by decide) ?_
            exact ct_iretR (ty := .int) (v := (-1)) B rfl rfl (by rw [DG_e (pt := false) (by rw [hfr]; exact hD) hs0.1 (by omega) (fun z9 => absurd rfl z9), if_pos (Or.inr cnb)]) dX6_digits_106
      · refine lv_aload_n hx hb dX6_digits_36 rfl (lv_at hl 3 rfl) ?_
        refine lv_iload_n hx hb dX6_digits_37 rfl (lv_at hl 2 rfl) ?_
        refine ct_callR (ct_runV (As := [.int (nI p9)]) (rest := []) B (met_J4_charAt l E  _ a p9 t s.heap.size (by omega)) (lw_V q1190 q476 q477 q58 q478) (n := 1) ⟨by decide, by decide, by decide +kernel⟩ rfl ⟨rfl, rfl, (Nat.le_of_ble_eq_true rfl), (Nat.le_of_ble_eq_true rfl), (Nat.le_of_ble_eq_true rfl), (Nat.le_of_ble_eq_true rfl)⟩ (va_S.rf (A := fun _ => False)) (fun _ h => h.elim) (ct_Srecv B hV0.str) hV0.str hl.1 (Nat.le_of_ble_eq_true rfl) dX6_digits_38) (fun v hv => ?_)
        subst hv
        refine W.eq (g2 := F0 m 41 ls [.int (nI (t.getD p9 0))]) rfl ?_
        refine lv_istore (lv' := [(5, .int (nI (t.getD p9 0))), (4, .int (-1)), (3, .int (nI n9)), (2, .int (nI p9)), (0, .ref a), (1, .int (nI 0))]) hx hb dX6_digits_41 hl (by decide) rfl (fun ls hl => ?_)
        refine lv_iload hx hb dX6_digits_43 (lv_at hl 0 rfl) ?_
        refine lv_bipush (v := nI 46) hx hb dX6_digits_45 (by decide) ?_
        refine n_icmp_ne (tgt := 69) hx hb dX6_digits_47 (by decide) (by have := tx_lt hs0.2 p9; omega) (by omega) (fun c46 => ?_) (fun c46 => ?_)
        · refine lv_iload hx hb dX6_digits_69 (lv_at hl 0 rfl) ?_
          refine ct_callR (ct_runS (As := [.int (nI (t.getD p9 0))]) (rest := []) B (met_X6_isDigit l E (t.getD p9 0) s.heap.size (by have := tx_lt hs0.2 p9; omega)) (lw_S q1191 q1192 q54 q1193) (n := 1) ⟨by decide, by decide, by decide +kernel⟩ rfl ⟨rfl, rfl, (Nat.le_of_ble_eq_true rfl), (Nat.le_of_ble_eq_true rfl), (Nat.le_of_ble_eq_true rfl), (Nat.le_of_ble_eq_true rfl)⟩ (va_S.rf (A := fun _ => False)) (fun _ h => h.elim) trivial hl.1 (Nat.le_of_ble_eq_true rfl) dX6_digits_71) (fun v hv => ?_)
          subst hv
          refine W.eq (g2 := F0 m 74 ls [.int (if isD (t.getD p9 0) then 1 else 0)]) rfl ?_
          refine b_if_eq (tgt := 83) hx hb dX6_digits_74 (by decide) (fun cdg => ?_) (fun cdg => ?_)
          · refine lv_iconst (v := (-1)) hx hb dX6_digits_83 (by decide) ?_
            exact ct_iretR (ty := .int) (v := (-1)) B rfl rfl (by rw [DG_x (pt := false) (by rw [hfr]; exact hD) hs0.1 (by omega) cdg (fun z1 z2 z3 => absurd z1 (by decide))]) dX6_digits_84
          · refine n_iinc (n := 1) (lv' := [(3, .int (nI (n9 + 1))), (5, .int (nI (t.getD p9 0))), (4, .int (-1)), (2, .int (nI p9)), (0, .ref a), (1, .int (nI 0))]) hx hb dX6_digits_77 hl (k := 2) rfl rfl (by decide) (by decide) rfl (fun ls hl => ?_)
            refine lv_goto (tgt := 85) hx hb dX6_digits_80 (by decide) ?_
            refine n_iinc (n := 1) (lv' := [(2, .int (nI (p9 + 1))), (3, .int (nI (n9 + 1))), (5, .int (nI (t.getD p9 0))), (4, .int (-1)), (0, .ref a), (1, .int (nI 0))]) hx hb dX6_digits_85 hl (k := 3) rfl rfl (by decide) (by decide) rfl (fun ls hl => ?_)
            refine lv_goto (tgt := 28) hx hb dX6_digits_88 (by decide) ?_
            exact ih_7 ((p9 + 1), (n9 + 1)) ls (by dsimp only; omega) ⟨lv_sub hl [3, 1, 0, 4, 5] rfl, DG_d hD (by omega) cdg⟩
        · refine lv_iload_n hx hb dX6_digits_50 rfl (lv_at hl 5 rfl) ?_
          refine n_if_eq (tgt := 69) hx hb dX6_digits_51 (by decide) (by omega) (fun c_9 => ?_) (fun c_9 => absurd c_9 (by omega))
          refine lv_iload hx hb dX6_digits_69 (lv_at hl 0 rfl) ?_
          refine ct_callR (ct_runS (As := [.int (nI (t.getD p9 0))]) (rest := []) B (met_X6_isDigit l E (t.getD p9 0) s.heap.size (by have := tx_lt hs0.2 p9; omega)) (lw_S q1191 q1192 q54 q1193) (n := 1) ⟨by decide, by decide, by decide +kernel⟩ rfl ⟨rfl, rfl, (Nat.le_of_ble_eq_true rfl), (Nat.le_of_ble_eq_true rfl), (Nat.le_of_ble_eq_true rfl), (Nat.le_of_ble_eq_true rfl)⟩ (va_S.rf (A := fun _ => False)) (fun _ h => h.elim) trivial hl.1 (Nat.le_of_ble_eq_true rfl) dX6_digits_71) (fun v hv => ?_)
          subst hv
          refine W.eq (g2 := F0 m 74 ls [.int (if isD (t.getD p9 0) then 1 else 0)]) rfl ?_
          refine b_if_eq (tgt := 83) hx hb dX6_digits_74 (by decide) (fun cdg => ?_) (fun cdg => ?_)
          · refine lv_iconst (v := (-1)) hx hb dX6_digits_83 (by decide) ?_
            exact ct_iretR (ty := .int) (v := (-1)) B rfl rfl (by rw [DG_x (pt := false) (by rw [hfr]; exact hD) hs0.1 (by omega) cdg (fun z1 z2 z3 => absurd z1 (by decide))]) dX6_digits_84
          · refine n_iinc (n := 1) (lv' := [(3, .int (nI (n9 + 1))), (5, .int (nI (t.getD p9 0))), (4, .int (-1)), (2, .int (nI p9)), (0, .ref a), (1, .int (nI 0))]) hx hb dX6_digits_77 hl (k := 2) rfl rfl (by decide) (by decide) rfl (fun ls hl => ?_)
            refine lv_goto (tgt := 85) hx hb dX6_digits_80 (by decide) ?_
            refine n_iinc (n := 1) (lv' := [(2, .int (nI (p9 + 1))), (3, .int (nI (n9 + 1))), (5, .int (nI (t.getD p9 0))), (4, .int (-1)), (0, .ref a), (1, .int (nI 0))]) hx hb dX6_digits_85 hl (k := 3) rfl rfl (by decide) (by decide) rfl (fun ls hl => ?_)
            refine lv_goto (tgt := 28) hx hb dX6_digits_88 (by decide) ?_
            exact ih_7 ((p9 + 1), (n9 + 1)) ls (by dsimp only; omega) ⟨lv_sub hl [3, 1, 0, 4, 5] rfl, DG_d hD (by omega) cdg⟩
set_option maxHeartbeats 4000000 in
set_option maxRecDepth 100000 in
theorem met_X6_digits_true (l : Launch) (E : CE) (A0 : Nat → Prop) (a : Nat) (t : List Nat) (sz : Nat)  : Met l yX6_digits (ws_ yX6_digits cX6_digits 6 (some .int)) { frames := 4, cells := 0, slots := 0, locals := 85 } (ctP E [.ref a, .int (nI 1)] sz (fun H => ct_S E A0 H a t)) (ctR (fun v => v = some (.int (dgV true t)))) 0 0 (fun _ => False) := by
  refine ct_start (by decide) (Nat.le_of_ble_eq_true rfl) ?_
  intro p e s m below meth c ls B hsz hH hl
  have hS0 := hH
  have hx := B.1
  have hb := B.2.1
  have hl : lv_has ls 6 [(0, .ref a), (1, .int (nI 1))] := hl
  obtain ⟨v0, hV0⟩ := hS0.val
  have hs0 := hS0.small
  have hD0 := DG_0 (t := t)
  have hfb := frT_le t
  refine lv_aload_n hx hb dX6_digits_0 rfl (lv_at hl 0 rfl) ?_
  refine ct_callR (ct_runV (As := []) (rest := []) B (met_J4_length l E  _ a t s.heap.size) (lw_V q1189 q466 q467 q58 q468) (n := 0) ⟨by decide, by decide, by decide +kernel⟩ rfl ⟨rfl, rfl, (Nat.le_of_ble_eq_true rfl), (Nat.le_of_ble_eq_true rfl), (Nat.le_of_ble_eq_true rfl), (Nat.le_of_ble_eq_true rfl)⟩ (va_S.rf (A := fun _ => False)) (fun _ h => h.elim) (ct_Srecv B hV0.str) hV0.str hl.1 (Nat.le_of_ble_eq_true rfl) dX6_digits_1) (fun v hv => ?_)
  subst hv
  refine W.eq (g2 := F0 m 4 ls [.int (nI t.length)]) rfl ?_
  refine n_if_le (tgt := 21) hx hb dX6_digits_4 (by decide) (by omega) (fun c0 => ?_) (fun c0 => ?_)
  · refine lv_iconst (v := nI 0) hx hb dX6_digits_21 (by decide) ?_
    have hfr : frT t = 0 := by unfold frT; rw [if_neg (by rw [List.length_eq_zero_iff.mp c0]; decide)]
    rw [hfr] at hD0 hfb
    refine lv_istore_n (lv' := [(2, .int (nI 0)), (0, .ref a), (1, .int (nI 1))]) hx hb dX6_digits_22 rfl hl (by decide) rfl (fun ls hl => ?_)
    refine lv_iconst (v := nI 0) hx hb dX6_digits_23 (by decide) ?_
    refine lv_istore_n (lv' := [(3, .int (nI 0)), (2, .int (nI 0)), (0, .ref a), (1, .int (nI 1))]) hx hb dX6_digits_24 rfl hl (by decide) rfl (fun ls hl => ?_)
    refine lv_iconst (v := (-1)) hx hb dX6_digits_25 (by decide) ?_
    refine lv_istore (lv' := [(4, .int (-1)), (3, .int (nI 0)), (2, .int (nI 0)), (0, .ref a), (1, .int (nI 1))]) hx hb dX6_digits_26 hl (by decide) rfl (fun ls hl => ?_)
    refine ct_loop (σ := Nat × Nat × Int32) (fun (p9, n9, bf) ls => lv_has ls 6 [(4, .int bf), (3, .int (nI n9)), (2, .int (nI p9)), (0, .ref a), (1, .int (nI 1))] ∧ (DG t 0 p9 n9 bf)) (fun (p9, n9, bf) => t.length - p9) (g := fun (p9, n9, bf) ls => F0 m 28 ls []) (x0 := (0, 0, (-1))) (ls0 := ls) ?_ ⟨lv_sub hl [0, 1, 2, 3, 4] rfl, hD0⟩
    clear hl
    intro x9 ls hI ih_1
    obtain ⟨p9, n9, bf⟩ := x9
    obtain ⟨hl, hD⟩ := hI
    refine W.eq (g2 := F0 m 28 ls []) rfl ?_
    have hDb := DG_b hD
    refine lv_iload_n hx hb dX6_digits_28 rfl (lv_at hl 2 rfl) ?_
    refine lv_aload_n hx hb dX6_digits_29 rfl (lv_at hl 3 rfl) ?_
    refine ct_callR (ct_runV (As := []) (rest := [.int (nI p9)]) B (met_J4_length l E  _ a t s.heap.size) (lw_V q1189 q466 q467 q58 q468) (n := 0) ⟨by decide, by decide, by decide +kernel⟩ rfl ⟨rfl, rfl, (Nat.le_of_ble_eq_true rfl), (Nat.le_of_ble_eq_true rfl), (Nat.le_of_ble_eq_true rfl), (Nat.le_of_ble_eq_true rfl)⟩ (va_S.rf (A := fun _ => False)) (fun _ h => h.elim) (ct_Srecv B hV0.str) hV0.str hl.1 (Nat.le_of_ble_eq_true rfl) dX6_digits_30) (fun v hv => ?_)
    subst hv
    refine W.eq (g2 := F0 m 33 ls [.int (nI t.length), .int (nI p9)]) rfl ?_
    refine n_icmp_ge (tgt := 91) hx hb dX6_digits_33 (by decide) (by omega) (by omega) (fun c_2 => ?_) (fun c_2 => ?_)
    · refine lv_iload_n hx hb dX6_digits_91 rfl (lv_at hl 1 rfl) ?_
      refine n_if_eq (tgt := 101) hx hb dX6_digits_92 (by decide) (by omega) (fun cn0 => ?_) (fun cn0 => ?_)
      · refine lv_iconst (v := (-1)) hx hb dX6_digits_101 (by decide) ?_
        refine lv_goto (tgt := 106) hx hb dX6_digits_102 (by decide) ?_
        exact ct_iretR (ty := .int) (v := (-1)) B rfl rfl (by rw [DG_e (pt := true) (by rw [hfr]; exact hD) hs0.1 (by omega) (fun _ => rfl), if_pos (Or.inl cn0)]) dX6_digits_106
      · refine lv_iload_n hx hb dX6_digits_95 rfl (lv_at hl 1 rfl) ?_
        refine lv_iload hx hb dX6_digits_96 (lv_at hl 0 rfl) ?_
        refine lv_icmp_ne (tgt := 105) hx hb dX6_digits_98 (by decide) (fun cnb => ?_) (fun cnb => ?_)
        · refine lv_iload_n hx hb dX6_digits_105 rfl (lv_at hl 1 rfl) ?_
          exact ct_iretR (ty := .int) (v := (nI n9)) B rfl rfl (by rw [DG_e (pt := true) (by rw [hfr]; exact hD) hs0.1 (by omega) (fun _ => rfl), if_neg (by rintro (z9 | z9); exact cn0 z9; exact cnb z9)]) dX6_digits_106
        · refine lv_iconst (v := (-1)) hx hb dX6_digits_101 (by decide) ?_
          refine lv_goto (tgt := 106) hx hb dX6_digits_102 (by decide) ?_
          exact ct_iretR (ty := .int) (v := (-1)) B rfl rfl (by rw [DG_e (pt := true) (by rw [hfr]; exact hD) hs0.1 (by omega) (fun _ => rfl), if_pos (Or.inr cnb)]) dX6_digits_106
    · refine lv_aload_n hx hb dX6_digits_36 rfl (lv_at hl 3 rfl) ?_
      refine lv_iload_n hx hb dX6_digits_37 rfl (lv_at hl 2 rfl) ?_
      refine ct_callR (ct_runV (As := [.int (nI p9)]) (rest := []) B (met_J4_charAt l E  _ a p9 t s.heap.size (by omega)) (lw_V q1190 q476 q477 q58 q478) (n := 1) ⟨by decide, by decide, by decide +kernel⟩ rfl ⟨rfl, rfl, (Nat.le_of_ble_eq_true rfl), (Nat.le_of_ble_eq_true rfl), (Nat.le_of_ble_eq_true rfl), (Nat.le_of_ble_eq_true rfl)⟩ (va_S.rf (A := fun _ => False)) (fun _ h => h.elim) (ct_Srecv B hV0.str) hV0.str hl.1 (Nat.le_of_ble_eq_true rfl) dX6_digits_38) (fun v hv => ?_)
      subst hv
      refine W.eq (g2 := F0 m 41 ls [.int (nI (t.getD p9 0))]) rfl ?_
      refine lv_istore (lv' := [(5, .int (nI (t.getD p9 0))), (4, .int bf), (3, .int (nI n9)), (2, .int (nI p9)), (0, .ref a), (1, .int (nI 1))]) hx hb dX6_digits_41 hl (by decide) rfl (fun ls hl => ?_)
      refine lv_iload hx hb dX6_digits_43 (lv_at hl 0 rfl) ?_
      refine lv_bipush (v := nI 46) hx hb dX6_digits_45 (by decide) ?_
      refine n_icmp_ne (tgt := 69) hx hb dX6_digits_47 (by decide) (by have := tx_lt hs0.2 p9; omega) (by omega) (fun c46 => ?_) (fun c46 => ?_)
      · refine lv_iload hx hb dX6_digits_69 (lv_at hl 0 rfl) ?_
        refine ct_callR (ct_runS (As := [.int (nI (t.getD p9 0))]) (rest := []) B (met_X6_isDigit l E (t.getD p9 0) s.heap.size (by have := tx_lt hs0.2 p9; omega)) (lw_S q1191 q1192 q54 q1193) (n := 1) ⟨by decide, by decide, by decide +kernel⟩ rfl ⟨rfl, rfl, (Nat.le_of_ble_eq_true rfl), (Nat.le_of_ble_eq_true rfl), (Nat.le_of_ble_eq_true rfl), (Nat.le_of_ble_eq_true rfl)⟩ (va_S.rf (A := fun _ => False)) (fun _ h => h.elim) trivial hl.1 (Nat.le_of_ble_eq_true rfl) dX6_digits_71) (fun v hv => ?_)
        subst hv
        refine W.eq (g2 := F0 m 74 ls [.int (if isD (t.getD p9 0) then 1 else 0)]) rfl ?_
        refine b_if_eq (tgt := 83) hx hb dX6_digits_74 (by decide) (fun cdg => ?_) (fun cdg => ?_)
        · refine lv_iconst (v := (-1)) hx hb dX6_digits_83 (by decide) ?_
          exact ct_iretR (ty := .int) (v := (-1)) B rfl rfl (by rw [DG_x (pt := true) (by rw [hfr]; exact hD) hs0.1 (by omega) cdg (fun z1 z2 z3 => absurd z2 c46)]) dX6_digits_84
        · refine n_iinc (n := 1) (lv' := [(3, .int (nI (n9 + 1))), (5, .int (nI (t.getD p9 0))), (4, .int bf), (2, .int (nI p9)), (0, .ref a), (1, .int (nI 1))]) hx hb dX6_digits_77 hl (k := 2) rfl rfl (by decide) (by decide) rfl (fun ls hl => ?_)
          refine lv_goto (tgt := 85) hx hb dX6_digits_80 (by decide) ?_
          refine n_iinc (n := 1) (lv' := [(2, .int (nI (p9 + 1))), (3, .int (nI (n9 + 1))), (5, .int (nI (t.getD p9 0))), (4, .int bf), (0, .ref a), (1, .int (nI 1))]) hx hb dX6_digits_85 hl (k := 3) rfl rfl (by decide) (by decide) rfl (fun ls hl => ?_)
          refine lv_goto (tgt := 28) hx hb dX6_digits_88 (by decide) ?_
          exact ih_1 ((p9 + 1), (n9 + 1), bf) ls (by dsimp only; omega) ⟨lv_sub hl [3, 1, 0, 4, 5] rfl, DG_d hD (by omega) cdg⟩
      · refine lv_iload_n hx hb dX6_digits_50 rfl (lv_at hl 5 rfl) ?_
        refine n_if_eq (tgt := 69) hx hb dX6_digits_51 (by decide) (by omega) (fun c_3 => absurd c_3 (by omega)) (fun c_3 => ?_)
        refine lv_iload hx hb dX6_digits_54 (lv_at hl 1 rfl) ?_
        refine lv_if_ge (tgt := 69) hx hb dX6_digits_56 (by decide) (fun c56 => ?_) (fun c56 => ?_)
        · refine lv_iload hx hb dX6_digits_69 (lv_at hl 0 rfl) ?_
          refine ct_callR (ct_runS (As := [.int (nI (t.getD p9 0))]) (rest := []) B (met_X6_isDigit l E (t.getD p9 0) s.heap.size (by have := tx_lt hs0.2 p9; omega)) (lw_S q1191 q1192 q54 q1193) (n := 1) ⟨by decide, by decide, by decide +kernel⟩ rfl ⟨rfl, rfl, (Nat.le_of_ble_eq_true rfl), (Nat.le_of_ble_eq_true rfl), (Nat.le_of_ble_eq_true rfl), (Nat.le_of_ble_eq_true rfl)⟩ (va_S.rf (A := fun _ => False)) (fun _ h => h.elim) trivial hl.1 (Nat.le_of_ble_eq_true rfl) dX6_digits_71) (fun v hv => ?_)
          subst hv
          refine W.eq (g2 := F0 m 74 ls [.int (if isD (t.getD p9 0) then 1 else 0)]) rfl ?_
          refine b_if_eq (tgt := 83) hx hb dX6_digits_74 (by decide) (fun cdg => ?_) (fun cdg => ?_)
          · refine lv_iconst (v := (-1)) hx hb dX6_digits_83 (by decide) ?_
            exact ct_iretR (ty := .int) (v := (-1)) B rfl rfl (by rw [DG_x (pt := true) (by rw [hfr]; exact hD) hs0.1 (by omega) cdg (fun z1 z2 z3 => absurd z3 (Int32.not_lt.mpr c56))]) dX6_digits_84
          · refine n_iinc (n := 1) (lv' := [(3, .int (nI (n9 + 1))), (5, .int (nI (t.getD p9 0))), (4, .int bf), (2, .int (nI p9)), (0, .ref a), (1, .int (nI 1))]) hx hb dX6_digits_77 hl (k := 2) rfl rfl (by decide) (by decide) rfl (fun ls hl => ?_)
            refine lv_goto (tgt := 85) hx hb dX6_digits_80 (by decide) ?_
            refine n_iinc (n := 1) (lv' := [(2, .int (nI (p9 + 1))), (3, .int (nI (n9 + 1))), (5, .int (nI (t.getD p9 0))), (4, .int bf), (0, .ref a), (1, .int (nI 1))]) hx hb dX6_digits_85 hl (k := 3) rfl rfl (by decide) (by decide) rfl (fun ls hl => ?_)
            refine lv_goto (tgt := 28) hx hb dX6_digits_88 (by decide) ?_
            exact ih_1 ((p9 + 1), (n9 + 1), bf) ls (by dsimp only; omega) ⟨lv_sub hl [3, 1, 0, 4, 5] rfl, DG_d hD (by omega) cdg⟩
        · refine lv_iload_n hx hb dX6_digits_59 rfl (lv_at hl 2 rfl) ?_
          refine n_if_le (tgt := 69) hx hb dX6_digits_60 (by decide) (by omega) (fun c60 => ?_) (fun c60 => ?_)
          · refine lv_iload hx hb dX6_digits_69 (lv_at hl 0 rfl) ?_
            refine ct_callR (ct_runS (As := [.int (nI (t.getD p9 0))]) (rest := []) B (met_X6_isDigit l E (t.getD p9 0) s.heap.size (by have := tx_lt hs0.2 p9; omega)) (lw_S q1191 q1192 q54 q1193) (n := 1) ⟨by decide, by decide, by decide +kernel⟩ rfl ⟨rfl, rfl, (Nat.le_of_ble_eq_true rfl), (Nat.le_of_ble_eq_true rfl), (Nat.le_of_ble_eq_true rfl), (Nat.le_of_ble_eq_true rfl)⟩ (va_S.rf (A := fun _ => False)) (fun _ h => h.elim) trivial hl.1 (Nat.le_of_ble_eq_true rfl) dX6_digits_71) (fun v hv => ?_)
            subst hv
            refine W.eq (g2 := F0 m 74 ls [.int (if isD (t.getD p9 0) then 1 else 0)]) rfl ?_
            refine b_if_eq (tgt := 83) hx hb dX6_digits_74 (by decide) (fun cdg => ?_) (fun cdg => ?_)
            · refine lv_iconst (v := (-1)) hx hb dX6_digits_83 (by decide) ?_
              exact ct_iretR (ty := .int) (v := (-1)) B rfl rfl (by rw [DG_x (pt := true) (by rw [hfr]; exact hD) hs0.1 (by omega) cdg (fun z1 z2 z3 => c60)]) dX6_digits_84
            · refine n_iinc (n := 1) (lv' := [(3, .int (nI (n9 + 1))), (5, .int (nI (t.getD p9 0))), (4, .int bf), (2, .int (nI p9)), (0, .ref a), (1, .int (nI 1))]) hx hb dX6_digits_77 hl (k := 2) rfl rfl (by decide) (by decide) rfl (fun ls hl => ?_)
              refine lv_goto (tgt := 85) hx hb dX6_digits_80 (by decide) ?_
              refine n_iinc (n := 1) (lv' := [(2, .int (nI (p9 + 1))), (3, .int (nI (n9 + 1))), (5, .int (nI (t.getD p9 0))), (4, .int bf), (0, .ref a), (1, .int (nI 1))]) hx hb dX6_digits_85 hl (k := 3) rfl rfl (by decide) (by decide) rfl (fun ls hl => ?_)
              refine lv_goto (tgt := 28) hx hb dX6_digits_88 (by decide) ?_
              exact ih_1 ((p9 + 1), (n9 + 1), bf) ls (by dsimp only; omega) ⟨lv_sub hl [3, 1, 0, 4, 5] rfl, DG_d hD (by omega) cdg⟩
          · refine lv_iload_n hx hb dX6_digits_63 rfl (lv_at hl 2 rfl) ?_
            refine lv_istore (lv' := [(4, .int (nI n9)), (5, .int (nI (t.getD p9 0))), (3, .int (nI n9)), (2, .int (nI p9)), (0, .ref a), (1, .int (nI 1))]) hx hb dX6_digits_64 hl (by decide) rfl (fun ls hl => ?_)
            refine lv_goto (tgt := 85) hx hb dX6_digits_66 (by decide) ?_
            refine n_iinc (n := 1) (lv' := [(2, .int (nI (p9 + 1))), (4, .int (nI n9)), (5, .int (nI (t.getD p9 0))), (3, .int (nI n9)), (0, .ref a), (1, .int (nI 1))]) hx hb dX6_digits_85 hl (k := 3) rfl rfl (by decide) (by decide) rfl (fun ls hl => ?_)
            refine lv_goto (tgt := 28) hx hb dX6_digits_88 (by decide) ?_
            exact ih_1 ((p9 + 1), n9, (nI n9)) ls (by dsimp only; omega) ⟨lv_sub hl [1, 3, 0, 4, 5] rfl, DG_p hD hs0.1 (Int32.not_le.mp c56) (by omega) (by omega) c46⟩
  · refine lv_aload_n hx hb dX6_digits_7 rfl (lv_at hl 0 rfl) ?_
    refine lv_iconst (v := nI 0) hx hb dX6_digits_8 (by decide) ?_
    refine ct_callR (ct_runV (As := [.int (nI 0)]) (rest := []) B (met_J4_charAt l E  _ a 0 t s.heap.size c0) (lw_V q1190 q476 q477 q58 q478) (n := 1) ⟨by decide, by decide, by decide +kernel⟩ rfl ⟨rfl, rfl, (Nat.le_of_ble_eq_true rfl), (Nat.le_of_ble_eq_true rfl), (Nat.le_of_ble_eq_true rfl), (Nat.le_of_ble_eq_true rfl)⟩ (va_S.rf (A := fun _ => False)) (fun _ h => h.elim) (ct_Srecv B hV0.str) hV0.str hl.1 (Nat.le_of_ble_eq_true rfl) dX6_digits_9) (fun v hv => ?_)
    subst hv
    refine W.eq (g2 := F0 m 12 ls [.int (nI (t.getD 0 0))]) rfl ?_
    refine lv_bipush (v := nI 45) hx hb dX6_digits_12 (by decide) ?_
    refine n_icmp_ne (tgt := 21) hx hb dX6_digits_14 (by decide) (by have := tx_lt hs0.2 0; omega) (by omega) (fun c45 => ?_) (fun c45 => ?_)
    · refine lv_iconst (v := nI 0) hx hb dX6_digits_21 (by decide) ?_
      have hfr : frT t = 0 := by unfold frT; rw [if_neg (by exact c45)]
      rw [hfr] at hD0 hfb
      refine lv_istore_n (lv' := [(2, .int (nI 0)), (0, .ref a), (1, .int (nI 1))]) hx hb dX6_digits_22 rfl hl (by decide) rfl (fun ls hl => ?_)
      refine lv_iconst (v := nI 0) hx hb dX6_digits_23 (by decide) ?_
      refine lv_istore_n (lv' := [(3, .int (nI 0)), (2, .int (nI 0)), (0, .ref a), (1, .int (nI 1))]) hx hb dX6_digits_24 rfl hl (by decide) rfl (fun ls hl => ?_)
      refine lv_iconst (v := (-1)) hx hb dX6_digits_25 (by decide) ?_
      refine lv_istore (lv' := [(4, .int (-1)), (3, .int (nI 0)), (2, .int (nI 0)), (0, .ref a), (1, .int (nI 1))]) hx hb dX6_digits_26 hl (by decide) rfl (fun ls hl => ?_)
      refine ct_loop (σ := Nat × Nat × Int32) (fun (p9, n9, bf) ls => lv_has ls 6 [(4, .int bf), (3, .int (nI n9)), (2, .int (nI p9)), (0, .ref a), (1, .int (nI 1))] ∧ (DG t 0 p9 n9 bf)) (fun (p9, n9, bf) => t.length - p9) (g := fun (p9, n9, bf) ls => F0 m 28 ls []) (x0 := (0, 0, (-1))) (ls0 := ls) ?_ ⟨lv_sub hl [0, 1, 2, 3, 4] rfl, hD0⟩
      clear hl
      intro x9 ls hI ih_4
      obtain ⟨p9, n9, bf⟩ := x9
      obtain ⟨hl, hD⟩ := hI
      refine W.eq (g2 := F0 m 28 ls []) rfl ?_
      have hDb := DG_b hD
      refine lv_iload_n hx hb dX6_digits_28 rfl (lv_at hl 2 rfl) ?_
      refine lv_aload_n hx hb dX6_digits_29 rfl (lv_at hl 3 rfl) ?_
      refine ct_callR (ct_runV (As := []) (rest := [.int (nI p9)]) B (met_J4_length l E  _ a t s.heap.size) (lw_V q1189 q466 q467 q58 q468) (n := 0) ⟨by decide, by decide, by decide +kernel⟩ rfl ⟨rfl, rfl, (Nat.le_of_ble_eq_true rfl), (Nat.le_of_ble_eq_true rfl), (Nat.le_of_ble_eq_true rfl), (Nat.le_of_ble_eq_true rfl)⟩ (va_S.rf (A := fun _ => False)) (fun _ h => h.elim) (ct_Srecv B hV0.str) hV0.str hl.1 (Nat.le_of_ble_eq_true rfl) dX6_digits_30) (fun v hv => ?_)
      subst hv
      refine W.eq (g2 := F0 m 33 ls [.int (nI t.length), .int (nI p9)]) rfl ?_
      refine n_icmp_ge (tgt := 91) hx hb dX6_digits_33 (by decide) (by omega) (by omega) (fun c_5 => ?_) (fun c_5 => ?_)
      · refine lv_iload_n hx hb dX6_digits_91 rfl (lv_at hl 1 rfl) ?_
        refine n_if_eq (tgt := 101) hx hb dX6_digits_92 (by decide) (by omega) (fun cn0 => ?_) (fun cn0 => ?_)
        · refine lv_iconst (v := (-1)) hx hb dX6_digits_101 (by decide) ?_
          refine lv_goto (tgt := 106) hx hb dX6_digits_102 (by decide) ?_
          exact ct_iretR (ty := .int) (v := (-1)) B rfl rfl (by rw [DG_e (pt := true) (by rw [hfr]; exact hD) hs0.1 (by omega) (fun _ => rfl), if_pos (Or.inl cn0)]) dX6_digits_106
        · refine lv_iload_n hx hb dX6_digits_95 rfl (lv_at hl 1 rfl) ?_
          refine lv_iload hx hb dX6_digits_96 (lv_at hl 0 rfl) ?_
          refine lv_icmp_ne (tgt := 105) hx hb dX6_digits_98 (by decide) (fun cnb => ?_) (fun cnb => ?_)
          · refine lv_iload_n hx hb dX6_digits_105 rfl (lv_at hl 1 rfl) ?_
            exact ct_iretR (ty := .int) (v := (nI n9)) B rfl rfl (by rw [DG_e (pt := true) (by rw [hfr]; exact hD) hs0.1 (by omega) (fun _ => rfl), if_neg (by rintro (z9 | z9); exact cn0 z9; exact cnb z9)]) dX6_digits_106
          · refine lv_iconst (v := (-1)) hx hb dX6_digits_101 (by decide) ?_
            refine lv_goto (tgt := 106) hx hb dX6_digits_102 (by decide) ?_
            exact ct_iretR (ty := .int) (v := (-1)) B rfl rfl (by rw [DG_e (pt := true) (by rw [hfr]; exact hD) hs0.1 (by omega) (fun _ => rfl), if_pos (Or.inr cnb)]) dX6_digits_106
      · refine lv_aload_n hx hb dX6_digits_36 rfl (lv_at hl 3 rfl) ?_
        refine lv_iload_n hx hb dX6_digits_37 rfl (lv_at hl 2 rfl) ?_
        refine ct_callR (ct_runV (As := [.int (nI p9)]) (rest := []) B (met_J4_charAt l E  _ a p9 t s.heap.size (by omega)) (lw_V q1190 q476 q477 q58 q478) (n := 1) ⟨by decide, by decide, by decide +kernel⟩ rfl ⟨rfl, rfl, (Nat.le_of_ble_eq_true rfl), (Nat.le_of_ble_eq_true rfl), (Nat.le_of_ble_eq_true rfl), (Nat.le_of_ble_eq_true rfl)⟩ (va_S.rf (A := fun _ => False)) (fun _ h => h.elim) (ct_Srecv B hV0.str) hV0.str hl.1 (Nat.le_of_ble_eq_true rfl) dX6_digits_38) (fun v hv => ?_)
        subst hv
        refine W.eq (g2 := F0 m 41 ls [.int (nI (t.getD p9 0))]) rfl ?_
        refine lv_istore (lv' := [(5, .int (nI (t.getD p9 0))), (4, .int bf), (3, .int (nI n9)), (2, .int (nI p9)), (0, .ref a), (1, .int (nI 1))]) hx hb dX6_digits_41 hl (by decide) rfl (fun ls hl => ?_)
        refine lv_iload hx hb dX6_digits_43 (lv_at hl 0 rfl) ?_
        refine lv_bipush (v := nI 46) hx hb dX6_digits_45 (by decide) ?_
        refine n_icmp_ne (tgt := 69) hx hb dX6_digits_47 (by decide) (by have := tx_lt hs0.2 p9; omega) (by omega) (fun c46 => ?_) (fun c46 => ?_)
        · refine lv_iload hx hb dX6_digits_69 (lv_at hl 0 rfl) ?_
          refine ct_callR (ct_runS (As := [.int (nI (t.getD p9 0))]) (rest := []) B (met_X6_isDigit l E (t.getD p9 0) s.heap.size (by have := tx_lt hs0.2 p9; omega)) (lw_S q1191 q1192 q54 q1193) (n := 1) ⟨by decide, by decide, by decide +kernel⟩ rfl ⟨rfl, rfl, (Nat.le_of_ble_eq_true rfl), (Nat.le_of_ble_eq_true rfl), (Nat.le_of_ble_eq_true rfl), (Nat.le_of_ble_eq_true rfl)⟩ (va_S.rf (A := fun _ => False)) (fun _ h => h.elim) trivial hl.1 (Nat.le_of_ble_eq_true rfl) dX6_digits_71) (fun v hv => ?_)
          subst hv
          refine W.eq (g2 := F0 m 74 ls [.int (if isD (t.getD p9 0) then 1 else 0)]) rfl ?_
          refine b_if_eq (tgt := 83) hx hb dX6_digits_74 (by decide) (fun cdg => ?_) (fun cdg => ?_)
          · refine lv_iconst (v := (-1)) hx hb dX6_digits_83 (by decide) ?_
            exact ct_iretR (ty := .int) (v := (-1)) B rfl rfl (by rw [DG_x (pt := true) (by rw [hfr]; exact hD) hs0.1 (by omega) cdg (fun z1 z2 z3 => absurd z2 c46)]) dX6_digits_84
          · refine n_iinc (n := 1) (lv' := [(3, .int (nI (n9 + 1))), (5, .int (nI (t.getD p9 0))), (4, .int bf), (2, .int (nI p9)), (0, .ref a), (1, .int (nI 1))]) hx hb dX6_digits_77 hl (k := 2) rfl rfl (by decide) (by decide) rfl (fun ls hl => ?_)
            refine lv_goto (tgt := 85) hx hb dX6_digits_80 (by decide) ?_
            refine n_iinc (n := 1) (lv' := [(2, .int (nI (p9 + 1))), (3, .int (nI (n9 + 1))), (5, .int (nI (t.getD p9 0))), (4, .int bf), (0, .ref a), (1, .int (nI 1))]) hx hb dX6_digits_85 hl (k := 3) rfl rfl (by decide) (by decide) rfl (fun ls hl => ?_)
            refine lv_goto (tgt := 28) hx hb dX6_digits_88 (by decide) ?_
            exact ih_4 ((p9 + 1), (n9 + 1), bf) ls (by dsimp only; omega) ⟨lv_sub hl [3, 1, 0, 4, 5] rfl, DG_d hD (by omega) cdg⟩
        · refine lv_iload_n hx hb dX6_digits_50 rfl (lv_at hl 5 rfl) ?_
          refine n_if_eq (tgt := 69) hx hb dX6_digits_51 (by decide) (by omega) (fun c_6 => absurd c_6 (by omega)) (fun c_6 => ?_)
          refine lv_iload hx hb dX6_digits_54 (lv_at hl 1 rfl) ?_
          refine lv_if_ge (tgt := 69) hx hb dX6_digits_56 (by decide) (fun c56 => ?_) (fun c56 => ?_)
          · refine lv_iload hx hb dX6_digits_69 (lv_at hl 0 rfl) ?_
            refine ct_callR (ct_runS (As := [.int (nI (t.getD p9 0))]) (rest := []) B (met_X6_isDigit l E (t.getD p9 0) s.heap.size (by have := tx_lt hs0.2 p9; omega)) (lw_S q1191 q1192 q54 q1193) (n := 1) ⟨by decide, by decide, by decide +kernel⟩ rfl ⟨rfl, rfl, (Nat.le_of_ble_eq_true rfl), (Nat.le_of_ble_eq_true rfl), (Nat.le_of_ble_eq_true rfl), (Nat.le_of_ble_eq_true rfl)⟩ (va_S.rf (A := fun _ => False)) (fun _ h => h.elim) trivial hl.1 (Nat.le_of_ble_eq_true rfl) dX6_digits_71) (fun v hv => ?_)
            subst hv
            refine W.eq (g2 := F0 m 74 ls [.int (if isD (t.getD p9 0) then 1 else 0)]) rfl ?_
            refine b_if_eq (tgt := 83) hx hb dX6_digits_74 (by decide) (fun cdg => ?_) (fun cdg => ?_)
            · refine lv_iconst (v := (-1)) hx hb dX6_digits_83 (by decide) ?_
              exact ct_iretR (ty := .int) (v := (-1)) B rfl rfl (by rw [DG_x (pt := true) (by rw [hfr]; exact hD) hs0.1 (by omega) cdg (fun z1 z2 z3 => absurd z3 (Int32.not_lt.mpr c56))]) dX6_digits_84
            · refine n_iinc (n := 1) (lv' := [(3, .int (nI (n9 + 1))), (5, .int (nI (t.getD p9 0))), (4, .int bf), (2, .int (nI p9)), (0, .ref a), (1, .int (nI 1))]) hx hb dX6_digits_77 hl (k := 2) rfl rfl (by decide) (by decide) rfl (fun ls hl => ?_)
              refine lv_goto (tgt := 85) hx hb dX6_digits_80 (by decide) ?_
              refine n_iinc (n := 1) (lv' := [(2, .int (nI (p9 + 1))), (3, .int (nI (n9 + 1))), (5, .int (nI (t.getD p9 0))), (4, .int bf), (0, .ref a), (1, .int (nI 1))]) hx hb dX6_digits_85 hl (k := 3) rfl rfl (by decide) (by decide) rfl (fun ls hl => ?_)
              refine lv_goto (tgt := 28) hx hb dX6_digits_88 (by decide) ?_
              exact ih_4 ((p9 + 1), (n9 + 1), bf) ls (by dsimp only; omega) ⟨lv_sub hl [3, 1, 0, 4, 5] rfl, DG_d hD (by omega) cdg⟩
          · refine lv_iload_n hx hb dX6_digits_59 rfl (lv_at hl 2 rfl) ?_
            refine n_if_le (tgt := 69) hx hb dX6_digits_60 (by decide) (by omega) (fun c60 => ?_) (fun c60 => ?_)
            · refine lv_iload hx hb dX6_digits_69 (lv_at hl 0 rfl) ?_
              refine ct_callR (ct_runS (As := [.int (nI (t.getD p9 0))]) (rest := []) B (met_X6_isDigit l E (t.getD p9 0) s.heap.size (by have := tx_lt hs0.2 p9; omega)) (lw_S q1191 q1192 q54 q1193) (n := 1) ⟨by decide, by decide, by decide +kernel⟩ rfl ⟨rfl, rfl, (Nat.le_of_ble_eq_true rfl), (Nat.le_of_ble_eq_true rfl), (Nat.le_of_ble_eq_true rfl), (Nat.le_of_ble_eq_true rfl)⟩ (va_S.rf (A := fun _ => False)) (fun _ h => h.elim) trivial hl.1 (Nat.le_of_ble_eq_true rfl) dX6_digits_71) (fun v hv => ?_)
              subst hv
              refine W.eq (g2 := F0 m 74 ls [.int (if isD (t.getD p9 0) then 1 else 0)]) rfl ?_
              refine b_if_eq (tgt := 83) hx hb dX6_digits_74 (by decide) (fun cdg => ?_) (fun cdg => ?_)
              · refine lv_iconst (v := (-1)) hx hb dX6_digits_83 (by decide) ?_
                exact ct_iretR (ty := .int) (v := (-1)) B rfl rfl (by rw [DG_x (pt := true) (by rw [hfr]; exact hD) hs0.1 (by omega) cdg (fun z1 z2 z3 => c60)]) dX6_digits_84
              · refine n_iinc (n := 1) (lv' := [(3, .int (nI (n9 + 1))), (5, .int (nI (t.getD p9 0))), (4, .int bf), (2, .int (nI p9)), (0, .ref a), (1, .int (nI 1))]) hx hb dX6_digits_77 hl (k := 2) rfl rfl (by decide) (by decide) rfl (fun ls hl => ?_)
                refine lv_goto (tgt := 85) hx hb dX6_digits_80 (by decide) ?_
                refine n_iinc (n := 1) (lv' := [(2, .int (nI (p9 + 1))), (3, .int (nI (n9 + 1))), (5, .int (nI (t.getD p9 0))), (4, .int bf), (0, .ref a), (1, .int (nI 1))]) hx hb dX6_digits_85 hl (k := 3) rfl rfl (by decide) (by decide) rfl (fun ls hl => ?_)
                refine lv_goto (tgt := 28) hx hb dX6_digits_88 (by decide) ?_
                exact ih_4 ((p9 + 1), (n9 + 1), bf) ls (by dsimp only; omega) ⟨lv_sub hl [3, 1, 0, 4, 5] rfl, DG_d hD (by omega) cdg⟩
            · refine lv_iload_n hx hb dX6_digits_63 rfl (lv_at hl 2 rfl) ?_
              refine lv_istore (lv' := [(4, .int (nI n9)), (5, .int (nI (t.getD p9 0))), (3, .int (nI n9)), (2, .int (nI p9)), (0, .ref a), (1, .int (nI 1))]) hx hb dX6_digits_64 hl (by decide) rfl (fun ls hl => ?_)
              refine lv_goto (tgt := 85) hx hb dX6_digits_66 (by decide) ?_
              refine n_iinc (n := 1) (lv' := [(2, .int (nI (p9 + 1))), (4, .int (nI n9)), (5, .int (nI (t.getD p9 0))), (3, .int (nI n9)), (0, .ref a), (1, .int (nI 1))]) hx hb dX6_digits_85 hl (k := 3) rfl rfl (by decide) (by decide) rfl (fun ls hl => ?_)
              refine lv_goto (tgt := 28) hx hb dX6_digits_88 (by decide) ?_
              exact ih_4 ((p9 + 1), n9, (nI n9)) ls (by dsimp only; omega) ⟨lv_sub hl [1, 3, 0, 4, 5] rfl, DG_p hD hs0.1 (Int32.not_le.mp c56) (by omega) (by omega) c46⟩
    · refine lv_iconst (v := nI 1) hx hb dX6_digits_17 (by decide) ?_
      refine lv_goto (tgt := 22) hx hb dX6_digits_18 (by decide) ?_
      have hfr : frT t = 1 := by unfold frT; rw [if_pos c45]
      rw [hfr] at hD0 hfb
      refine lv_istore_n (lv' := [(2, .int (nI 1)), (0, .ref a), (1, .int (nI 1))]) hx hb dX6_digits_22 rfl hl (by decide) rfl (fun ls hl => ?_)
      refine lv_iconst (v := nI 0) hx hb dX6_digits_23 (by decide) ?_
      refine lv_istore_n (lv' := [(3, .int (nI 0)), (2, .int (nI 1)), (0, .ref a), (1, .int (nI 1))]) hx hb dX6_digits_24 rfl hl (by decide) rfl (fun ls hl => ?_)
      refine lv_iconst (v := (-1)) hx hb dX6_digits_25 (by decide) ?_
      refine lv_istore (lv' := [(4, .int (-1)), (3, .int (nI 0)), (2, .int (nI 1)), (0, .ref a), (1, .int (nI 1))]) hx hb dX6_digits_26 hl (by decide) rfl (fun ls hl => ?_)
      refine ct_loop (σ := Nat × Nat × Int32) (fun (p9, n9, bf) ls => lv_has ls 6 [(4, .int bf), (3, .int (nI n9)), (2, .int (nI p9)), (0, .ref a), (1, .int (nI 1))] ∧ (DG t 1 p9 n9 bf)) (fun (p9, n9, bf) => t.length - p9) (g := fun (p9, n9, bf) ls => F0 m 28 ls []) (x0 := (1, 0, (-1))) (ls0 := ls) ?_ ⟨lv_sub hl [0, 1, 2, 3, 4] rfl, hD0⟩
      clear hl
      intro x9 ls hI ih_7
      obtain ⟨p9, n9, bf⟩ := x9
      obtain ⟨hl, hD⟩ := hI
      refine W.eq (g2 := F0 m 28 ls []) rfl ?_
      have hDb := DG_b hD
      refine lv_iload_n hx hb dX6_digits_28 rfl (lv_at hl 2 rfl) ?_
      refine lv_aload_n hx hb dX6_digits_29 rfl (lv_at hl 3 rfl) ?_
      refine ct_callR (ct_runV (As := []) (rest := [.int (nI p9)]) B (met_J4_length l E  _ a t s.heap.size) (lw_V q1189 q466 q467 q58 q468) (n := 0) ⟨by decide, by decide, by decide +kernel⟩ rfl ⟨rfl, rfl, (Nat.le_of_ble_eq_true rfl), (Nat.le_of_ble_eq_true rfl), (Nat.le_of_ble_eq_true rfl), (Nat.le_of_ble_eq_true rfl)⟩ (va_S.rf (A := fun _ => False)) (fun _ h => h.elim) (ct_Srecv B hV0.str) hV0.str hl.1 (Nat.le_of_ble_eq_true rfl) dX6_digits_30) (fun v hv => ?_)
      subst hv
      refine W.eq (g2 := F0 m 33 ls [.int (nI t.length), .int (nI p9)]) rfl ?_
      refine n_icmp_ge (tgt := 91) hx hb dX6_digits_33 (by decide) (by omega) (by omega) (fun c_8 => ?_) (fun c_8 => ?_)
      · refine lv_iload_n hx hb dX6_digits_91 rfl (lv_at hl 1 rfl) ?_
        refine n_if_eq (tgt := 101) hx hb dX6_digits_92 (by decide) (by omega) (fun cn0 => ?_) (fun cn0 => ?_)
        · refine lv_iconst (v := (-1)) hx hb dX6_digits_101 (by decide) ?_
          refine lv_goto (tgt := 106) hx hb dX6_digits_102 (by decide) ?_
          exact ct_iretR (ty := .int) (v := (-1)) B rfl rfl (by rw [DG_e (pt := true) (by rw [hfr]; exact hD) hs0.1 (by omega) (fun _ => rfl), if_pos (Or.inl cn0)]) dX6_digits_106
        · refine lv_iload_n hx hb dX6_digits_95 rfl (lv_at hl 1 rfl) ?_
          refine lv_iload hx hb dX6_digits_96 (lv_at hl 0 rfl) ?_
          refine lv_icmp_ne (tgt := 105) hx hb dX6_digits_98 (by decide) (fun cnb => ?_) (fun cnb => ?_)
          · refine lv_iload_n hx hb dX6_digits_105 rfl (lv_at hl 1 rfl) ?_
            exact ct_iretR (ty := .int) (v := (nI n9)) B rfl rfl (by rw [DG_e (pt := true) (by rw [hfr]; exact hD) hs0.1 (by omega) (fun _ => rfl), if_neg (by rintro (z9 | z9); exact cn0 z9; exact cnb z9)]) dX6_digits_106
          · refine lv_iconst (v := (-1)) hx hb dX6_digits_101 (by decide) ?_
            refine lv_goto (tgt := 106) hx hb dX6_digits_102 (by decide) ?_
            exact ct_iretR (ty := .int) (v := (-1)) B rfl rfl (by rw [DG_e (pt := true) (by rw [hfr]; exact hD) hs0.1 (by omega) (fun _ => rfl), if_pos (Or.inr cnb)]) dX6_digits_106
      · refine lv_aload_n hx hb dX6_digits_36 rfl (lv_at hl 3 rfl) ?_
        refine lv_iload_n hx hb dX6_digits_37 rfl (lv_at hl 2 rfl) ?_
        refine ct_callR (ct_runV (As := [.int (nI p9)]) (rest := []) B (met_J4_charAt l E  _ a p9 t s.heap.size (by omega)) (lw_V q1190 q476 q477 q58 q478) (n := 1) ⟨by decide, by decide, by decide +kernel⟩ rfl ⟨rfl, rfl, (Nat.le_of_ble_eq_true rfl), (Nat.le_of_ble_eq_true rfl), (Nat.le_of_ble_eq_true rfl), (Nat.le_of_ble_eq_true rfl)⟩ (va_S.rf (A := fun _ => False)) (fun _ h => h.elim) (ct_Srecv B hV0.str) hV0.str hl.1 (Nat.le_of_ble_eq_true rfl) dX6_digits_38) (fun v hv => ?_)
        subst hv
        refine W.eq (g2 := F0 m 41 ls [.int (nI (t.getD p9 0))]) rfl ?_
        refine lv_istore (lv' := [(5, .int (nI (t.getD p9 0))), (4, .int bf), (3, .int (nI n9)), (2, .int (nI p9)), (0, .ref a), (1, .int (nI 1))]) hx hb dX6_digits_41 hl (by decide) rfl (fun ls hl => ?_)
        refine lv_iload hx hb dX6_digits_43 (lv_at hl 0 rfl) ?_
        refine lv_bipush (v := nI 46) hx hb dX6_digits_45 (by decide) ?_
        refine n_icmp_ne (tgt := 69) hx hb dX6_digits_47 (by decide) (by have := tx_lt hs0.2 p9; omega) (by omega) (fun c46 => ?_) (fun c46 => ?_)
        · refine lv_iload hx hb dX6_digits_69 (lv_at hl 0 rfl) ?_
          refine ct_callR (ct_runS (As := [.int (nI (t.getD p9 0))]) (rest := []) B (met_X6_isDigit l E (t.getD p9 0) s.heap.size (by have := tx_lt hs0.2 p9; omega)) (lw_S q1191 q1192 q54 q1193) (n := 1) ⟨by decide, by decide, by decide +kernel⟩ rfl ⟨rfl, rfl, (Nat.le_of_ble_eq_true rfl), (Nat.le_of_ble_eq_true rfl), (Nat.le_of_ble_eq_true rfl), (Nat.le_of_ble_eq_true rfl)⟩ (va_S.rf (A := fun _ => False)) (fun _ h => h.elim) trivial hl.1 (Nat.le_of_ble_eq_true rfl) dX6_digits_71) (fun v hv => ?_)
          subst hv
          refine W.eq (g2 := F0 m 74 ls [.int (if isD (t.getD p9 0) then 1 else 0)]) rfl ?_
          refine b_if_eq (tgt := 83) hx hb dX6_digits_74 (by decide) (fun cdg => ?_) (fun cdg => ?_)
          · refine lv_iconst (v := (-1)) hx hb dX6_digits_83 (by decide) ?_
            exact ct_iretR (ty := .int) (v := (-1)) B rfl rfl (by rw [DG_x (pt := true) (by rw [hfr]; exact hD) hs0.1 (by omega) cdg (fun z1 z2 z3 => absurd z2 c46)]) dX6_digits_84
          · refine n_iinc (n := 1) (lv' := [(3, .int (nI (n9 + 1))), (5, .int (nI (t.getD p9 0))), (4, .int bf), (2, .int (nI p9)), (0, .ref a), (1, .int (nI 1))]) hx hb dX6_digits_77 hl (k := 2) rfl rfl (by decide) (by decide) rfl (fun ls hl => ?_)
            refine lv_goto (tgt := 85) hx hb dX6_digits_80 (by decide) ?_
            refine n_iinc (n := 1) (lv' := [(2, .int (nI (p9 + 1))), (3, .int (nI (n9 + 1))), (5, .int (nI (t.getD p9 0))), (4, .int bf), (0, .ref a), (1, .int (nI 1))]) hx hb dX6_digits_85 hl (k := 3) rfl rfl (by decide) (by decide) rfl (fun ls hl => ?_)
            refine lv_goto (tgt := 28) hx hb dX6_digits_88 (by decide) ?_
            exact ih_7 ((p9 + 1), (n9 + 1), bf) ls (by dsimp only; omega) ⟨lv_sub hl [3, 1, 0, 4, 5] rfl, DG_d hD (by omega) cdg⟩
        · refine lv_iload_n hx hb dX6_digits_50 rfl (lv_at hl 5 rfl) ?_
          refine n_if_eq (tgt := 69) hx hb dX6_digits_51 (by decide) (by omega) (fun c_9 => absurd c_9 (by omega)) (fun c_9 => ?_)
          refine lv_iload hx hb dX6_digits_54 (lv_at hl 1 rfl) ?_
          refine lv_if_ge (tgt := 69) hx hb dX6_digits_56 (by decide) (fun c56 => ?_) (fun c56 => ?_)
          · refine lv_iload hx hb dX6_digits_69 (lv_at hl 0 rfl) ?_
            refine ct_callR (ct_runS (As := [.int (nI (t.getD p9 0))]) (rest := []) B (met_X6_isDigit l E (t.getD p9 0) s.heap.size (by have := tx_lt hs0.2 p9; omega)) (lw_S q1191 q1192 q54 q1193) (n := 1) ⟨by decide, by decide, by decide +kernel⟩ rfl ⟨rfl, rfl, (Nat.le_of_ble_eq_true rfl), (Nat.le_of_ble_eq_true rfl), (Nat.le_of_ble_eq_true rfl), (Nat.le_of_ble_eq_true rfl)⟩ (va_S.rf (A := fun _ => False)) (fun _ h => h.elim) trivial hl.1 (Nat.le_of_ble_eq_true rfl) dX6_digits_71) (fun v hv => ?_)
            subst hv
            refine W.eq (g2 := F0 m 74 ls [.int (if isD (t.getD p9 0) then 1 else 0)]) rfl ?_
            refine b_if_eq (tgt := 83) hx hb dX6_digits_74 (by decide) (fun cdg => ?_) (fun cdg => ?_)
            · refine lv_iconst (v := (-1)) hx hb dX6_digits_83 (by decide) ?_
              exact ct_iretR (ty := .int) (v := (-1)) B rfl rfl (by rw [DG_x (pt := true) (by rw [hfr]; exact hD) hs0.1 (by omega) cdg (fun z1 z2 z3 => absurd z3 (Int32.not_lt.mpr c56))]) dX6_digits_84
            · refine n_iinc (n := 1) (lv' := [(3, .int (nI (n9 + 1))), (5, .int (nI (t.getD p9 0))), (4, .int bf), (2, .int (nI p9)), (0, .ref a), (1, .int (nI 1))]) hx hb dX6_digits_77 hl (k := 2) rfl rfl (by decide) (by decide) rfl (fun ls hl => ?_)
              refine lv_goto (tgt := 85) hx hb dX6_digits_80 (by decide) ?_
              refine n_iinc (n := 1) (lv' := [(2, .int (nI (p9 + 1))), (3, .int (nI (n9 + 1))), (5, .int (nI (t.getD p9 0))), (4, .int bf), (0, .ref a), (1, .int (nI 1))]) hx hb dX6_digits_85 hl (k := 3) rfl rfl (by decide) (by decide) rfl (fun ls hl => ?_)
              refine lv_goto (tgt := 28) hx hb dX6_digits_88 (by decide) ?_
              exact ih_7 ((p9 + 1), (n9 + 1), bf) ls (by dsimp only; omega) ⟨lv_sub hl [3, 1, 0, 4, 5] rfl, DG_d hD (by omega) cdg⟩
          · refine lv_iload_n hx hb dX6_digits_59 rfl (lv_at hl 2 rfl) ?_
            refine n_if_le (tgt := 69) hx hb dX6_digits_60 (by decide) (by omega) (fun c60 => ?_) (fun c60 => ?_)
            · refine lv_iload hx hb dX6_digits_69 (lv_at hl 0 rfl) ?_
              refine ct_callR (ct_runS (As := [.int (nI (t.getD p9 0))]) (rest := []) B (met_X6_isDigit l E (t.getD p9 0) s.heap.size (by have := tx_lt hs0.2 p9; omega)) (lw_S q1191 q1192 q54 q1193) (n := 1) ⟨by decide, by decide, by decide +kernel⟩ rfl ⟨rfl, rfl, (Nat.le_of_ble_eq_true rfl), (Nat.le_of_ble_eq_true rfl), (Nat.le_of_ble_eq_true rfl), (Nat.le_of_ble_eq_true rfl)⟩ (va_S.rf (A := fun _ => False)) (fun _ h => h.elim) trivial hl.1 (Nat.le_of_ble_eq_true rfl) dX6_digits_71) (fun v hv => ?_)
              subst hv
              refine W.eq (g2 := F0 m 74 ls [.int (if isD (t.getD p9 0) then 1 else 0)]) rfl ?_
              refine b_if_eq (tgt := 83) hx hb dX6_digits_74 (by decide) (fun cdg => ?_) (fun cdg => ?_)
              · refine lv_iconst (v := (-1)) hx hb dX6_digits_83 (by decide) ?_
                exact ct_iretR (ty := .int) (v := (-1)) B rfl rfl (by rw [DG_x (pt := true) (by rw [hfr]; exact hD) hs0.1 (by omega) cdg (fun z1 z2 z3 => c60)]) dX6_digits_84
              · refine n_iinc (n := 1) (lv' := [(3, .int (nI (n9 + 1))), (5, .int (nI (t.getD p9 0))), (4, .int bf), (2, .int (nI p9)), (0, .ref a), (1, .int (nI 1))]) hx hb dX6_digits_77 hl (k := 2) rfl rfl (by decide) (by decide) rfl (fun ls hl => ?_)
                refine lv_goto (tgt := 85) hx hb dX6_digits_80 (by decide) ?_
                refine n_iinc (n := 1) (lv' := [(2, .int (nI (p9 + 1))), (3, .int (nI (n9 + 1))), (5, .int (nI (t.getD p9 0))), (4, .int bf), (0, .ref a), (1, .int (nI 1))]) hx hb dX6_digits_85 hl (k := 3) rfl rfl (by decide) (by decide) rfl (fun ls hl => ?_)
                refine lv_goto (tgt := 28) hx hb dX6_digits_88 (by decide) ?_
                exact ih_7 ((p9 + 1), (n9 + 1), bf) ls (by dsimp only; omega) ⟨lv_sub hl [3, 1, 0, 4, 5] rfl, DG_d hD (by omega) cdg⟩
            · refine lv_iload_n hx hb dX6_digits_63 rfl (lv_at hl 2 rfl) ?_
              refine lv_istore (lv' := [(4, .int (nI n9)), (5, .int (nI (t.getD p9 0))), (3, .int (nI n9)), (2, .int (nI p9)), (0, .ref a), (1, .int (nI 1))]) hx hb dX6_digits_64 hl (by decide) rfl (fun ls hl => ?_)
              refine lv_goto (tgt := 85) hx hb dX6_digits_66 (by decide) ?_
              refine n_iinc (n := 1) (lv' := [(2, .int (nI (p9 + 1))), (4, .int (nI n9)), (5, .int (nI (t.getD p9 0))), (3, .int (nI n9)), (0, .ref a), (1, .int (nI 1))]) hx hb dX6_digits_85 hl (k := 3) rfl rfl (by decide) (by decide) rfl (fun ls hl => ?_)
              refine lv_goto (tgt := 28) hx hb dX6_digits_88 (by decide) ?_
              exact ih_7 ((p9 + 1), n9, (nI n9)) ls (by dsimp only; omega) ⟨lv_sub hl [1, 3, 0, 4, 5] rfl, DG_p hD hs0.1 (Int32.not_le.mp c56) (by omega) (by omega) c46⟩
