set_option maxHeartbeats 4000000 in
set_option maxRecDepth 100000 in
theorem met_X2_isDigit (l : Launch) (E : CE)  (d : Nat) (sz : Nat) (hd : d < 2147483648) : Met l yX2_isDigit (ws_ yX2_isDigit cX2_isDigit 1 (some .boolean)) { frames := 0, cells := 0, slots := 0, locals := 0 } (ctP E [.int (nI d)] sz (fun H => True)) (ctR (fun v => v = some (.int (if 48 ≤ d ∧ d ≤ 57 then 1 else 0)))) 0 0 (fun _ => False) := by
  refine ct_start (by decide) (Nat.le_of_ble_eq_true rfl) ?_
  intro p e s m below meth c ls B hsz hH hl
  have hx := B.1
  have hb := B.2.1
  have hl : lv_has ls 1 [(0, .int (nI d))] := hl
  refine lv_iload_n hx hb dX2_isDigit_0 rfl (lv_at hl 0 rfl) ?_
  refine lv_bipush (v := nI 48) hx hb dX2_isDigit_1 (by decide) ?_
  refine n_icmp_lt (tgt := 16) hx hb dX2_isDigit_3 (by decide) (by omega) (by omega) (fun c_1 => ?_) (fun c_1 => ?_)
  · refine lv_iconst (v := nI 0) hx hb dX2_isDigit_16 (by decide) ?_
    exact ct_iretR (ty := .boolean) (v := (nI 0)) B rfl rfl (by rw [if_neg (by omega)] <;> rfl) dX2_isDigit_17
  · refine lv_iload_n hx hb dX2_isDigit_6 rfl (lv_at hl 0 rfl) ?_
    refine lv_bipush (v := nI 57) hx hb dX2_isDigit_7 (by decide) ?_
    refine n_icmp_gt (tgt := 16) hx hb dX2_isDigit_9 (by decide) (by omega) (by omega) (fun c_2 => ?_) (fun c_2 => ?_)
    · refine lv_iconst (v := nI 0) hx hb dX2_isDigit_16 (by decide) ?_
      exact ct_iretR (ty := .boolean) (v := (nI 0)) B rfl rfl (by rw [if_neg (by omega)] <;> rfl) dX2_isDigit_17
    · refine lv_iconst (v := nI 1) hx hb dX2_isDigit_12 (by decide) ?_
      refine lv_goto (tgt := 17) hx hb dX2_isDigit_13 (by decide) ?_
      exact ct_iretR (ty := .boolean) (v := (nI 1)) B rfl rfl (by rw [if_pos (by omega)] <;> rfl) dX2_isDigit_17
set_option maxHeartbeats 4000000 in
set_option maxRecDepth 100000 in
theorem met_X2_isWord (l : Launch) (E : CE) (ad : Nat → Nat) (F : XF) (O : XO) (S : XS) (made : Nat) (all : Nat → Option Nat) (wn : Nat) (wb : Nat → Int32) (P : XP) (R : XR) (A0 : Nat → Prop) (a n x : Nat) (t u : List Nat) (sz : Nat) (hn : n = t.length) (ht : tAt wb a t) : Met l yX2_isWord (ws_ yX2_isWord cX2_isWord 5 (some .boolean)) { frames := 4, cells := 0, slots := 0, locals := 85 } (ctP E [.ref (ad 3), .int (nI a), .int (nI n), .ref x] sz (fun H => va_P E.1 ct_cl (xw E ad F O S (made, all, wn, wb) P R) H ∧ ct_S E A0 H x u)) (ctR (fun v => v = some (.int (if t = u then 1 else 0)))) 0 0 (fun _ => False) := by
  refine ct_start (by decide) (Nat.le_of_ble_eq_true rfl) ?_
  intro p e s m below meth c ls B hsz hH hl
  obtain ⟨hP, hS0⟩ := hH
  have hx := B.1
  have hb := B.2.1
  have hl : lv_has ls 5 [(0, .ref (ad 3)), (1, .int (nI a)), (2, .int (nI n)), (3, .ref x)] := hl
  obtain ⟨v0, hV0⟩ := hS0.val
  have hs0 := hS0.small
  subst hn
  have hta := ht.2.2
  refine lv_iload_n hx hb dX2_isWord_0 rfl (lv_at hl 2 rfl) ?_
  refine lv_aload_n hx hb dX2_isWord_1 rfl (lv_at hl 3 rfl) ?_
  refine ct_callR (ct_runV (As := []) (rest := [.int (nI t.length)]) B (met_J4_length l E  _ x u s.heap.size) (lw_V q465 q466 q467 q58 q468) (n := 0) ⟨by decide, by decide, by decide +kernel⟩ rfl ⟨rfl, rfl, (Nat.le_of_ble_eq_true rfl), (Nat.le_of_ble_eq_true rfl), (Nat.le_of_ble_eq_true rfl), (Nat.le_of_ble_eq_true rfl)⟩ (va_S.rf (A := fun _ => False)) (fun _ h => h.elim) (ct_Srecv B hV0.str) hV0.str hl.1 (Nat.le_of_ble_eq_true rfl) dX2_isWord_2) (fun v hv => ?_)
  subst hv
  refine W.eq (g2 := F0 m 5 ls [.int (nI u.length), .int (nI t.length)]) rfl ?_
  refine n_icmp_eq (tgt := 10) hx hb dX2_isWord_5 (by decide) (by omega) (by omega) (fun cl => ?_) (fun cl => ?_)
  · refine lv_iconst (v := nI 0) hx hb dX2_isWord_10 (by decide) ?_
    refine lv_istore (lv' := [(4, .int (nI 0)), (0, .ref (ad 3)), (1, .int (nI a)), (2, .int (nI t.length)), (3, .ref x)]) hx hb dX2_isWord_11 hl (by decide) rfl (fun ls hl => ?_)
    refine ct_loop (σ := Nat) (fun k ls => lv_has ls 5 [(4, .int (nI k)), (0, .ref (ad 3)), (1, .int (nI a)), (2, .int (nI t.length)), (3, .ref x)] ∧ (k ≤ t.length) ∧ (∀ j, j < k → t.getD j 0 = u.getD j 0)) (fun k => t.length - k) (g := fun k ls => F0 m 13 ls []) (x0 := 0) (ls0 := ls) ?_ ⟨lv_sub hl [0, 1, 2, 3, 4] rfl, Nat.zero_le _, fun j hj => absurd hj (Nat.not_lt_zero j)⟩
    clear hl
    intro k ls hI ih_1
    obtain ⟨hl, hk, he⟩ := hI
    refine W.eq (g2 := F0 m 13 ls []) rfl ?_
    refine lv_iload hx hb dX2_isWord_13 (lv_at hl 0 rfl) ?_
    refine lv_iload_n hx hb dX2_isWord_15 rfl (lv_at hl 3 rfl) ?_
    refine n_icmp_ge (tgt := 48) hx hb dX2_isWord_16 (by decide) (by omega) (by omega) (fun c_2 => ?_) (fun c_2 => ?_)
    · refine lv_iconst (v := nI 1) hx hb dX2_isWord_48 (by decide) ?_
      exact ct_iretR (ty := .boolean) (v := (nI 1)) B rfl rfl (by rw [if_pos (list_ext cl (fun j hj => he j (by omega)))] <;> rfl) dX2_isWord_49
    · refine lv_aload_n hx hb dX2_isWord_19 rfl (lv_at hl 1 rfl) ?_
      refine ct_get (v := .ref (ad 4)) B hP kX2 3 rfl 1 (Nat.le_of_ble_eq_true rfl) q216 rfl dX2_isWord_20 ?_
      refine ct_getN (v := .ref (ad 5)) B hP kX3 4 rfl 0 (Nat.le_of_ble_eq_true rfl) ct_nw_0 rfl dX2_isWord_23 ?_
      refine lv_iload_n hx hb dX2_isWord_26 rfl (lv_at hl 2 rfl) ?_
      refine lv_iload hx hb dX2_isWord_27 (lv_at hl 0 rfl) ?_
      refine n_iadd hx hb dX2_isWord_29 ?_
      refine ct_bald (f := wb) B hP 5 rfl (by omega) (by omega) dX2_isWord_30 ?_
      refine W.eq (g2 := F0 m 31 ls [.int (nI (t.getD k 0))]) (by rw [ht.1 k (by omega)]) ?_
      refine lv_aload_n hx hb dX2_isWord_31 rfl (lv_at hl 4 rfl) ?_
      refine lv_iload hx hb dX2_isWord_32 (lv_at hl 0 rfl) ?_
      refine ct_callR (ct_runV (As := [.int (nI k)]) (rest := [.int (nI (t.getD k 0))]) B (met_J4_charAt l E  _ x k u s.heap.size (by omega)) (lw_V q475 q476 q477 q58 q478) (n := 1) ⟨by decide, by decide, by decide +kernel⟩ rfl ⟨rfl, rfl, (Nat.le_of_ble_eq_true rfl), (Nat.le_of_ble_eq_true rfl), (Nat.le_of_ble_eq_true rfl), (Nat.le_of_ble_eq_true rfl)⟩ (va_S.rf (A := fun _ => False)) (fun _ h => h.elim) (ct_Srecv B hV0.str) hV0.str hl.1 (Nat.le_of_ble_eq_true rfl) dX2_isWord_34) (fun v hv => ?_)
      subst hv
      refine W.eq (g2 := F0 m 37 ls [.int (nI (u.getD k 0)), .int (nI (t.getD k 0))]) rfl ?_
      refine n_icmp_eq (tgt := 42) hx hb dX2_isWord_37 (by decide) (by have := tAt_rg ht (j := k) (by omega); omega) (by have := tx_lt hs0.2 k; omega) (fun ceq => ?_) (fun ceq => ?_)
      · refine n_iinc (n := 1) (lv' := [(4, .int (nI (k + 1))), (0, .ref (ad 3)), (1, .int (nI a)), (2, .int (nI t.length)), (3, .ref x)]) hx hb dX2_isWord_42 hl (k := 0) rfl rfl (by decide) (by decide) rfl (fun ls hl => ?_)
        refine lv_goto (tgt := 13) hx hb dX2_isWord_45 (by decide) ?_
        exact ih_1 (k + 1) ls (by omega) ⟨lv_sub hl [0, 1, 2, 3, 4] rfl, by omega, fun j hj => by rcases Nat.lt_succ_iff_lt_or_eq.mp hj with q | q; exact he j q; rw [q]; exact ceq⟩
      · refine lv_iconst (v := nI 0) hx hb dX2_isWord_40 (by decide) ?_
        exact ct_iretR (ty := .boolean) (v := (nI 0)) B rfl rfl (by rw [if_neg (fun q => ceq (by rw [q]))] <;> rfl) dX2_isWord_41
  · refine lv_iconst (v := nI 0) hx hb dX2_isWord_8 (by decide) ?_
    exact ct_iretR (ty := .boolean) (v := (nI 0)) B rfl rfl (by rw [if_neg (fun q => cl (by rw [q]))] <;> rfl) dX2_isWord_9
set_option maxHeartbeats 4000000 in
set_option maxRecDepth 100000 in
theorem met_J18_compare (l : Launch) (E : CE)  (a b : Int64) (sz : Nat)  : Met l yJ18_compare (ws_ yJ18_compare cJ18_compare 4 (some .int)) { frames := 0, cells := 0, slots := 0, locals := 0 } (ctP E [.long a, .long b] sz (fun H => True)) (ctR (fun v => v = some (.int (cmp3 a b)))) 0 0 (fun _ => False) := by
  refine ct_start (by decide) (Nat.le_of_ble_eq_true rfl) ?_
  intro p e s m below meth c ls B hsz hH hl
  have hx := B.1
  have hb := B.2.1
  have hl : lv_has ls 4 [(0, .long a), (2, .long b)] := hl
  refine lv_lload_n hx hb dJ18_compare_0 rfl (lv_at hl 0 rfl) ?_
  refine lv_lload_n hx hb dJ18_compare_1 rfl (lv_at hl 1 rfl) ?_
  refine l_if_ge (tgt := 10) hx hb dJ18_compare_2 dJ18_compare_3 (by decide) (fun c_1 => ?_) (fun c_1 => ?_)
  · refine lv_lload_n hx hb dJ18_compare_10 rfl (lv_at hl 0 rfl) ?_
    refine lv_lload_n hx hb dJ18_compare_11 rfl (lv_at hl 1 rfl) ?_
    refine l_if_ne (tgt := 20) hx hb dJ18_compare_12 dJ18_compare_13 (by decide) (fun c_2 => ?_) (fun c_2 => ?_)
    · refine lv_iconst (v := nI 1) hx hb dJ18_compare_20 (by decide) ?_
      exact ct_iretR (ty := .int) (v := (nI 1)) B rfl rfl (by rw [cmp3, if_neg (Int64.not_lt.mpr c_1), if_neg c_2] <;> rfl) dJ18_compare_21
    · refine lv_iconst (v := nI 0) hx hb dJ18_compare_16 (by decide) ?_
      refine lv_goto (tgt := 21) hx hb dJ18_compare_17 (by decide) ?_
      exact ct_iretR (ty := .int) (v := (nI 0)) B rfl rfl (by rw [cmp3, if_neg (Int64.not_lt.mpr c_1), if_pos c_2] <;> rfl) dJ18_compare_21
  · refine lv_iconst (v := (-1)) hx hb dJ18_compare_6 (by decide) ?_
    refine lv_goto (tgt := 21) hx hb dJ18_compare_7 (by decide) ?_
    exact ct_iretR (ty := .int) (v := (-1)) B rfl rfl (by rw [cmp3, if_pos c_1] <;> rfl) dJ18_compare_21
set_option maxHeartbeats 4000000 in
set_option maxRecDepth 100000 in
theorem met_X13_compare (l : Launch) (E : CE)  (a b : Int64) (sz : Nat)  : Met l yX13_compare (ws_ yX13_compare cX13_compare 9 (some .int)) { frames := 1, cells := 0, slots := 0, locals := 23 } (ctP E [.int (nI 5), .long a, .long b] sz (fun H => True)) (ctR (fun v => v = some (.int (cmp3 a b)))) 0 0 (fun _ => False) := by
  refine ct_start (by decide) (Nat.le_of_ble_eq_true rfl) ?_
  intro p e s m below meth c ls B hsz hH hl
  have hx := B.1
  have hb := B.2.1
  have hl : lv_has ls 9 [(0, .int (nI 5)), (1, .long a), (3, .long b)] := hl
  refine lv_iload_n hx hb dX13_compare_0 rfl (lv_at hl 0 rfl) ?_
  refine lv_bipush (v := nI 6) hx hb dX13_compare_1 (by decide) ?_
  refine n_icmp_ge (tgt := 12) hx hb dX13_compare_3 (by decide) (by omega) (by omega) (fun c_1 => absurd c_1 (by omega)) (fun c_1 => ?_)
  refine lv_lload_n hx hb dX13_compare_6 rfl (lv_at hl 1 rfl) ?_
  refine lv_lload_n hx hb dX13_compare_7 rfl (lv_at hl 2 rfl) ?_
  refine ct_callR (ct_runS (As := [.long a, .long b]) (rest := []) B (met_J18_compare l E  a b s.heap.size) (lw_S q614 q615 q79 q616) (n := 2) ⟨by decide, by decide, by decide +kernel⟩ rfl ⟨rfl, rfl, (Nat.le_of_ble_eq_true rfl), (Nat.le_of_ble_eq_true rfl), (Nat.le_of_ble_eq_true rfl), (Nat.le_of_ble_eq_true rfl)⟩ (va_S.rf (A := fun _ => False)) (fun _ h => h.elim) trivial hl.1 (Nat.le_of_ble_eq_true rfl) dX13_compare_8) (fun v hv => ?_)
  subst hv
  refine W.eq (g2 := F0 m 11 ls [.int (cmp3 a b)]) rfl ?_
  exact ct_iretR (ty := .int) (v := (cmp3 a b)) B rfl rfl (rfl) dX13_compare_11
set_option maxHeartbeats 4000000 in
set_option maxRecDepth 100000 in
theorem met_X13_order (l : Launch) (E : CE)  (a b : Int64) (sz : Nat)  : Met l yX13_order (ws_ yX13_order cX13_order 6 (some .int)) { frames := 2, cells := 0, slots := 0, locals := 51 } (ctP E [.int (nI 5), .long a, .long b] sz (fun H => True)) (ctR (fun v => v = some (.int (cmp3 a b)))) 0 0 (fun _ => False) := by
  refine ct_start (by decide) (Nat.le_of_ble_eq_true rfl) ?_
  intro p e s m below meth c ls B hsz hH hl
  have hx := B.1
  have hb := B.2.1
  have hl : lv_has ls 6 [(0, .int (nI 5)), (1, .long a), (3, .long b)] := hl
  refine lv_iload_n hx hb dX13_order_0 rfl (lv_at hl 0 rfl) ?_
  refine lv_lload_n hx hb dX13_order_1 rfl (lv_at hl 1 rfl) ?_
  refine lv_lload_n hx hb dX13_order_2 rfl (lv_at hl 2 rfl) ?_
  refine ct_callR (ct_runS (As := [.int (nI 5), .long a, .long b]) (rest := []) B (met_X13_compare l E  a b s.heap.size) (lw_S q611 q612 q75 q613) (n := 3) ⟨by decide, by decide, by decide +kernel⟩ rfl ⟨rfl, rfl, (Nat.le_of_ble_eq_true rfl), (Nat.le_of_ble_eq_true rfl), (Nat.le_of_ble_eq_true rfl), (Nat.le_of_ble_eq_true rfl)⟩ (va_S.rf (A := fun _ => False)) (fun _ h => h.elim) trivial hl.1 (Nat.le_of_ble_eq_true rfl) dX13_order_3) (fun v hv => ?_)
  subst hv
  refine W.eq (g2 := F0 m 6 ls [.int (cmp3 a b)]) rfl ?_
  refine lv_istore (lv' := [(5, .int (cmp3 a b)), (0, .int (nI 5)), (1, .long a), (3, .long b)]) hx hb dX13_order_6 hl (by decide) rfl (fun ls hl => ?_)
  refine lv_iload hx hb dX13_order_8 (lv_at hl 0 rfl) ?_
  refine lv_if_ne (tgt := 25) hx hb dX13_order_10 (by decide) (fun c_1 => ?_) (fun c_1 => ?_)
  · refine lv_iload hx hb dX13_order_25 (lv_at hl 0 rfl) ?_
    exact ct_iretR (ty := .int) (v := (cmp3 a b)) B rfl rfl (rfl) dX13_order_27
  · refine lv_iload_n hx hb dX13_order_13 rfl (lv_at hl 1 rfl) ?_
    refine lv_bipush (v := nI 6) hx hb dX13_order_14 (by decide) ?_
    refine n_icmp_lt (tgt := 25) hx hb dX13_order_16 (by decide) (by omega) (by omega) (fun c_2 => ?_) (fun c_2 => absurd c_2 (by omega))
    refine lv_iload hx hb dX13_order_25 (lv_at hl 0 rfl) ?_
    exact ct_iretR (ty := .int) (v := (cmp3 a b)) B rfl rfl (rfl) dX13_order_27
set_option maxHeartbeats 4000000 in
set_option maxRecDepth 100000 in
theorem met_X4_at (l : Launch) (E : CE) (ad : Nat → Nat) (F : XF) (O : XO) (S : XS) (T : XT) (P : XP) (places : Nat → Int32) (other : Nat → Int32) (row : Option Nat) (lane : Int32) (fall : Int32) (ranks : Nat → Int64) (k : Nat) (sz : Nat) (hk : k < 4096) : Met l yX4_at (ws_ yX4_at cX4_at 2 (some .int)) { frames := 0, cells := 0, slots := 0, locals := 0 } (ctP E [.ref (ad 10), .int (nI k)] sz (fun H => va_P E.1 ct_cl (xw E ad F O S T P (places, other, row, lane, fall, ranks)) H)) (ctR (fun v => v = some (.int (places k)))) 0 0 (fun _ => False) := by
  refine ct_start (by decide) (Nat.le_of_ble_eq_true rfl) ?_
  intro p e s m below meth c ls B hsz hH hl
  have hP := hH
  have hx := B.1
  have hb := B.2.1
  have hl : lv_has ls 2 [(0, .ref (ad 10)), (1, .int (nI k))] := hl
  refine lv_aload_n hx hb dX4_at_0 rfl (lv_at hl 0 rfl) ?_
  refine ct_get (v := .ref (ad 11)) B hP kX4 10 rfl 0 (Nat.le_of_ble_eq_true rfl) q198 rfl dX4_at_1 ?_
  refine lv_iload_n hx hb dX4_at_4 rfl (lv_at hl 1 rfl) ?_
  refine ct_iald (f := places) B hP 11 rfl (by omega) (by omega) dX4_at_5 ?_
  exact ct_iretR (ty := .int) (v := (places k)) B rfl rfl (rfl) dX4_at_6
set_option maxHeartbeats 4000000 in
set_option maxRecDepth 100000 in
theorem met_X4_isBefore (l : Launch) (E : CE) (ad : Nat → Nat) (F : XF) (O : XO) (S : XS) (T : XT) (P : XP) (places : Nat → Int32) (other : Nat → Int32) (ranks : Nat → Int64) (a b : Nat) (sz : Nat) (ha : a < 500) (hb : b < 500) : Met l yX4_isBefore (ws_ yX4_isBefore cX4_isBefore 4 (some .boolean)) { frames := 3, cells := 0, slots := 0, locals := 76 } (ctP E [.ref (ad 10), .int (nI a), .int (nI b)] sz (fun H => va_P E.1 ct_cl (xw E ad F O S T P (places, other, (some (ad 13)), (nI 5), (nI 0), ranks)) H)) (ctR (fun v => v = some (.int (if ranks a < ranks b then 1 else 0)))) 0 0 (fun _ => False) := by
  refine ct_start (by decide) (Nat.le_of_ble_eq_true rfl) ?_
  intro p e s m below meth c ls B hsz hH hl
  have hP := hH
  have hx := B.1
  have hb := B.2.1
  have hl : lv_has ls 4 [(0, .ref (ad 10)), (1, .int (nI a)), (2, .int (nI b))] := hl
  refine lv_aload_n hx hb dX4_isBefore_0 rfl (lv_at hl 0 rfl) ?_
  refine ct_get (v := .int (nI 5)) B hP kX4 10 rfl 3 (Nat.le_of_ble_eq_true rfl) q201 rfl dX4_isBefore_1 ?_
  refine lv_aload_n hx hb dX4_isBefore_4 rfl (lv_at hl 0 rfl) ?_
  refine ct_get (v := .ref (ad 13)) B hP kX4 10 rfl 2 (Nat.le_of_ble_eq_true rfl) q200 rfl dX4_isBefore_5 ?_
  refine lv_iload_n hx hb dX4_isBefore_8 rfl (lv_at hl 1 rfl) ?_
  refine ct_lald (f := ranks) B hP 13 rfl (by omega) (by omega) dX4_isBefore_9 ?_
  refine lv_aload_n hx hb dX4_isBefore_10 rfl (lv_at hl 0 rfl) ?_
  refine ct_get (v := .ref (ad 13)) B hP kX4 10 rfl 2 (Nat.le_of_ble_eq_true rfl) q200 rfl dX4_isBefore_11 ?_
  refine lv_iload_n hx hb dX4_isBefore_14 rfl (lv_at hl 2 rfl) ?_
  refine ct_lald (f := ranks) B hP 13 rfl (by omega) (by omega) dX4_isBefore_15 ?_
  refine ct_callR (ct_runS (As := [.int (nI 5), .long (ranks a), .long (ranks b)]) (rest := []) B (met_X13_order l E  (ranks a) (ranks b) s.heap.size) (lw_S q608 q609 q75 q610) (n := 3) ⟨by decide, by decide, by decide +kernel⟩ rfl ⟨rfl, rfl, (Nat.le_of_ble_eq_true rfl), (Nat.le_of_ble_eq_true rfl), (Nat.le_of_ble_eq_true rfl), (Nat.le_of_ble_eq_true rfl)⟩ (va_S.rf (A := fun _ => False)) (fun _ h => h.elim) trivial hl.1 (Nat.le_of_ble_eq_true rfl) dX4_isBefore_16) (fun v hv => ?_)
  subst hv
  refine W.eq (g2 := F0 m 19 ls [.int (cmp3 (ranks a) (ranks b))]) rfl ?_
  refine lv_istore_n (lv' := [(3, .int (cmp3 (ranks a) (ranks b))), (0, .ref (ad 10)), (1, .int (nI a)), (2, .int (nI b))]) hx hb dX4_isBefore_19 rfl hl (by decide) rfl (fun ls hl => ?_)
  refine lv_aload_n hx hb dX4_isBefore_20 rfl (lv_at hl 1 rfl) ?_
  refine ct_get (v := .int (nI 0)) B hP kX4 10 rfl 4 (Nat.le_of_ble_eq_true rfl) q202 rfl dX4_isBefore_21 ?_
  refine n_if_eq (tgt := 39) hx hb dX4_isBefore_24 (by decide) (by omega) (fun c_1 => ?_) (fun c_1 => absurd c_1 (by omega))
  refine lv_iload_n hx hb dX4_isBefore_39 rfl (lv_at hl 0 rfl) ?_
  refine lv_if_ge (tgt := 47) hx hb dX4_isBefore_40 (by decide) (fun c_2 => ?_) (fun c_2 => ?_)
  · refine lv_iconst (v := nI 0) hx hb dX4_isBefore_47 (by decide) ?_
    exact ct_iretR (ty := .boolean) (v := (nI 0)) B rfl rfl (by rw [if_neg] <;> first | rfl | exact (cmp3_lt _ _).mp (Int32.not_le.mp c_2) | exact fun q => absurd ((cmp3_lt _ _).mpr q) (Int32.not_lt.mpr c_2)) dX4_isBefore_48
  · refine lv_iconst (v := nI 1) hx hb dX4_isBefore_43 (by decide) ?_
    refine lv_goto (tgt := 48) hx hb dX4_isBefore_44 (by decide) ?_
    exact ct_iretR (ty := .boolean) (v := (nI 1)) B rfl rfl (by rw [if_pos] <;> first | rfl | exact (cmp3_lt _ _).mp (Int32.not_le.mp c_2) | exact fun q => absurd ((cmp3_lt _ _).mpr q) (Int32.not_lt.mpr c_2)) dX4_isBefore_48
set_option maxHeartbeats 4000000 in
set_option maxRecDepth 100000 in
theorem met_X4_join (l : Launch) (E : CE) (ad : Nat → Nat) (F : XF) (O : XO) (S : XS) (T : XT) (P : XP) (places : Nat → Int32) (other : Nat → Int32) (ranks : Nat → Int64) (fr mid to_ n : Nat) (pl : Nat → Nat) (sz : Nat) (h1 : fr ≤ mid) (h2 : mid ≤ to_) (h3 : to_ ≤ n) (h4 : n ≤ 500) (hp : ∀ j, fr ≤ j → j < to_ → places j = nI (pl j)) (hr : ∀ j, fr ≤ j → j < to_ → pl j < n) (hi : inj pl fr to_) (s1 : srt ranks pl fr mid) (s2 : srt ranks pl mid to_) : Met l yX4_join (ws_ yX4_join cX4_join 8 none) { frames := 4, cells := 0, slots := 0, locals := 99 } (ctP E [.ref (ad 10), .int (nI fr), .int (nI mid), .int (nI to_)] sz (fun H => va_P E.1 ct_cl (xw E ad F O S T P (places, other, (some (ad 13)), (nI 5), (nI 0), ranks)) H ∧ va_D (fun q => E.2.2.1 ≤ q) (xw E ad F O S T P (places, other, (some (ad 13)), (nI 5), (nI 0), ranks)))) (ctQ (fun v H => ∃ oth2 : Nat → Int32, ∃ ol2 : Nat → Nat, v = none ∧ va_P E.1 ct_cl (xw E ad F O S T P (places, oth2, (some (ad 13)), (nI 5), (nI 0), ranks)) H ∧ JN ranks pl ol2 fr to_ ∧ (∀ j, fr ≤ j → j < to_ → oth2 j = nI (ol2 j)) ∧ (∀ j, ¬ (fr ≤ j ∧ j < to_) → oth2 j = other j)) (va_A (xw E ad F O S T P (places, other, (some (ad 13)), (nI 5), (nI 0), ranks)) sz)) 0 0 (va_A (xw E ad F O S T P (places, other, (some (ad 13)), (nI 5), (nI 0), ranks)) sz) := by
  refine ct_start (by decide) (Nat.le_of_ble_eq_true rfl) ?_
  intro p e s m below meth c ls B hsz hH hl
  obtain ⟨hP, hD⟩ := hH
  obtain ⟨A, hAe, h, hA, hAn⟩ := ct_enter B.2.2.2.2.2.2.2.2 hsz hP hD
  rw [hAe]
  refine ct_gen h (fun H locs h => ?_)
  have hx := B.1
  have hb := B.2.1
  have hl : lv_has ls 8 [(0, .ref (ad 10)), (1, .int (nI fr)), (2, .int (nI mid)), (3, .int (nI to_))] := hl
  refine lv_iload_n hx hb dX4_join_0 rfl (lv_at hl 1 rfl) ?_
  refine lv_istore (lv' := [(4, .int (nI fr)), (0, .ref (ad 10)), (1, .int (nI fr)), (2, .int (nI mid)), (3, .int (nI to_))]) hx hb dX4_join_1 hl (by decide) rfl (fun ls hl => ?_)
  refine lv_iload_n hx hb dX4_join_3 rfl (lv_at hl 3 rfl) ?_
  refine lv_istore (lv' := [(5, .int (nI mid)), (4, .int (nI fr)), (0, .ref (ad 10)), (1, .int (nI fr)), (2, .int (nI mid)), (3, .int (nI to_))]) hx hb dX4_join_4 hl (by decide) rfl (fun ls hl => ?_)
  refine lv_iload_n hx hb dX4_join_6 rfl (lv_at hl 3 rfl) ?_
  refine lv_istore (lv' := [(6, .int (nI fr)), (5, .int (nI mid)), (4, .int (nI fr)), (0, .ref (ad 10)), (1, .int (nI fr)), (2, .int (nI mid)), (3, .int (nI to_))]) hx hb dX4_join_7 hl (by decide) rfl (fun ls hl => ?_)
  refine ct_loopH (σ := Nat × Nat × Nat × (Nat → Int32) × (Nat → Nat)) (fun (a, b, k, oth, ol) H locs ls => lv_has ls 8 [(6, .int (nI k)), (5, .int (nI b)), (4, .int (nI a)), (0, .ref (ad 10)), (1, .int (nI fr)), (2, .int (nI mid)), (3, .int (nI to_))] ∧ Hs E A s.heap (xw E ad F O S T P (places, oth, (some (ad 13)), (nI 5), (nI 0), ranks)) H locs ∧ (fr ≤ a) ∧ (a ≤ mid) ∧ (mid ≤ b) ∧ (b ≤ to_) ∧ (k + mid = a + b) ∧ (MI ranks pl ol fr mid to_ a b k) ∧ (∀ j, fr ≤ j → j < k → oth j = nI (ol j)) ∧ (∀ j, ¬ (fr ≤ j ∧ j < k) → oth j = other j)) (fun (a, b, k, oth, ol) => to_ - k) (fun _ => 0) (fun _ => 0) (g := fun (a, b, k, oth, ol) ls => F0 m 9 ls []) (x0 := (fr, mid, fr, other, pl)) (ls0 := ls) ?_ ⟨lv_sub hl [0, 1, 2, 3, 4, 5, 6] rfl, h, Nat.le_refl _, by omega, Nat.le_refl _, by omega, by omega, MI_0, fun j h1 h2 => by omega, fun j _ => rfl⟩
  clear hl h
  intro x9 H locs ls hI ih_1
  obtain ⟨a, b, k, oth, ol⟩ := x9
  obtain ⟨hl, h, ha1, ha2, hb1, hb2, hk, hm, ho, hx2⟩ := hI
  refine W.eq (g2 := F0 m 9 ls []) rfl ?_
  refine lv_iload hx hb dX4_join_9 (lv_at hl 0 rfl) ?_
  refine lv_iload_n hx hb dX4_join_11 rfl (lv_at hl 6 rfl) ?_
  refine n_icmp_ge (tgt := 104) hx hb dX4_join_12 (by decide) (by omega) (by omega) (fun c_2 => ?_) (fun c_2 => ?_)
  · exact ct_vret B h.2.2 ⟨oth, ol, rfl, h.1, MI_end hm h1 ha2 hb2 hb1 (by omega), fun j g1 g2 => ho j g1 (by omega), fun j g1 => hx2 j (by omega)⟩ dX4_join_104
  · refine lv_iload hx hb dX4_join_15 (lv_at hl 2 rfl) ?_
    refine lv_iload_n hx hb dX4_join_17 rfl (lv_at hl 5 rfl) ?_
    refine n_icmp_eq (tgt := 48) hx hb dX4_join_18 (by decide) (by omega) (by omega) (fun ceq => ?_) (fun ceq => ?_)
    · refine lv_iconst (v := nI 1) hx hb dX4_join_48 (by decide) ?_
      refine lv_goto (tgt := 53) hx hb dX4_join_49 (by decide) ?_
      refine lv_istore (lv' := [(7, .int (nI 1)), (6, .int (nI k)), (5, .int (nI b)), (4, .int (nI a)), (0, .ref (ad 10)), (1, .int (nI fr)), (2, .int (nI mid)), (3, .int (nI to_))]) hx hb dX4_join_53 hl (by decide) rfl (fun ls hl => ?_)
      refine lv_aload_n hx hb dX4_join_55 rfl (lv_at hl 4 rfl) ?_
      refine ct_get (v := .ref (ad 12)) B h.1 kX4 10 rfl 1 (Nat.le_of_ble_eq_true rfl) q199 rfl dX4_join_56 ?_
      refine lv_iload hx hb dX4_join_59 (lv_at hl 1 rfl) ?_
      refine lv_iload hx hb dX4_join_61 (lv_at hl 0 rfl) ?_
      refine n_if_eq (tgt := 76) hx hb dX4_join_63 (by decide) (by omega) (fun c_3 => absurd c_3 (by omega)) (fun c_3 => ?_)
      refine lv_aload_n hx hb dX4_join_66 rfl (lv_at hl 4 rfl) ?_
      refine ct_get (v := .ref (ad 11)) B h.1 kX4 10 rfl 0 (Nat.le_of_ble_eq_true rfl) q198 rfl dX4_join_67 ?_
      refine lv_iload hx hb dX4_join_70 (lv_at hl 2 rfl) ?_
      refine ct_iald (f := places) B h.1 11 rfl (by omega) (by omega) dX4_join_72 ?_
      refine W.eq (g2 := F0 m 73 ls [.int (nI (pl b)), .int (nI k), .ref (ad 12)]) (by rw [(hp b (by omega) (by omega))]) ?_
      refine lv_goto (tgt := 83) hx hb dX4_join_73 (by decide) ?_
      refine ct_iast (ws' := xw E ad F O S T P (places, (upd oth k (nI (pl b))), (some (ad 13)), (nI 5), (nI 0), ranks)) B h 12 rfl (by omega) (by omega) rfl dX4_join_83 (fun H locs h => ?_)
      refine lv_iload hx hb dX4_join_84 (lv_at hl 0 rfl) ?_
      refine n_if_eq (tgt := 95) hx hb dX4_join_86 (by decide) (by omega) (fun c_4 => absurd c_4 (by omega)) (fun c_4 => ?_)
      refine n_iinc (n := 1) (lv' := [(5, .int (nI (b + 1))), (7, .int (nI 1)), (6, .int (nI k)), (4, .int (nI a)), (0, .ref (ad 10)), (1, .int (nI fr)), (2, .int (nI mid)), (3, .int (nI to_))]) hx hb dX4_join_89 hl (k := 2) rfl rfl (by decide) (by decide) rfl (fun ls hl => ?_)
      refine lv_goto (tgt := 98) hx hb dX4_join_92 (by decide) ?_
      refine n_iinc (n := 1) (lv' := [(6, .int (nI (k + 1))), (5, .int (nI (b + 1))), (7, .int (nI 1)), (4, .int (nI a)), (0, .ref (ad 10)), (1, .int (nI fr)), (2, .int (nI mid)), (3, .int (nI to_))]) hx hb dX4_join_98 hl (k := 2) rfl rfl (by decide) (by decide) rfl (fun ls hl => ?_)
      refine lv_goto (tgt := 9) hx hb dX4_join_101 (by decide) ?_
      exact ih_1 (a, (b + 1), (k + 1), (upd oth k (nI (pl b))), (nu ol k (pl b))) H locs ls (by dsimp only; omega) ⟨lv_sub hl [0, 1, 3, 4, 5, 6, 7] rfl, h, by omega, by omega, by omega, by omega, by omega, (MI_b hm hi s1 s2 (by omega) (by omega) (by omega) (by omega) (by omega) (fun q => absurd q (by omega))), (fun j h1 h2 => by by_cases q : j = k; rw [q, upd_s, nu_s]; rw [upd_n q, nu_n q]; exact ho j h1 (by omega)), (fun j h1 => by rw [upd_n (by omega)]; exact hx2 j (by omega))⟩
    · refine lv_iload hx hb dX4_join_21 (lv_at hl 1 rfl) ?_
      refine lv_iload_n hx hb dX4_join_23 rfl (lv_at hl 6 rfl) ?_
      refine n_icmp_ge (tgt := 52) hx hb dX4_join_24 (by decide) (by omega) (by omega) (fun cend => ?_) (fun cend => ?_)
      · refine lv_iconst (v := nI 0) hx hb dX4_join_52 (by decide) ?_
        refine lv_istore (lv' := [(7, .int (nI 0)), (6, .int (nI k)), (5, .int (nI b)), (4, .int (nI a)), (0, .ref (ad 10)), (1, .int (nI fr)), (2, .int (nI mid)), (3, .int (nI to_))]) hx hb dX4_join_53 hl (by decide) rfl (fun ls hl => ?_)
        refine lv_aload_n hx hb dX4_join_55 rfl (lv_at hl 4 rfl) ?_
        refine ct_get (v := .ref (ad 12)) B h.1 kX4 10 rfl 1 (Nat.le_of_ble_eq_true rfl) q199 rfl dX4_join_56 ?_
        refine lv_iload hx hb dX4_join_59 (lv_at hl 1 rfl) ?_
        refine lv_iload hx hb dX4_join_61 (lv_at hl 0 rfl) ?_
        refine n_if_eq (tgt := 76) hx hb dX4_join_63 (by decide) (by omega) (fun c_5 => ?_) (fun c_5 => absurd c_5 (by omega))
        refine lv_aload_n hx hb dX4_join_76 rfl (lv_at hl 4 rfl) ?_
        refine ct_get (v := .ref (ad 11)) B h.1 kX4 10 rfl 0 (Nat.le_of_ble_eq_true rfl) q198 rfl dX4_join_77 ?_
        refine lv_iload hx hb dX4_join_80 (lv_at hl 3 rfl) ?_
        refine ct_iald (f := places) B h.1 11 rfl (by omega) (by omega) dX4_join_82 ?_
        refine W.eq (g2 := F0 m 83 ls [.int (nI (pl a)), .int (nI k), .ref (ad 12)]) (by rw [(hp a (by omega) (by omega))]) ?_
        refine ct_iast (ws' := xw E ad F O S T P (places, (upd oth k (nI (pl a))), (some (ad 13)), (nI 5), (nI 0), ranks)) B h 12 rfl (by omega) (by omega) rfl dX4_join_83 (fun H locs h => ?_)
        refine lv_iload hx hb dX4_join_84 (lv_at hl 0 rfl) ?_
        refine n_if_eq (tgt := 95) hx hb dX4_join_86 (by decide) (by omega) (fun c_6 => ?_) (fun c_6 => absurd c_6 (by omega))
        refine n_iinc (n := 1) (lv' := [(4, .int (nI (a + 1))), (7, .int (nI 0)), (6, .int (nI k)), (5, .int (nI b)), (0, .ref (ad 10)), (1, .int (nI fr)), (2, .int (nI mid)), (3, .int (nI to_))]) hx hb dX4_join_95 hl (k := 3) rfl rfl (by decide) (by decide) rfl (fun ls hl => ?_)
        refine n_iinc (n := 1) (lv' := [(6, .int (nI (k + 1))), (4, .int (nI (a + 1))), (7, .int (nI 0)), (5, .int (nI b)), (0, .ref (ad 10)), (1, .int (nI fr)), (2, .int (nI mid)), (3, .int (nI to_))]) hx hb dX4_join_98 hl (k := 2) rfl rfl (by decide) (by decide) rfl (fun ls hl => ?_)
        refine lv_goto (tgt := 9) hx hb dX4_join_101 (by decide) ?_
        exact ih_1 ((a + 1), b, (k + 1), (upd oth k (nI (pl a))), (nu ol k (pl a))) H locs ls (by dsimp only; omega) ⟨lv_sub hl [0, 3, 1, 4, 5, 6, 7] rfl, h, by omega, by omega, by omega, by omega, by omega, (MI_a hm hi s1 s2 (by omega) (by omega) (by omega) (by omega) (by omega) (fun q => absurd q (by omega))), (fun j h1 h2 => by by_cases q : j = k; rw [q, upd_s, nu_s]; rw [upd_n q, nu_n q]; exact ho j h1 (by omega)), (fun j h1 => by rw [upd_n (by omega)]; exact hx2 j (by omega))⟩
      · refine lv_aload_n hx hb dX4_join_27 rfl (lv_at hl 3 rfl) ?_
        refine lv_aload_n hx hb dX4_join_28 rfl (lv_at hl 3 rfl) ?_
        refine ct_get (v := .ref (ad 11)) B h.1 kX4 10 rfl 0 (Nat.le_of_ble_eq_true rfl) q198 rfl dX4_join_29 ?_
        refine lv_iload hx hb dX4_join_32 (lv_at hl 1 rfl) ?_
        refine ct_iald (f := places) B h.1 11 rfl (by omega) (by omega) dX4_join_34 ?_
        refine W.eq (g2 := F0 m 35 ls [.int (nI (pl b)), .ref (ad 10)]) (by rw [(hp b (by omega) (by omega))]) ?_
        refine lv_aload_n hx hb dX4_join_35 rfl (lv_at hl 3 rfl) ?_
        refine ct_get (v := .ref (ad 11)) B h.1 kX4 10 rfl 0 (Nat.le_of_ble_eq_true rfl) q198 rfl dX4_join_36 ?_
        refine lv_iload hx hb dX4_join_39 (lv_at hl 2 rfl) ?_
        refine ct_iald (f := places) B h.1 11 rfl (by omega) (by omega) dX4_join_41 ?_
        refine W.eq (g2 := F0 m 42 ls [.int (nI (pl a)), .int (nI (pl b)), .ref (ad 10)]) (by rw [(hp a (by omega) (by omega))]) ?_
        refine ct_callR (ct_runV (As := [.int (nI (pl b)), .int (nI (pl a))]) (rest := []) B (met_X4_isBefore l E ad F O S T P places oth ranks (pl b) (pl a) H.size (Nat.lt_of_lt_of_le (hr b (by omega) (by omega)) h4) (Nat.lt_of_lt_of_le (hr a (by omega) (by omega)) h4)) (lw_V q604 q606 qs22 q52 q607) (n := 2) ⟨by decide, by decide, by decide +kernel⟩ rfl ⟨rfl, rfl, (Nat.le_of_ble_eq_true rfl), (Nat.le_of_ble_eq_true rfl), (Nat.le_of_ble_eq_true rfl), (Nat.le_of_ble_eq_true rfl)⟩ h.2.2 hA (ct_recv B h.1 kX4 10 rfl) h.1 hl.1 (Nat.le_of_ble_eq_true rfl) dX4_join_42) (fun v hv => ?_)
        subst hv
        refine W.eq (g2 := F0 m 45 ls [.int (if ranks (pl b) < ranks (pl a) then 1 else 0)]) rfl ?_
        refine b_if_eq (tgt := 52) hx hb dX4_join_45 (by decide) (fun cbef => ?_) (fun cbef => ?_)
        · refine lv_iconst (v := nI 0) hx hb dX4_join_52 (by decide) ?_
          refine lv_istore (lv' := [(7, .int (nI 0)), (6, .int (nI k)), (5, .int (nI b)), (4, .int (nI a)), (0, .ref (ad 10)), (1, .int (nI fr)), (2, .int (nI mid)), (3, .int (nI to_))]) hx hb dX4_join_53 hl (by decide) rfl (fun ls hl => ?_)
          refine lv_aload_n hx hb dX4_join_55 rfl (lv_at hl 4 rfl) ?_
          refine ct_get (v := .ref (ad 12)) B h.1 kX4 10 rfl 1 (Nat.le_of_ble_eq_true rfl) q199 rfl dX4_join_56 ?_
          refine lv_iload hx hb dX4_join_59 (lv_at hl 1 rfl) ?_
          refine lv_iload hx hb dX4_join_61 (lv_at hl 0 rfl) ?_
          refine n_if_eq (tgt := 76) hx hb dX4_join_63 (by decide) (by omega) (fun c_7 => ?_) (fun c_7 => absurd c_7 (by omega))
          refine lv_aload_n hx hb dX4_join_76 rfl (lv_at hl 4 rfl) ?_
          refine ct_get (v := .ref (ad 11)) B h.1 kX4 10 rfl 0 (Nat.le_of_ble_eq_true rfl) q198 rfl dX4_join_77 ?_
          refine lv_iload hx hb dX4_join_80 (lv_at hl 3 rfl) ?_
          refine ct_iald (f := places) B h.1 11 rfl (by omega) (by omega) dX4_join_82 ?_
          refine W.eq (g2 := F0 m 83 ls [.int (nI (pl a)), .int (nI k), .ref (ad 12)]) (by rw [(hp a (by omega) (by omega))]) ?_
          refine ct_iast (ws' := xw E ad F O S T P (places, (upd oth k (nI (pl a))), (some (ad 13)), (nI 5), (nI 0), ranks)) B h 12 rfl (by omega) (by omega) rfl dX4_join_83 (fun H locs h => ?_)
          refine lv_iload hx hb dX4_join_84 (lv_at hl 0 rfl) ?_
          refine n_if_eq (tgt := 95) hx hb dX4_join_86 (by decide) (by omega) (fun c_8 => ?_) (fun c_8 => absurd c_8 (by omega))
          refine n_iinc (n := 1) (lv' := [(4, .int (nI (a + 1))), (7, .int (nI 0)), (6, .int (nI k)), (5, .int (nI b)), (0, .ref (ad 10)), (1, .int (nI fr)), (2, .int (nI mid)), (3, .int (nI to_))]) hx hb dX4_join_95 hl (k := 3) rfl rfl (by decide) (by decide) rfl (fun ls hl => ?_)
          refine n_iinc (n := 1) (lv' := [(6, .int (nI (k + 1))), (4, .int (nI (a + 1))), (7, .int (nI 0)), (5, .int (nI b)), (0, .ref (ad 10)), (1, .int (nI fr)), (2, .int (nI mid)), (3, .int (nI to_))]) hx hb dX4_join_98 hl (k := 2) rfl rfl (by decide) (by decide) rfl (fun ls hl => ?_)
          refine lv_goto (tgt := 9) hx hb dX4_join_101 (by decide) ?_
          exact ih_1 ((a + 1), b, (k + 1), (upd oth k (nI (pl a))), (nu ol k (pl a))) H locs ls (by dsimp only; omega) ⟨lv_sub hl [0, 3, 1, 4, 5, 6, 7] rfl, h, by omega, by omega, by omega, by omega, by omega, (MI_a hm hi s1 s2 (by omega) (by omega) (by omega) (by omega) (by omega) (fun _ => i64_nl cbef)), (fun j h1 h2 => by by_cases q : j = k; rw [q, upd_s, nu_s]; rw [upd_n q, nu_n q]; exact ho j h1 (by omega)), (fun j h1 => by rw [upd_n (by omega)]; exact hx2 j (by omega))⟩
        · refine lv_iconst (v := nI 1) hx hb dX4_join_48 (by decide) ?_
          refine lv_goto (tgt := 53) hx hb dX4_join_49 (by decide) ?_
          refine lv_istore (lv' := [(7, .int (nI 1)), (6, .int (nI k)), (5, .int (nI b)), (4, .int (nI a)), (0, .ref (ad 10)), (1, .int (nI fr)), (2, .int (nI mid)), (3, .int (nI to_))]) hx hb dX4_join_53 hl (by decide) rfl (fun ls hl => ?_)
          refine lv_aload_n hx hb dX4_join_55 rfl (lv_at hl 4 rfl) ?_
          refine ct_get (v := .ref (ad 12)) B h.1 kX4 10 rfl 1 (Nat.le_of_ble_eq_true rfl) q199 rfl dX4_join_56 ?_
          refine lv_iload hx hb dX4_join_59 (lv_at hl 1 rfl) ?_
          refine lv_iload hx hb dX4_join_61 (lv_at hl 0 rfl) ?_
          refine n_if_eq (tgt := 76) hx hb dX4_join_63 (by decide) (by omega) (fun c_9 => absurd c_9 (by omega)) (fun c_9 => ?_)
          refine lv_aload_n hx hb dX4_join_66 rfl (lv_at hl 4 rfl) ?_
          refine ct_get (v := .ref (ad 11)) B h.1 kX4 10 rfl 0 (Nat.le_of_ble_eq_true rfl) q198 rfl dX4_join_67 ?_
          refine lv_iload hx hb dX4_join_70 (lv_at hl 2 rfl) ?_
          refine ct_iald (f := places) B h.1 11 rfl (by omega) (by omega) dX4_join_72 ?_
          refine W.eq (g2 := F0 m 73 ls [.int (nI (pl b)), .int (nI k), .ref (ad 12)]) (by rw [(hp b (by omega) (by omega))]) ?_
          refine lv_goto (tgt := 83) hx hb dX4_join_73 (by decide) ?_
          refine ct_iast (ws' := xw E ad F O S T P (places, (upd oth k (nI (pl b))), (some (ad 13)), (nI 5), (nI 0), ranks)) B h 12 rfl (by omega) (by omega) rfl dX4_join_83 (fun H locs h => ?_)
          refine lv_iload hx hb dX4_join_84 (lv_at hl 0 rfl) ?_
          refine n_if_eq (tgt := 95) hx hb dX4_join_86 (by decide) (by omega) (fun c_10 => absurd c_10 (by omega)) (fun c_10 => ?_)
          refine n_iinc (n := 1) (lv' := [(5, .int (nI (b + 1))), (7, .int (nI 1)), (6, .int (nI k)), (4, .int (nI a)), (0, .ref (ad 10)), (1, .int (nI fr)), (2, .int (nI mid)), (3, .int (nI to_))]) hx hb dX4_join_89 hl (k := 2) rfl rfl (by decide) (by decide) rfl (fun ls hl => ?_)
          refine lv_goto (tgt := 98) hx hb dX4_join_92 (by decide) ?_
          refine n_iinc (n := 1) (lv' := [(6, .int (nI (k + 1))), (5, .int (nI (b + 1))), (7, .int (nI 1)), (4, .int (nI a)), (0, .ref (ad 10)), (1, .int (nI fr)), (2, .int (nI mid)), (3, .int (nI to_))]) hx hb dX4_join_98 hl (k := 2) rfl rfl (by decide) (by decide) rfl (fun ls hl => ?_)
          refine lv_goto (tgt := 9) hx hb dX4_join_101 (by decide) ?_
          exact ih_1 (a, (b + 1), (k + 1), (upd oth k (nI (pl b))), (nu ol k (pl b))) H locs ls (by dsimp only; omega) ⟨lv_sub hl [0, 1, 3, 4, 5, 6, 7] rfl, h, by omega, by omega, by omega, by omega, by omega, (MI_b hm hi s1 s2 (by omega) (by omega) (by omega) (by omega) (by omega) (fun _ => i64_lt cbef)), (fun j h1 h2 => by by_cases q : j = k; rw [q, upd_s, nu_s]; rw [upd_n q, nu_n q]; exact ho j h1 (by omega)), (fun j h1 => by rw [upd_n (by omega)]; exact hx2 j (by omega))⟩
