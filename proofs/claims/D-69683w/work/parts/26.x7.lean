set_option maxHeartbeats 4000000 in
set_option maxRecDepth 100000 in
theorem met_X2_takes (l : Launch) (E : CE) (ad : Nat → Nat) (F : XF) (O : XO) (S : XS) (made : Nat) (all : Nat → Option Nat) (wn : Nat) (wb : Nat → Int32) (P : XP) (R : XR) (ln : Nat) (q : Nat → Nat) (cols rows k a : Nat) (f : Nat → Nat → Int32) (w : Wd) (sz : Nat) (hln : ln ≤ 8) (hk : k < cols * rows) (hn : cols * rows < 2147483648) (hw : f 3 k = encL w) (hwl : w.1.length ≤ 40) (ha : f 2 k = nI a) (ht : tAt wb a w.1) (hm : ¬ missW w) : Met l yX2_takes (ws_ yX2_takes cX2_takes 6 (some .boolean)) { frames := 7, cells := 0, slots := 0, locals := 165 } (ctP E [.ref (ad 3), .int (nI ln), .ref (q 0), .int (nI k)] sz (fun H => va_P E.1 ct_cl (xw E ad F O S (made, all, wn, wb) P R) H ∧ va_P E.1 ct_cl (tw E q cols rows f) H)) (ctR (fun v => v = some (.int (if takesW ln w then 1 else 0)))) 0 0 (fun _ => False) := by
  refine ct_start (by decide) (Nat.le_of_ble_eq_true rfl) ?_
  intro p e s m below meth c ls B hsz hH hl
  obtain ⟨hP, hT0⟩ := hH
  have hx := B.1
  have hb := B.2.1
  have hl : lv_has ls 6 [(0, .ref (ad 3)), (1, .int (nI ln)), (2, .ref (q 0)), (3, .int (nI k))] := hl
  have h8 := laneC_le w
  have hta := ht.2.2
  refine lv_aload_n hx hb dX2_takes_0 rfl (lv_at hl 0 rfl) ?_
  refine lv_aload_n hx hb dX2_takes_1 rfl (lv_at hl 2 rfl) ?_
  refine lv_iload_n hx hb dX2_takes_2 rfl (lv_at hl 3 rfl) ?_
  refine ct_callR (ct_runV (As := [.ref (q 0), .int (nI k)]) (rest := []) B (met_X2_laneOfCell l E ad F O S made all wn wb P R q cols rows k a f w s.heap.size hk hn hw hwl ha ht hm) (lw_V q448 q450 qs16 q50 q451) (n := 2) ⟨by decide, by decide, by decide +kernel⟩ rfl ⟨rfl, rfl, (Nat.le_of_ble_eq_true rfl), (Nat.le_of_ble_eq_true rfl), (Nat.le_of_ble_eq_true rfl), (Nat.le_of_ble_eq_true rfl)⟩ (va_S.rf (A := fun _ => False)) (fun _ h => h.elim) (ct_recv B hP kX2 3 rfl) ⟨hP, hT0⟩ hl.1 (Nat.le_of_ble_eq_true rfl) dX2_takes_3) (fun v hv => ?_)
  subst hv
  refine W.eq (g2 := F0 m 6 ls [.int (nI (laneC w))]) rfl ?_
  refine lv_istore (lv' := [(4, .int (nI (laneC w))), (0, .ref (ad 3)), (1, .int (nI ln)), (2, .ref (q 0)), (3, .int (nI k))]) hx hb dX2_takes_6 hl (by decide) rfl (fun ls hl => ?_)
  refine lv_iload_n hx hb dX2_takes_8 rfl (lv_at hl 2 rfl) ?_
  refine lv_bipush (v := nI 7) hx hb dX2_takes_9 (by decide) ?_
  refine n_icmp_ne (tgt := 26) hx hb dX2_takes_11 (by decide) (by omega) (by omega) (fun c_1 => ?_) (fun c_1 => ?_)
  · refine lv_iload hx hb dX2_takes_26 (lv_at hl 0 rfl) ?_
    refine lv_iload_n hx hb dX2_takes_28 rfl (lv_at hl 2 rfl) ?_
    refine n_icmp_eq (tgt := 43) hx hb dX2_takes_29 (by decide) (by omega) (by omega) (fun c_2 => ?_) (fun c_2 => ?_)
    · refine lv_iconst (v := nI 1) hx hb dX2_takes_43 (by decide) ?_
      refine lv_goto (tgt := 48) hx hb dX2_takes_44 (by decide) ?_
      exact ct_iretR (ty := .boolean) (v := (nI 1)) B rfl rfl (by rw [if_pos (by unfold takesW; omega)] <;> rfl) dX2_takes_48
    · refine lv_iload_n hx hb dX2_takes_32 rfl (lv_at hl 2 rfl) ?_
      refine lv_iconst (v := nI 5) hx hb dX2_takes_33 (by decide) ?_
      refine n_icmp_ne (tgt := 47) hx hb dX2_takes_34 (by decide) (by omega) (by omega) (fun c_3 => ?_) (fun c_3 => ?_)
      · refine lv_iconst (v := nI 0) hx hb dX2_takes_47 (by decide) ?_
        exact ct_iretR (ty := .boolean) (v := (nI 0)) B rfl rfl (by rw [if_neg (by unfold takesW; omega)] <;> rfl) dX2_takes_48
      · refine lv_iload hx hb dX2_takes_37 (lv_at hl 0 rfl) ?_
        refine lv_iconst (v := nI 4) hx hb dX2_takes_39 (by decide) ?_
        refine n_icmp_ne (tgt := 47) hx hb dX2_takes_40 (by decide) (by omega) (by omega) (fun c_4 => ?_) (fun c_4 => ?_)
        · refine lv_iconst (v := nI 0) hx hb dX2_takes_47 (by decide) ?_
          exact ct_iretR (ty := .boolean) (v := (nI 0)) B rfl rfl (by rw [if_neg (by unfold takesW; omega)] <;> rfl) dX2_takes_48
        · refine lv_iconst (v := nI 1) hx hb dX2_takes_43 (by decide) ?_
          refine lv_goto (tgt := 48) hx hb dX2_takes_44 (by decide) ?_
          exact ct_iretR (ty := .boolean) (v := (nI 1)) B rfl rfl (by rw [if_pos (by unfold takesW; omega)] <;> rfl) dX2_takes_48
  · refine lv_iload hx hb dX2_takes_14 (lv_at hl 0 rfl) ?_
    refine lv_iconst (v := nI 4) hx hb dX2_takes_16 (by decide) ?_
    refine n_icmp_eq (tgt := 49) hx hb dX2_takes_17 (by decide) (by omega) (by omega) (fun c_5 => ?_) (fun c_5 => ?_)
    · have hpos := miss_pos hm (laneC_q (by omega))
      refine lv_aload_n hx hb dX2_takes_49 rfl (lv_at hl 3 rfl) ?_
      refine lv_iload_n hx hb dX2_takes_50 rfl (lv_at hl 4 rfl) ?_
      refine ct_callR (ct_runV (As := [.int (nI k)]) (rest := []) B (met_X9_length l E  q cols rows k f w s.heap.size hk hn hw hwl) (lw_V q452 q453 q454 q57 q455) (n := 1) ⟨by decide, by decide, by decide +kernel⟩ rfl ⟨rfl, rfl, (Nat.le_of_ble_eq_true rfl), (Nat.le_of_ble_eq_true rfl), (Nat.le_of_ble_eq_true rfl), (Nat.le_of_ble_eq_true rfl)⟩ (va_S.rf (A := fun _ => False)) (fun _ h => h.elim) (ct_recv B hT0 kX9 0 rfl) hT0 hl.1 (Nat.le_of_ble_eq_true rfl) dX2_takes_51) (fun v hv => ?_)
      subst hv
      refine W.eq (g2 := F0 m 54 ls [.int (nI w.1.length)]) rfl ?_
      refine lv_istore (lv' := [(5, .int (nI w.1.length)), (4, .int (nI (laneC w))), (0, .ref (ad 3)), (1, .int (nI ln)), (2, .ref (q 0)), (3, .int (nI k))]) hx hb dX2_takes_54 hl (by decide) rfl (fun ls hl => ?_)
      refine lv_aload_n hx hb dX2_takes_56 rfl (lv_at hl 2 rfl) ?_
      refine ct_get (v := .ref (ad 4)) B hP kX2 3 rfl 1 (Nat.le_of_ble_eq_true rfl) q216 rfl dX2_takes_57 ?_
      refine ct_getN (v := .ref (ad 5)) B hP kX3 4 rfl 0 (Nat.le_of_ble_eq_true rfl) ct_nw_0 rfl dX2_takes_60 ?_
      refine lv_aload_n hx hb dX2_takes_63 rfl (lv_at hl 4 rfl) ?_
      refine ct_get (v := .ref (q 3)) B hT0 kX9 0 rfl 4 (Nat.le_of_ble_eq_true rfl) q402 rfl dX2_takes_64 ?_
      refine lv_iload_n hx hb dX2_takes_67 rfl (lv_at hl 5 rfl) ?_
      refine ct_iald (f := f 2) B hT0 3 rfl hk hn dX2_takes_68 ?_
      refine W.eq (g2 := F0 m 69 ls [.int (nI a), .ref (ad 5)]) (by rw [ha]) ?_
      refine ct_bald (f := wb) B hP 5 rfl (by omega) (by omega) dX2_takes_69 ?_
      refine W.eq (g2 := F0 m 70 ls [.int (nI (w.1.getD 0 0))]) (by rw [(show wb a = nI (w.1.getD 0 0) from ht.1 0 hpos)]) ?_
      refine lv_bipush (v := nI 45) hx hb dX2_takes_70 (by decide) ?_
      refine n_icmp_ne (tgt := 82) hx hb dX2_takes_72 (by decide) (by have := tAt_rg ht hpos; omega) (by omega) (fun c45 => ?_) (fun c45 => ?_)
      · have hdl : dl w = w.1.length := if_neg c45
        refine lv_iload hx hb dX2_takes_82 (lv_at hl 0 rfl) ?_
        refine lv_bipush (v := nI 15) hx hb dX2_takes_84 (by decide) ?_
        refine n_icmp_gt (tgt := 93) hx hb dX2_takes_86 (by decide) (by omega) (by omega) (fun c_6 => ?_) (fun c_6 => ?_)
        · refine lv_iconst (v := nI 0) hx hb dX2_takes_93 (by decide) ?_
          exact ct_iretR (ty := .boolean) (v := (nI 0)) B rfl rfl (by rw [if_neg (by unfold takesW; omega)] <;> rfl) dX2_takes_94
        · refine lv_iconst (v := nI 1) hx hb dX2_takes_89 (by decide) ?_
          refine lv_goto (tgt := 94) hx hb dX2_takes_90 (by decide) ?_
          exact ct_iretR (ty := .boolean) (v := (nI 1)) B rfl rfl (by rw [if_pos (by unfold takesW; omega)] <;> rfl) dX2_takes_94
      · have hdl : dl w = w.1.length - 1 := if_pos c45
        refine lv_iload hx hb dX2_takes_75 (lv_at hl 0 rfl) ?_
        refine lv_iconst (v := nI 1) hx hb dX2_takes_77 (by decide) ?_
        refine n_isub hx hb (by omega) dX2_takes_78 ?_
        refine lv_goto (tgt := 84) hx hb dX2_takes_79 (by decide) ?_
        refine lv_bipush (v := nI 15) hx hb dX2_takes_84 (by decide) ?_
        refine n_icmp_gt (tgt := 93) hx hb dX2_takes_86 (by decide) (by omega) (by omega) (fun c_7 => ?_) (fun c_7 => ?_)
        · refine lv_iconst (v := nI 0) hx hb dX2_takes_93 (by decide) ?_
          exact ct_iretR (ty := .boolean) (v := (nI 0)) B rfl rfl (by rw [if_neg (by unfold takesW; omega)] <;> rfl) dX2_takes_94
        · refine lv_iconst (v := nI 1) hx hb dX2_takes_89 (by decide) ?_
          refine lv_goto (tgt := 94) hx hb dX2_takes_90 (by decide) ?_
          exact ct_iretR (ty := .boolean) (v := (nI 1)) B rfl rfl (by rw [if_pos (by unfold takesW; omega)] <;> rfl) dX2_takes_94
    · refine lv_iload hx hb dX2_takes_20 (lv_at hl 0 rfl) ?_
      refine lv_iconst (v := nI 5) hx hb dX2_takes_22 (by decide) ?_
      refine n_icmp_eq (tgt := 49) hx hb dX2_takes_23 (by decide) (by omega) (by omega) (fun c_8 => ?_) (fun c_8 => ?_)
      · have hpos := miss_pos hm (laneC_q (by omega))
        refine lv_aload_n hx hb dX2_takes_49 rfl (lv_at hl 3 rfl) ?_
        refine lv_iload_n hx hb dX2_takes_50 rfl (lv_at hl 4 rfl) ?_
        refine ct_callR (ct_runV (As := [.int (nI k)]) (rest := []) B (met_X9_length l E  q cols rows k f w s.heap.size hk hn hw hwl) (lw_V q452 q453 q454 q57 q455) (n := 1) ⟨by decide, by decide, by decide +kernel⟩ rfl ⟨rfl, rfl, (Nat.le_of_ble_eq_true rfl), (Nat.le_of_ble_eq_true rfl), (Nat.le_of_ble_eq_true rfl), (Nat.le_of_ble_eq_true rfl)⟩ (va_S.rf (A := fun _ => False)) (fun _ h => h.elim) (ct_recv B hT0 kX9 0 rfl) hT0 hl.1 (Nat.le_of_ble_eq_true rfl) dX2_takes_51) (fun v hv => ?_)
        subst hv
        refine W.eq (g2 := F0 m 54 ls [.int (nI w.1.length)]) rfl ?_
        refine lv_istore (lv' := [(5, .int (nI w.1.length)), (4, .int (nI (laneC w))), (0, .ref (ad 3)), (1, .int (nI ln)), (2, .ref (q 0)), (3, .int (nI k))]) hx hb dX2_takes_54 hl (by decide) rfl (fun ls hl => ?_)
        refine lv_aload_n hx hb dX2_takes_56 rfl (lv_at hl 2 rfl) ?_
        refine ct_get (v := .ref (ad 4)) B hP kX2 3 rfl 1 (Nat.le_of_ble_eq_true rfl) q216 rfl dX2_takes_57 ?_
        refine ct_getN (v := .ref (ad 5)) B hP kX3 4 rfl 0 (Nat.le_of_ble_eq_true rfl) ct_nw_0 rfl dX2_takes_60 ?_
        refine lv_aload_n hx hb dX2_takes_63 rfl (lv_at hl 4 rfl) ?_
        refine ct_get (v := .ref (q 3)) B hT0 kX9 0 rfl 4 (Nat.le_of_ble_eq_true rfl) q402 rfl dX2_takes_64 ?_
        refine lv_iload_n hx hb dX2_takes_67 rfl (lv_at hl 5 rfl) ?_
        refine ct_iald (f := f 2) B hT0 3 rfl hk hn dX2_takes_68 ?_
        refine W.eq (g2 := F0 m 69 ls [.int (nI a), .ref (ad 5)]) (by rw [ha]) ?_
        refine ct_bald (f := wb) B hP 5 rfl (by omega) (by omega) dX2_takes_69 ?_
        refine W.eq (g2 := F0 m 70 ls [.int (nI (w.1.getD 0 0))]) (by rw [(show wb a = nI (w.1.getD 0 0) from ht.1 0 hpos)]) ?_
        refine lv_bipush (v := nI 45) hx hb dX2_takes_70 (by decide) ?_
        refine n_icmp_ne (tgt := 82) hx hb dX2_takes_72 (by decide) (by have := tAt_rg ht hpos; omega) (by omega) (fun c45 => ?_) (fun c45 => ?_)
        · have hdl : dl w = w.1.length := if_neg c45
          refine lv_iload hx hb dX2_takes_82 (lv_at hl 0 rfl) ?_
          refine lv_bipush (v := nI 15) hx hb dX2_takes_84 (by decide) ?_
          refine n_icmp_gt (tgt := 93) hx hb dX2_takes_86 (by decide) (by omega) (by omega) (fun c_9 => ?_) (fun c_9 => ?_)
          · refine lv_iconst (v := nI 0) hx hb dX2_takes_93 (by decide) ?_
            exact ct_iretR (ty := .boolean) (v := (nI 0)) B rfl rfl (by rw [if_neg (by unfold takesW; omega)] <;> rfl) dX2_takes_94
          · refine lv_iconst (v := nI 1) hx hb dX2_takes_89 (by decide) ?_
            refine lv_goto (tgt := 94) hx hb dX2_takes_90 (by decide) ?_
            exact ct_iretR (ty := .boolean) (v := (nI 1)) B rfl rfl (by rw [if_pos (by unfold takesW; omega)] <;> rfl) dX2_takes_94
        · have hdl : dl w = w.1.length - 1 := if_pos c45
          refine lv_iload hx hb dX2_takes_75 (lv_at hl 0 rfl) ?_
          refine lv_iconst (v := nI 1) hx hb dX2_takes_77 (by decide) ?_
          refine n_isub hx hb (by omega) dX2_takes_78 ?_
          refine lv_goto (tgt := 84) hx hb dX2_takes_79 (by decide) ?_
          refine lv_bipush (v := nI 15) hx hb dX2_takes_84 (by decide) ?_
          refine n_icmp_gt (tgt := 93) hx hb dX2_takes_86 (by decide) (by omega) (by omega) (fun c_10 => ?_) (fun c_10 => ?_)
          · refine lv_iconst (v := nI 0) hx hb dX2_takes_93 (by decide) ?_
            exact ct_iretR (ty := .boolean) (v := (nI 0)) B rfl rfl (by rw [if_neg (by unfold takesW; omega)] <;> rfl) dX2_takes_94
          · refine lv_iconst (v := nI 1) hx hb dX2_takes_89 (by decide) ?_
            refine lv_goto (tgt := 94) hx hb dX2_takes_90 (by decide) ?_
            exact ct_iretR (ty := .boolean) (v := (nI 1)) B rfl rfl (by rw [if_pos (by unfold takesW; omega)] <;> rfl) dX2_takes_94
      · refine lv_iload hx hb dX2_takes_26 (lv_at hl 0 rfl) ?_
        refine lv_iload_n hx hb dX2_takes_28 rfl (lv_at hl 2 rfl) ?_
        refine n_icmp_eq (tgt := 43) hx hb dX2_takes_29 (by decide) (by omega) (by omega) (fun c_11 => ?_) (fun c_11 => ?_)
        · refine lv_iconst (v := nI 1) hx hb dX2_takes_43 (by decide) ?_
          refine lv_goto (tgt := 48) hx hb dX2_takes_44 (by decide) ?_
          exact ct_iretR (ty := .boolean) (v := (nI 1)) B rfl rfl (by rw [if_pos (by unfold takesW; omega)] <;> rfl) dX2_takes_48
        · refine lv_iload_n hx hb dX2_takes_32 rfl (lv_at hl 2 rfl) ?_
          refine lv_iconst (v := nI 5) hx hb dX2_takes_33 (by decide) ?_
          refine n_icmp_ne (tgt := 47) hx hb dX2_takes_34 (by decide) (by omega) (by omega) (fun c_12 => ?_) (fun c_12 => ?_)
          · refine lv_iconst (v := nI 0) hx hb dX2_takes_47 (by decide) ?_
            exact ct_iretR (ty := .boolean) (v := (nI 0)) B rfl rfl (by rw [if_neg (by unfold takesW; omega)] <;> rfl) dX2_takes_48
          · refine lv_iload hx hb dX2_takes_37 (lv_at hl 0 rfl) ?_
            refine lv_iconst (v := nI 4) hx hb dX2_takes_39 (by decide) ?_
            refine n_icmp_ne (tgt := 47) hx hb dX2_takes_40 (by decide) (by omega) (by omega) (fun c_13 => ?_) (fun c_13 => ?_)
            · refine lv_iconst (v := nI 0) hx hb dX2_takes_47 (by decide) ?_
              exact ct_iretR (ty := .boolean) (v := (nI 0)) B rfl rfl (by rw [if_neg (by unfold takesW; omega)] <;> rfl) dX2_takes_48
            · refine lv_iconst (v := nI 1) hx hb dX2_takes_43 (by decide) ?_
              refine lv_goto (tgt := 48) hx hb dX2_takes_44 (by decide) ?_
              exact ct_iretR (ty := .boolean) (v := (nI 1)) B rfl rfl (by rw [if_pos (by unfold takesW; omega)] <;> rfl) dX2_takes_48
set_option maxHeartbeats 4000000 in
set_option maxRecDepth 100000 in
theorem met_X2_takesAll (l : Launch) (E : CE) (ad : Nat → Nat) (F : XF) (O : XO) (S : XS) (made : Nat) (all : Nat → Option Nat) (wn : Nat) (wb : Nat → Int32) (P : XP) (R : XR) (ln : Nat) (q : Nat → Nat) (cols rows co : Nat) (f : Nat → Nat → Int32) (cw : Nat → Wd) (sz : Nat) (hln : ln ≤ 8) (hrs : rows < 2147483648) (hn : cols * rows < 2147483648) (hc : co < cols) (hTD : TD wb wn (cols * rows) (f 2) (f 3) cw) : Met l yX2_takesAll (ws_ yX2_takesAll cX2_takesAll 6 (some .boolean)) { frames := 8, cells := 0, slots := 0, locals := 190 } (ctP E [.ref (ad 3), .int (nI ln), .ref (q 0), .int (nI co)] sz (fun H => va_P E.1 ct_cl (xw E ad F O S (made, all, wn, wb) P R) H ∧ va_P E.1 ct_cl (tw E q cols rows f) H)) (ctR (fun v => v = some (.int (if colAll ln cols rows cw co then 1 else 0)))) 0 0 (fun _ => False) := by
  refine ct_start (by decide) (Nat.le_of_ble_eq_true rfl) ?_
  intro p e s m below meth c ls B hsz hH hl
  obtain ⟨hP, hT0⟩ := hH
  have hx := B.1
  have hb := B.2.1
  have hl : lv_has ls 6 [(0, .ref (ad 3)), (1, .int (nI ln)), (2, .ref (q 0)), (3, .int (nI co))] := hl
  refine lv_iconst (v := nI 0) hx hb dX2_takesAll_0 (by decide) ?_
  refine lv_istore (lv' := [(4, .int (nI 0)), (0, .ref (ad 3)), (1, .int (nI ln)), (2, .ref (q 0)), (3, .int (nI co))]) hx hb dX2_takesAll_1 hl (by decide) rfl (fun ls hl => ?_)
  refine ct_loop (σ := Nat) (fun r ls => lv_has ls 6 [(4, .int (nI r)), (0, .ref (ad 3)), (1, .int (nI ln)), (2, .ref (q 0)), (3, .int (nI co))] ∧ (r ≤ rows) ∧ (∀ j, j < r → missW (cw (cols * j + co)) ∨ takesW ln (cw (cols * j + co)))) (fun r => rows - r) (g := fun r ls => F0 m 3 ls []) (x0 := 0) (ls0 := ls) ?_ ⟨lv_sub hl [0, 1, 2, 3, 4] rfl, Nat.zero_le _, fun j hj => absurd hj (Nat.not_lt_zero j)⟩
  clear hl
  intro r ls hI ih_1
  obtain ⟨hl, hr, hA_⟩ := hI
  refine W.eq (g2 := F0 m 3 ls []) rfl ?_
  refine lv_iload hx hb dX2_takesAll_3 (lv_at hl 0 rfl) ?_
  refine lv_aload_n hx hb dX2_takesAll_5 rfl (lv_at hl 3 rfl) ?_
  refine ct_get (v := .int (nI rows)) B hT0 kX9 0 rfl 1 (Nat.le_of_ble_eq_true rfl) q396 rfl dX2_takesAll_6 ?_
  refine n_icmp_ge (tgt := 51) hx hb dX2_takesAll_9 (by decide) (by omega) (by omega) (fun c_2 => ?_) (fun c_2 => ?_)
  · refine lv_iconst (v := nI 1) hx hb dX2_takesAll_51 (by decide) ?_
    exact ct_iretR (ty := .boolean) (v := (nI 1)) B rfl rfl (by rw [if_pos (fun j hj => hA_ j (by omega))] <;> rfl) dX2_takesAll_52
  · have hix := ix_lt hc (show r < rows by omega)
    obtain ⟨a, ha, hta, -⟩ := (hTD _ hix).2.2
    refine lv_aload_n hx hb dX2_takesAll_12 rfl (lv_at hl 3 rfl) ?_
    refine ct_get (v := .int (nI cols)) B hT0 kX9 0 rfl 0 (Nat.le_of_ble_eq_true rfl) q393 rfl dX2_takesAll_13 ?_
    refine lv_iload hx hb dX2_takesAll_16 (lv_at hl 0 rfl) ?_
    refine n_imul hx hb dX2_takesAll_18 ?_
    refine lv_iload_n hx hb dX2_takesAll_19 rfl (lv_at hl 4 rfl) ?_
    refine n_iadd hx hb dX2_takesAll_20 ?_
    refine lv_istore (lv' := [(5, .int (nI (cols * r + co))), (4, .int (nI r)), (0, .ref (ad 3)), (1, .int (nI ln)), (2, .ref (q 0)), (3, .int (nI co))]) hx hb dX2_takesAll_21 hl (by decide) rfl (fun ls hl => ?_)
    refine lv_aload_n hx hb dX2_takesAll_23 rfl (lv_at hl 4 rfl) ?_
    refine lv_iload hx hb dX2_takesAll_24 (lv_at hl 0 rfl) ?_
    refine ct_callR (ct_runV (As := [.int (nI (cols * r + co))]) (rest := []) B (met_X9_isMissing l E  q cols rows (cols * r + co) f (cw (cols * r + co)) s.heap.size hix hn (hTD _ hix).1 (hTD _ hix).2.1) (lw_V q436 q437 q438 q57 q439) (n := 1) ⟨by decide, by decide, by decide +kernel⟩ rfl ⟨rfl, rfl, (Nat.le_of_ble_eq_true rfl), (Nat.le_of_ble_eq_true rfl), (Nat.le_of_ble_eq_true rfl), (Nat.le_of_ble_eq_true rfl)⟩ (va_S.rf (A := fun _ => False)) (fun _ h => h.elim) (ct_recv B hT0 kX9 0 rfl) hT0 hl.1 (Nat.le_of_ble_eq_true rfl) dX2_takesAll_26) (fun v hv => ?_)
    subst hv
    refine W.eq (g2 := F0 m 29 ls [.int (if (cw (cols * r + co)).1 = [] ∧ (cw (cols * r + co)).2 = false then 1 else 0)]) rfl ?_
    refine b_if_ne (tgt := 45) hx hb dX2_takesAll_29 (by decide) (fun cm => ?_) (fun cm => ?_)
    · refine n_iinc (n := 1) (lv' := [(4, .int (nI (r + 1))), (5, .int (nI (cols * r + co))), (0, .ref (ad 3)), (1, .int (nI ln)), (2, .ref (q 0)), (3, .int (nI co))]) hx hb dX2_takesAll_45 hl (k := 1) rfl rfl (by decide) (by decide) rfl (fun ls hl => ?_)
      refine lv_goto (tgt := 3) hx hb dX2_takesAll_48 (by decide) ?_
      exact ih_1 (r + 1) ls (by omega) ⟨lv_sub hl [0, 2, 3, 4, 5] rfl, by omega, fun j hj => by rcases Nat.lt_succ_iff_lt_or_eq.mp hj with q9 | q9; exact hA_ j q9; rw [q9]; exact Or.inl cm⟩
    · refine lv_aload_n hx hb dX2_takesAll_32 rfl (lv_at hl 2 rfl) ?_
      refine lv_iload_n hx hb dX2_takesAll_33 rfl (lv_at hl 3 rfl) ?_
      refine lv_aload_n hx hb dX2_takesAll_34 rfl (lv_at hl 4 rfl) ?_
      refine lv_iload hx hb dX2_takesAll_35 (lv_at hl 0 rfl) ?_
      refine ct_callR (ct_runV (As := [.int (nI ln), .ref (q 0), .int (nI (cols * r + co))]) (rest := []) B (met_X2_takes l E ad F O S made all wn wb P R ln q cols rows (cols * r + co) a f (cw (cols * r + co)) s.heap.size hln hix hn (hTD _ hix).1 (hTD _ hix).2.1 ha hta cm) (lw_V q444 q446 qs15 q50 q447) (n := 3) ⟨by decide, by decide, by decide +kernel⟩ rfl ⟨rfl, rfl, (Nat.le_of_ble_eq_true rfl), (Nat.le_of_ble_eq_true rfl), (Nat.le_of_ble_eq_true rfl), (Nat.le_of_ble_eq_true rfl)⟩ (va_S.rf (A := fun _ => False)) (fun _ h => h.elim) (ct_recv B hP kX2 3 rfl) ⟨hP, hT0⟩ hl.1 (Nat.le_of_ble_eq_true rfl) dX2_takesAll_37) (fun v hv => ?_)
      subst hv
      refine W.eq (g2 := F0 m 40 ls [.int (if takesW ln (cw (cols * r + co)) then 1 else 0)]) rfl ?_
      refine b_if_ne (tgt := 45) hx hb dX2_takesAll_40 (by decide) (fun ctk => ?_) (fun ctk => ?_)
      · refine n_iinc (n := 1) (lv' := [(4, .int (nI (r + 1))), (5, .int (nI (cols * r + co))), (0, .ref (ad 3)), (1, .int (nI ln)), (2, .ref (q 0)), (3, .int (nI co))]) hx hb dX2_takesAll_45 hl (k := 1) rfl rfl (by decide) (by decide) rfl (fun ls hl => ?_)
        refine lv_goto (tgt := 3) hx hb dX2_takesAll_48 (by decide) ?_
        exact ih_1 (r + 1) ls (by omega) ⟨lv_sub hl [0, 2, 3, 4, 5] rfl, by omega, fun j hj => by rcases Nat.lt_succ_iff_lt_or_eq.mp hj with q9 | q9; exact hA_ j q9; rw [q9]; exact Or.inr ctk⟩
      · refine lv_iconst (v := nI 0) hx hb dX2_takesAll_43 (by decide) ?_
        exact ct_iretR (ty := .boolean) (v := (nI 0)) B rfl rfl (by rw [if_neg (fun q9 => by rcases q9 r (by omega) with q8 | q8; exact cm q8; exact ctk q8)] <;> rfl) dX2_takesAll_44
set_option maxHeartbeats 4000000 in
set_option maxRecDepth 100000 in
theorem met_X2_laneOf (l : Launch) (E : CE) (ad : Nat → Nat) (F : XF) (O : XO) (S : XS) (made : Nat) (all : Nat → Option Nat) (wn : Nat) (wb : Nat → Int32) (P : XP) (R : XR) (q : Nat → Nat) (cols rows co : Nat) (f : Nat → Nat → Int32) (cw : Nat → Wd) (sz : Nat) (hrs : rows < 2147483648) (hn : cols * rows < 2147483648) (hc : co < cols) (hTD : TD wb wn (cols * rows) (f 2) (f 3) cw) : Met l yX2_laneOf (ws_ yX2_laneOf cX2_laneOf 5 (some .int)) { frames := 9, cells := 0, slots := 0, locals := 215 } (ctP E [.ref (ad 3), .ref (q 0), .int (nI co)] sz (fun H => va_P E.1 ct_cl (xw E ad F O S (made, all, wn, wb) P R) H ∧ va_P E.1 ct_cl (tw E q cols rows f) H)) (ctR (fun v => v = some (.int (nI (laneT cols rows cw co))))) 0 0 (fun _ => False) := by
  refine ct_start (by decide) (Nat.le_of_ble_eq_true rfl) ?_
  intro p e s m below meth c ls B hsz hH hl
  obtain ⟨hP, hT0⟩ := hH
  have hx := B.1
  have hb := B.2.1
  have hl : lv_has ls 5 [(0, .ref (ad 3)), (1, .ref (q 0)), (2, .int (nI co))] := hl
  refine lv_iconst (v := nI 0) hx hb dX2_laneOf_0 (by decide) ?_
  refine lv_istore_n (lv' := [(3, .int (nI 0)), (0, .ref (ad 3)), (1, .ref (q 0)), (2, .int (nI co))]) hx hb dX2_laneOf_1 rfl hl (by decide) rfl (fun ls hl => ?_)
  refine lv_iconst (v := nI 0) hx hb dX2_laneOf_2 (by decide) ?_
  refine lv_istore (lv' := [(4, .int (nI 0)), (3, .int (nI 0)), (0, .ref (ad 3)), (1, .ref (q 0)), (2, .int (nI co))]) hx hb dX2_laneOf_3 hl (by decide) rfl (fun ls hl => ?_)
  refine ct_loop (σ := Nat × Nat) (fun (r, an) ls => lv_has ls 5 [(4, .int (nI r)), (3, .int (nI an)), (0, .ref (ad 3)), (1, .ref (q 0)), (2, .int (nI co))] ∧ (r ≤ rows) ∧ ((an = 1 ∧ ∃ j, j < r ∧ ¬ missW (cw (cols * j + co))) ∨ (an = 0 ∧ ∀ j, j < r → missW (cw (cols * j + co))))) (fun (r, an) => rows - r) (g := fun (r, an) ls => F0 m 5 ls []) (x0 := (0, 0)) (ls0 := ls) ?_ ⟨lv_sub hl [0, 1, 2, 3, 4] rfl, Nat.zero_le _, Or.inr ⟨rfl, fun j hj => absurd hj (Nat.not_lt_zero j)⟩⟩
  clear hl
  intro x9 ls hI ih_1
  obtain ⟨r, an⟩ := x9
  obtain ⟨hl, hr, hv⟩ := hI
  refine W.eq (g2 := F0 m 5 ls []) rfl ?_
  refine lv_iload hx hb dX2_laneOf_5 (lv_at hl 0 rfl) ?_
  refine lv_aload_n hx hb dX2_laneOf_7 rfl (lv_at hl 3 rfl) ?_
  refine ct_get (v := .int (nI rows)) B hT0 kX9 0 rfl 1 (Nat.le_of_ble_eq_true rfl) q396 rfl dX2_laneOf_8 ?_
  refine n_icmp_ge (tgt := 46) hx hb dX2_laneOf_11 (by decide) (by omega) (by omega) (fun c_2 => ?_) (fun c_2 => ?_)
  · rcases hv with ⟨rfl, hv⟩ | ⟨rfl, hv⟩
    · refine lv_iload_n hx hb dX2_laneOf_46 rfl (lv_at hl 1 rfl) ?_
      refine n_if_eq (tgt := 62) hx hb dX2_laneOf_47 (by decide) (by omega) (fun c_3 => absurd c_3 (by omega)) (fun c_3 => ?_)
      refine lv_aload_n hx hb dX2_laneOf_50 rfl (lv_at hl 2 rfl) ?_
      refine lv_iconst (v := nI 0) hx hb dX2_laneOf_51 (by decide) ?_
      refine lv_aload_n hx hb dX2_laneOf_52 rfl (lv_at hl 3 rfl) ?_
      refine lv_iload_n hx hb dX2_laneOf_53 rfl (lv_at hl 4 rfl) ?_
      refine ct_callR (ct_runV (As := [.int (nI 0), .ref (q 0), .int (nI co)]) (rest := []) B (met_X2_takesAll l E ad F O S made all wn wb P R 0 q cols rows co f cw s.heap.size (by omega) hrs hn hc hTD) (lw_V q440 q442 qs14 q50 q443) (n := 3) ⟨by decide, by decide, by decide +kernel⟩ rfl ⟨rfl, rfl, (Nat.le_of_ble_eq_true rfl), (Nat.le_of_ble_eq_true rfl), (Nat.le_of_ble_eq_true rfl), (Nat.le_of_ble_eq_true rfl)⟩ (va_S.rf (A := fun _ => False)) (fun _ h => h.elim) (ct_recv B hP kX2 3 rfl) ⟨hP, hT0⟩ hl.1 (Nat.le_of_ble_eq_true rfl) dX2_laneOf_54) (fun v hv => ?_)
      subst hv
      refine W.eq (g2 := F0 m 57 ls [.int (if colAll 0 cols rows cw co then 1 else 0)]) rfl ?_
      refine b_if_eq (tgt := 62) hx hb dX2_laneOf_57 (by decide) (fun t0 => ?_) (fun t0 => ?_)
      · refine lv_iload_n hx hb dX2_laneOf_62 rfl (lv_at hl 1 rfl) ?_
        refine n_if_eq (tgt := 78) hx hb dX2_laneOf_63 (by decide) (by omega) (fun c_4 => absurd c_4 (by omega)) (fun c_4 => ?_)
        refine lv_aload_n hx hb dX2_laneOf_66 rfl (lv_at hl 2 rfl) ?_
        refine lv_iconst (v := nI 4) hx hb dX2_laneOf_67 (by decide) ?_
        refine lv_aload_n hx hb dX2_laneOf_68 rfl (lv_at hl 3 rfl) ?_
        refine lv_iload_n hx hb dX2_laneOf_69 rfl (lv_at hl 4 rfl) ?_
        refine ct_callR (ct_runV (As := [.int (nI 4), .ref (q 0), .int (nI co)]) (rest := []) B (met_X2_takesAll l E ad F O S made all wn wb P R 4 q cols rows co f cw s.heap.size (by omega) hrs hn hc hTD) (lw_V q440 q442 qs14 q50 q443) (n := 3) ⟨by decide, by decide, by decide +kernel⟩ rfl ⟨rfl, rfl, (Nat.le_of_ble_eq_true rfl), (Nat.le_of_ble_eq_true rfl), (Nat.le_of_ble_eq_true rfl), (Nat.le_of_ble_eq_true rfl)⟩ (va_S.rf (A := fun _ => False)) (fun _ h => h.elim) (ct_recv B hP kX2 3 rfl) ⟨hP, hT0⟩ hl.1 (Nat.le_of_ble_eq_true rfl) dX2_laneOf_70) (fun v hv => ?_)
        subst hv
        refine W.eq (g2 := F0 m 73 ls [.int (if colAll 4 cols rows cw co then 1 else 0)]) rfl ?_
        refine b_if_eq (tgt := 78) hx hb dX2_laneOf_73 (by decide) (fun t4 => ?_) (fun t4 => ?_)
        · refine lv_iload_n hx hb dX2_laneOf_78 rfl (lv_at hl 1 rfl) ?_
          refine n_if_eq (tgt := 94) hx hb dX2_laneOf_79 (by decide) (by omega) (fun c_5 => absurd c_5 (by omega)) (fun c_5 => ?_)
          refine lv_aload_n hx hb dX2_laneOf_82 rfl (lv_at hl 2 rfl) ?_
          refine lv_iconst (v := nI 5) hx hb dX2_laneOf_83 (by decide) ?_
          refine lv_aload_n hx hb dX2_laneOf_84 rfl (lv_at hl 3 rfl) ?_
          refine lv_iload_n hx hb dX2_laneOf_85 rfl (lv_at hl 4 rfl) ?_
          refine ct_callR (ct_runV (As := [.int (nI 5), .ref (q 0), .int (nI co)]) (rest := []) B (met_X2_takesAll l E ad F O S made all wn wb P R 5 q cols rows co f cw s.heap.size (by omega) hrs hn hc hTD) (lw_V q440 q442 qs14 q50 q443) (n := 3) ⟨by decide, by decide, by decide +kernel⟩ rfl ⟨rfl, rfl, (Nat.le_of_ble_eq_true rfl), (Nat.le_of_ble_eq_true rfl), (Nat.le_of_ble_eq_true rfl), (Nat.le_of_ble_eq_true rfl)⟩ (va_S.rf (A := fun _ => False)) (fun _ h => h.elim) (ct_recv B hP kX2 3 rfl) ⟨hP, hT0⟩ hl.1 (Nat.le_of_ble_eq_true rfl) dX2_laneOf_86) (fun v hv => ?_)
          subst hv
          refine W.eq (g2 := F0 m 89 ls [.int (if colAll 5 cols rows cw co then 1 else 0)]) rfl ?_
          refine b_if_eq (tgt := 94) hx hb dX2_laneOf_89 (by decide) (fun t5 => ?_) (fun t5 => ?_)
          · refine lv_iload_n hx hb dX2_laneOf_94 rfl (lv_at hl 1 rfl) ?_
            refine n_if_eq (tgt := 114) hx hb dX2_laneOf_95 (by decide) (by omega) (fun c_6 => absurd c_6 (by omega)) (fun c_6 => ?_)
            refine lv_aload_n hx hb dX2_laneOf_98 rfl (lv_at hl 2 rfl) ?_
            refine lv_bipush (v := nI 7) hx hb dX2_laneOf_99 (by decide) ?_
            refine lv_aload_n hx hb dX2_laneOf_101 rfl (lv_at hl 3 rfl) ?_
            refine lv_iload_n hx hb dX2_laneOf_102 rfl (lv_at hl 4 rfl) ?_
            refine ct_callR (ct_runV (As := [.int (nI 7), .ref (q 0), .int (nI co)]) (rest := []) B (met_X2_takesAll l E ad F O S made all wn wb P R 7 q cols rows co f cw s.heap.size (by omega) hrs hn hc hTD) (lw_V q440 q442 qs14 q50 q443) (n := 3) ⟨by decide, by decide, by decide +kernel⟩ rfl ⟨rfl, rfl, (Nat.le_of_ble_eq_true rfl), (Nat.le_of_ble_eq_true rfl), (Nat.le_of_ble_eq_true rfl), (Nat.le_of_ble_eq_true rfl)⟩ (va_S.rf (A := fun _ => False)) (fun _ h => h.elim) (ct_recv B hP kX2 3 rfl) ⟨hP, hT0⟩ hl.1 (Nat.le_of_ble_eq_true rfl) dX2_laneOf_103) (fun v hv => ?_)
            subst hv
            refine W.eq (g2 := F0 m 106 ls [.int (if colAll 7 cols rows cw co then 1 else 0)]) rfl ?_
            refine b_if_eq (tgt := 114) hx hb dX2_laneOf_106 (by decide) (fun t7 => ?_) (fun t7 => ?_)
            · refine lv_bipush (v := nI 8) hx hb dX2_laneOf_114 (by decide) ?_
              exact ct_iretR (ty := .int) (v := (nI 8)) B rfl rfl (by rw [laneT, if_pos (show colAny cols rows cw co from by obtain ⟨j, hj, q8⟩ := hv; exact ⟨j, by omega, q8⟩), if_neg t0, if_neg t4, if_neg t5, if_neg t7]) dX2_laneOf_116
            · refine lv_bipush (v := nI 7) hx hb dX2_laneOf_109 (by decide) ?_
              refine lv_goto (tgt := 116) hx hb dX2_laneOf_111 (by decide) ?_
              exact ct_iretR (ty := .int) (v := (nI 7)) B rfl rfl (by rw [laneT, if_pos (show colAny cols rows cw co from by obtain ⟨j, hj, q8⟩ := hv; exact ⟨j, by omega, q8⟩), if_neg t0, if_neg t4, if_neg t5, if_pos t7]) dX2_laneOf_116
          · refine lv_iconst (v := nI 5) hx hb dX2_laneOf_92 (by decide) ?_
            exact ct_iretR (ty := .int) (v := (nI 5)) B rfl rfl (by rw [laneT, if_pos (show colAny cols rows cw co from by obtain ⟨j, hj, q8⟩ := hv; exact ⟨j, by omega, q8⟩), if_neg t0, if_neg t4, if_pos t5]) dX2_laneOf_93
        · refine lv_iconst (v := nI 4) hx hb dX2_laneOf_76 (by decide) ?_
          exact ct_iretR (ty := .int) (v := (nI 4)) B rfl rfl (by rw [laneT, if_pos (show colAny cols rows cw co from by obtain ⟨j, hj, q8⟩ := hv; exact ⟨j, by omega, q8⟩), if_neg t0, if_pos t4]) dX2_laneOf_77
      · refine lv_iconst (v := nI 0) hx hb dX2_laneOf_60 (by decide) ?_
        exact ct_iretR (ty := .int) (v := (nI 0)) B rfl rfl (by rw [laneT, if_pos (show colAny cols rows cw co from by obtain ⟨j, hj, q8⟩ := hv; exact ⟨j, by omega, q8⟩), if_pos t0]) dX2_laneOf_61
    · refine lv_iload_n hx hb dX2_laneOf_46 rfl (lv_at hl 1 rfl) ?_
      refine n_if_eq (tgt := 62) hx hb dX2_laneOf_47 (by decide) (by omega) (fun c_7 => ?_) (fun c_7 => absurd c_7 (by omega))
      refine lv_iload_n hx hb dX2_laneOf_62 rfl (lv_at hl 1 rfl) ?_
      refine n_if_eq (tgt := 78) hx hb dX2_laneOf_63 (by decide) (by omega) (fun c_8 => ?_) (fun c_8 => absurd c_8 (by omega))
      refine lv_iload_n hx hb dX2_laneOf_78 rfl (lv_at hl 1 rfl) ?_
      refine n_if_eq (tgt := 94) hx hb dX2_laneOf_79 (by decide) (by omega) (fun c_9 => ?_) (fun c_9 => absurd c_9 (by omega))
      refine lv_iload_n hx hb dX2_laneOf_94 rfl (lv_at hl 1 rfl) ?_
      refine n_if_eq (tgt := 114) hx hb dX2_laneOf_95 (by decide) (by omega) (fun c_10 => ?_) (fun c_10 => absurd c_10 (by omega))
      refine lv_bipush (v := nI 8) hx hb dX2_laneOf_114 (by decide) ?_
      exact ct_iretR (ty := .int) (v := (nI 8)) B rfl rfl (by rw [laneT, if_neg (fun q9 => by obtain ⟨j, hj, q8⟩ := q9; exact q8 (hv j (by omega)))]) dX2_laneOf_116
  · refine lv_iload_n hx hb dX2_laneOf_14 rfl (lv_at hl 1 rfl) ?_
    refine n_if_ne (tgt := 34) hx hb dX2_laneOf_15 (by decide) (by omega) (fun ca => ?_) (fun ca => ?_)
    · refine lv_iconst (v := nI 1) hx hb dX2_laneOf_34 (by decide) ?_
      refine lv_goto (tgt := 39) hx hb dX2_laneOf_35 (by decide) ?_
      refine lv_istore_n (lv' := [(3, .int (nI 1)), (4, .int (nI r)), (0, .ref (ad 3)), (1, .ref (q 0)), (2, .int (nI co))]) hx hb dX2_laneOf_39 rfl hl (by decide) rfl (fun ls hl => ?_)
      refine n_iinc (n := 1) (lv' := [(4, .int (nI (r + 1))), (3, .int (nI 1)), (0, .ref (ad 3)), (1, .ref (q 0)), (2, .int (nI co))]) hx hb dX2_laneOf_40 hl (k := 1) rfl rfl (by decide) (by decide) rfl (fun ls hl => ?_)
      refine lv_goto (tgt := 5) hx hb dX2_laneOf_43 (by decide) ?_
      exact ih_1 ((r + 1), 1) ls (by dsimp only; omega) ⟨lv_sub hl [0, 1, 2, 3, 4] rfl, by omega, (by rcases hv with ⟨q9, j, hj, q8⟩ | ⟨q9, q8⟩; exact Or.inl ⟨rfl, j, by omega, q8⟩; exact absurd q9 ca)⟩
    · refine lv_aload_n hx hb dX2_laneOf_18 rfl (lv_at hl 3 rfl) ?_
      refine lv_aload_n hx hb dX2_laneOf_19 rfl (lv_at hl 3 rfl) ?_
      have hix := ix_lt hc (show r < rows by omega)
      refine ct_get (v := .int (nI cols)) B hT0 kX9 0 rfl 0 (Nat.le_of_ble_eq_true rfl) q393 rfl dX2_laneOf_20 ?_
      refine lv_iload hx hb dX2_laneOf_23 (lv_at hl 0 rfl) ?_
      refine n_imul hx hb dX2_laneOf_25 ?_
      refine lv_iload_n hx hb dX2_laneOf_26 rfl (lv_at hl 4 rfl) ?_
      refine n_iadd hx hb dX2_laneOf_27 ?_
      refine ct_callR (ct_runV (As := [.int (nI (cols * r + co))]) (rest := []) B (met_X9_isMissing l E  q cols rows (cols * r + co) f (cw (cols * r + co)) s.heap.size hix hn (hTD _ hix).1 (hTD _ hix).2.1) (lw_V q436 q437 q438 q57 q439) (n := 1) ⟨by decide, by decide, by decide +kernel⟩ rfl ⟨rfl, rfl, (Nat.le_of_ble_eq_true rfl), (Nat.le_of_ble_eq_true rfl), (Nat.le_of_ble_eq_true rfl), (Nat.le_of_ble_eq_true rfl)⟩ (va_S.rf (A := fun _ => False)) (fun _ h => h.elim) (ct_recv B hT0 kX9 0 rfl) hT0 hl.1 (Nat.le_of_ble_eq_true rfl) dX2_laneOf_28) (fun v hv => ?_)
      subst hv
      refine W.eq (g2 := F0 m 31 ls [.int (if (cw (cols * r + co)).1 = [] ∧ (cw (cols * r + co)).2 = false then 1 else 0)]) rfl ?_
      refine b_if_ne (tgt := 38) hx hb dX2_laneOf_31 (by decide) (fun cm => ?_) (fun cm => ?_)
      · refine lv_iconst (v := nI 0) hx hb dX2_laneOf_38 (by decide) ?_
        refine lv_istore_n (lv' := [(3, .int (nI 0)), (4, .int (nI r)), (0, .ref (ad 3)), (1, .ref (q 0)), (2, .int (nI co))]) hx hb dX2_laneOf_39 rfl hl (by decide) rfl (fun ls hl => ?_)
        refine n_iinc (n := 1) (lv' := [(4, .int (nI (r + 1))), (3, .int (nI 0)), (0, .ref (ad 3)), (1, .ref (q 0)), (2, .int (nI co))]) hx hb dX2_laneOf_40 hl (k := 1) rfl rfl (by decide) (by decide) rfl (fun ls hl => ?_)
        refine lv_goto (tgt := 5) hx hb dX2_laneOf_43 (by decide) ?_
        exact ih_1 ((r + 1), 0) ls (by dsimp only; omega) ⟨lv_sub hl [0, 1, 2, 3, 4] rfl, by omega, (by rcases hv with ⟨q9, j, hj, q8⟩ | ⟨q9, q8⟩; omega; exact Or.inr ⟨rfl, fun j hj => by rcases Nat.lt_succ_iff_lt_or_eq.mp hj with q7 | q7; exact q8 j q7; rw [q7]; exact cm⟩)⟩
      · refine lv_iconst (v := nI 1) hx hb dX2_laneOf_34 (by decide) ?_
        refine lv_goto (tgt := 39) hx hb dX2_laneOf_35 (by decide) ?_
        refine lv_istore_n (lv' := [(3, .int (nI 1)), (4, .int (nI r)), (0, .ref (ad 3)), (1, .ref (q 0)), (2, .int (nI co))]) hx hb dX2_laneOf_39 rfl hl (by decide) rfl (fun ls hl => ?_)
        refine n_iinc (n := 1) (lv' := [(4, .int (nI (r + 1))), (3, .int (nI 1)), (0, .ref (ad 3)), (1, .ref (q 0)), (2, .int (nI co))]) hx hb dX2_laneOf_40 hl (k := 1) rfl rfl (by decide) (by decide) rfl (fun ls hl => ?_)
        refine lv_goto (tgt := 5) hx hb dX2_laneOf_43 (by decide) ?_
        exact ih_1 ((r + 1), 1) ls (by dsimp only; omega) ⟨lv_sub hl [0, 1, 2, 3, 4] rfl, by omega, Or.inl ⟨rfl, r, by omega, cm⟩⟩
