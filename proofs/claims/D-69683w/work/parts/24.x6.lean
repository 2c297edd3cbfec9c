set_option maxHeartbeats 4000000 in
set_option maxRecDepth 100000 in
theorem met_X2_laneOfCell (l : Launch) (E : CE) (ad : Nat → Nat) (F : XF) (O : XO) (S : XS) (made : Nat) (all : Nat → Option Nat) (wn : Nat) (wb : Nat → Int32) (P : XP) (R : XR) (q : Nat → Nat) (cols rows k a : Nat) (f : Nat → Nat → Int32) (w : Wd) (sz : Nat) (hk : k < cols * rows) (hn : cols * rows < 2147483648) (hw : f 3 k = encL w) (hwl : w.1.length ≤ 40) (ha : f 2 k = nI a) (ht : tAt wb a w.1) (hm : ¬ (w.1 = [] ∧ w.2 = false)) : Met l yX2_laneOfCell (ws_ yX2_laneOfCell cX2_laneOfCell 9 (some .int)) { frames := 6, cells := 0, slots := 0, locals := 137 } (ctP E [.ref (ad 3), .ref (q 0), .int (nI k)] sz (fun H => va_P E.1 ct_cl (xw E ad F O S (made, all, wn, wb) P R) H ∧ va_P E.1 ct_cl (tw E q cols rows f) H)) (ctR (fun v => v = some (.int (nI (laneC w))))) 0 0 (fun _ => False) := by
  refine ct_start (by decide) (Nat.le_of_ble_eq_true rfl) ?_
  intro p e s m below meth c ls B hsz hH hl
  obtain ⟨hP, hT0⟩ := hH
  have hx := B.1
  have hb := B.2.1
  have hl : lv_has ls 9 [(0, .ref (ad 3)), (1, .ref (q 0)), (2, .int (nI k))] := hl
  have hta := ht.2.2
  refine lv_aload_n hx hb dX2_laneOfCell_0 rfl (lv_at hl 1 rfl) ?_
  refine ct_get (v := .ref (q 3)) B hT0 kX9 0 rfl 4 (Nat.le_of_ble_eq_true rfl) q402 rfl dX2_laneOfCell_1 ?_
  refine lv_iload_n hx hb dX2_laneOfCell_4 rfl (lv_at hl 2 rfl) ?_
  refine ct_iald (f := f 2) B hT0 3 rfl (by omega) (by omega) dX2_laneOfCell_5 ?_
  refine W.eq (g2 := F0 m 6 ls [.int (nI a)]) (by rw [ha]) ?_
  refine lv_istore_n (lv' := [(3, .int (nI a)), (0, .ref (ad 3)), (1, .ref (q 0)), (2, .int (nI k))]) hx hb dX2_laneOfCell_6 rfl hl (by decide) rfl (fun ls hl => ?_)
  refine lv_aload_n hx hb dX2_laneOfCell_7 rfl (lv_at hl 2 rfl) ?_
  refine lv_iload_n hx hb dX2_laneOfCell_8 rfl (lv_at hl 3 rfl) ?_
  refine ct_callR (ct_runV (As := [.int (nI k)]) (rest := []) B (met_X9_length l E  q cols rows k f w s.heap.size hk hn hw hwl) (lw_V q452 q453 q454 q57 q455) (n := 1) ⟨by decide, by decide, by decide +kernel⟩ rfl ⟨rfl, rfl, (Nat.le_of_ble_eq_true rfl), (Nat.le_of_ble_eq_true rfl), (Nat.le_of_ble_eq_true rfl), (Nat.le_of_ble_eq_true rfl)⟩ (va_S.rf (A := fun _ => False)) (fun _ h => h.elim) (ct_recv B hT0 kX9 0 rfl) hT0 hl.1 (Nat.le_of_ble_eq_true rfl) dX2_laneOfCell_9) (fun v hv => ?_)
  subst hv
  refine W.eq (g2 := F0 m 12 ls [.int (nI w.1.length)]) rfl ?_
  refine lv_istore (lv' := [(4, .int (nI w.1.length)), (3, .int (nI a)), (0, .ref (ad 3)), (1, .ref (q 0)), (2, .int (nI k))]) hx hb dX2_laneOfCell_12 hl (by decide) rfl (fun ls hl => ?_)
  refine lv_aload_n hx hb dX2_laneOfCell_14 rfl (lv_at hl 3 rfl) ?_
  refine lv_iload_n hx hb dX2_laneOfCell_15 rfl (lv_at hl 4 rfl) ?_
  refine ct_callR (ct_runV (As := [.int (nI k)]) (rest := []) B (met_X9_isQuoted l E  q cols rows k f w s.heap.size hk hn hw hwl) (lw_V q456 q457 q458 q57 q459) (n := 1) ⟨by decide, by decide, by decide +kernel⟩ rfl ⟨rfl, rfl, (Nat.le_of_ble_eq_true rfl), (Nat.le_of_ble_eq_true rfl), (Nat.le_of_ble_eq_true rfl), (Nat.le_of_ble_eq_true rfl)⟩ (va_S.rf (A := fun _ => False)) (fun _ h => h.elim) (ct_recv B hT0 kX9 0 rfl) hT0 hl.1 (Nat.le_of_ble_eq_true rfl) dX2_laneOfCell_16) (fun v hv => ?_)
  subst hv
  refine W.eq (g2 := F0 m 19 ls [.int (if w.2 = true then 1 else 0)]) rfl ?_
  refine b_if_eq (tgt := 25) hx hb dX2_laneOfCell_19 (by decide) (fun cq => ?_) (fun cq => ?_)
  · have hq : w.2 = false := by simpa using cq
    have hpos : 0 < w.1.length := by rcases Nat.eq_zero_or_pos w.1.length with q9 | q9; exact absurd ⟨List.length_eq_zero_iff.mp q9, hq⟩ hm; exact q9
    refine lv_aload_n hx hb dX2_laneOfCell_25 rfl (lv_at hl 2 rfl) ?_
    refine lv_iload_n hx hb dX2_laneOfCell_26 rfl (lv_at hl 1 rfl) ?_
    refine lv_iload hx hb dX2_laneOfCell_27 (lv_at hl 0 rfl) ?_
    refine va_ldcS hx hb B.2.2.1 (B.2.2.2.2.2.2.2.2.2.2.2.2.1) dX2_laneOfCell_29 ?_
    refine ct_callR (ct_runV (As := [.int (nI a), .int (nI w.1.length), .ref (E.2.2.2 0)]) (rest := []) B (met_X2_isWord l E ad F O S made all wn wb P R _ a w.1.length (E.2.2.2 0) w.1 tx_true s.heap.size rfl ht) (lw_V q461 q463 qs17 q50 q464) (n := 3) ⟨by decide, by decide, by decide +kernel⟩ rfl ⟨rfl, rfl, (Nat.le_of_ble_eq_true rfl), (Nat.le_of_ble_eq_true rfl), (Nat.le_of_ble_eq_true rfl), (Nat.le_of_ble_eq_true rfl)⟩ (va_S.rf (A := fun _ => False)) (fun _ h => h.elim) (ct_recv B hP kX2 3 rfl) ⟨hP, B.2.2.2.2.2.2.2.2.2.2.2.1.2.2.2.2.2.1⟩ hl.1 (Nat.le_of_ble_eq_true rfl) dX2_laneOfCell_31) (fun v hv => ?_)
    subst hv
    refine W.eq (g2 := F0 m 34 ls [.int (if w.1 = tx_true then 1 else 0)]) rfl ?_
    refine b_if_ne (tgt := 49) hx hb dX2_laneOfCell_34 (by decide) (fun ct => ?_) (fun ct => ?_)
    · refine lv_iconst (v := nI 0) hx hb dX2_laneOfCell_49 (by decide) ?_
      exact ct_iretR (ty := .int) (v := (nI 0)) B rfl rfl (by rw [laneC, if_neg cq, if_pos (by first | exact Or.inl ct | exact Or.inr cf)]) dX2_laneOfCell_50
    · refine lv_aload_n hx hb dX2_laneOfCell_37 rfl (lv_at hl 2 rfl) ?_
      refine lv_iload_n hx hb dX2_laneOfCell_38 rfl (lv_at hl 1 rfl) ?_
      refine lv_iload hx hb dX2_laneOfCell_39 (lv_at hl 0 rfl) ?_
      refine va_ldcS hx hb B.2.2.1 (B.2.2.2.2.2.2.2.2.2.2.2.2.2.1) dX2_laneOfCell_41 ?_
      refine ct_callR (ct_runV (As := [.int (nI a), .int (nI w.1.length), .ref (E.2.2.2 1)]) (rest := []) B (met_X2_isWord l E ad F O S made all wn wb P R _ a w.1.length (E.2.2.2 1) w.1 tx_false s.heap.size rfl ht) (lw_V q461 q463 qs17 q50 q464) (n := 3) ⟨by decide, by decide, by decide +kernel⟩ rfl ⟨rfl, rfl, (Nat.le_of_ble_eq_true rfl), (Nat.le_of_ble_eq_true rfl), (Nat.le_of_ble_eq_true rfl), (Nat.le_of_ble_eq_true rfl)⟩ (va_S.rf (A := fun _ => False)) (fun _ h => h.elim) (ct_recv B hP kX2 3 rfl) ⟨hP, B.2.2.2.2.2.2.2.2.2.2.2.1.2.2.2.2.2.2.1⟩ hl.1 (Nat.le_of_ble_eq_true rfl) dX2_laneOfCell_43) (fun v hv => ?_)
      subst hv
      refine W.eq (g2 := F0 m 46 ls [.int (if w.1 = tx_false then 1 else 0)]) rfl ?_
      refine b_if_eq (tgt := 51) hx hb dX2_laneOfCell_46 (by decide) (fun cf => ?_) (fun cf => ?_)
      · refine lv_aload_n hx hb dX2_laneOfCell_51 rfl (lv_at hl 2 rfl) ?_
        refine ct_get (v := .ref (ad 4)) B hP kX2 3 rfl 1 (Nat.le_of_ble_eq_true rfl) q216 rfl dX2_laneOfCell_52 ?_
        refine ct_getN (v := .ref (ad 5)) B hP kX3 4 rfl 0 (Nat.le_of_ble_eq_true rfl) ct_nw_0 rfl dX2_laneOfCell_55 ?_
        refine lv_iload_n hx hb dX2_laneOfCell_58 rfl (lv_at hl 1 rfl) ?_
        refine ct_bald (f := wb) B hP 5 rfl (by omega) (by omega) dX2_laneOfCell_59 ?_
        refine W.eq (g2 := F0 m 60 ls [.int (nI (w.1.getD 0 0))]) (by rw [(show wb a = nI (w.1.getD 0 0) from ht.1 0 hpos)]) ?_
        refine lv_bipush (v := nI 45) hx hb dX2_laneOfCell_60 (by decide) ?_
        refine n_icmp_ne (tgt := 69) hx hb dX2_laneOfCell_62 (by decide) (by have := tAt_rg ht hpos; omega) (by omega) (fun c45 => ?_) (fun c45 => ?_)
        · refine lv_iconst (v := nI 0) hx hb dX2_laneOfCell_69 (by decide) ?_
          refine lv_istore (lv' := [(5, .int (nI 0)), (4, .int (nI w.1.length)), (3, .int (nI a)), (0, .ref (ad 3)), (1, .ref (q 0)), (2, .int (nI k))]) hx hb dX2_laneOfCell_70 hl (by decide) rfl (fun ls hl => ?_)
          refine lv_iload hx hb dX2_laneOfCell_72 (lv_at hl 0 rfl) ?_
          refine lv_istore (lv' := [(6, .int (nI 0)), (5, .int (nI 0)), (4, .int (nI w.1.length)), (3, .int (nI a)), (0, .ref (ad 3)), (1, .ref (q 0)), (2, .int (nI k))]) hx hb dX2_laneOfCell_74 hl (by decide) rfl (fun ls hl => ?_)
          refine ct_loop (σ := Nat) (fun j ls => lv_has ls 9 [(6, .int (nI j)), (5, .int (nI 0)), (4, .int (nI w.1.length)), (3, .int (nI a)), (0, .ref (ad 3)), (1, .ref (q 0)), (2, .int (nI k))] ∧ (0 ≤ j) ∧ (j ≤ w.1.length) ∧ (dEnd w.1 0 = dEnd w.1 j)) (fun j => w.1.length - j) (g := fun j ls => F0 m 76 ls []) (x0 := 0) (ls0 := ls) ?_ ⟨lv_sub hl [0, 1, 2, 3, 4, 5, 6] rfl, Nat.le_refl _, by omega, rfl⟩
          clear hl
          intro j ls hI ih_1
          obtain ⟨hl, hj1, hj2, he⟩ := hI
          refine W.eq (g2 := F0 m 76 ls []) rfl ?_
          refine lv_iload hx hb dX2_laneOfCell_76 (lv_at hl 0 rfl) ?_
          refine lv_iload hx hb dX2_laneOfCell_78 (lv_at hl 2 rfl) ?_
          refine n_icmp_ge (tgt := 107) hx hb dX2_laneOfCell_80 (by decide) (by omega) (by omega) (fun c_2 => ?_) (fun c_2 => ?_)
          · have hke : j = dEnd w.1 0 := by rw [he, dEnd_end (by omega)]
            have hf : 0 = if w.1.getD 0 0 = 45 then 1 else 0 := by rw [if_neg c45]
            refine lv_iload hx hb dX2_laneOfCell_107 (lv_at hl 0 rfl) ?_
            refine lv_iload hx hb dX2_laneOfCell_109 (lv_at hl 1 rfl) ?_
            refine n_isub hx hb (by omega) dX2_laneOfCell_111 ?_
            refine lv_istore (lv' := [(7, .int (nI (j - 0))), (6, .int (nI j)), (5, .int (nI 0)), (4, .int (nI w.1.length)), (3, .int (nI a)), (0, .ref (ad 3)), (1, .ref (q 0)), (2, .int (nI k))]) hx hb dX2_laneOfCell_112 hl (by decide) rfl (fun ls hl => ?_)
            refine lv_iload hx hb dX2_laneOfCell_114 (lv_at hl 0 rfl) ?_
            refine n_if_ne (tgt := 122) hx hb dX2_laneOfCell_116 (by decide) (by omega) (fun c_3 => ?_) (fun c_3 => ?_)
            · refine lv_iload hx hb dX2_laneOfCell_122 (lv_at hl 1 rfl) ?_
              refine lv_iload hx hb dX2_laneOfCell_124 (lv_at hl 3 rfl) ?_
              refine n_icmp_ne (tgt := 151) hx hb dX2_laneOfCell_126 (by decide) (by omega) (by omega) (fun c_4 => ?_) (fun c_4 => ?_)
              · refine lv_aload_n hx hb dX2_laneOfCell_151 rfl (lv_at hl 5 rfl) ?_
                refine ct_get (v := .ref (ad 4)) B hP kX2 3 rfl 1 (Nat.le_of_ble_eq_true rfl) q216 rfl dX2_laneOfCell_152 ?_
                refine ct_getN (v := .ref (ad 5)) B hP kX3 4 rfl 0 (Nat.le_of_ble_eq_true rfl) ct_nw_0 rfl dX2_laneOfCell_155 ?_
                refine lv_iload_n hx hb dX2_laneOfCell_158 rfl (lv_at hl 4 rfl) ?_
                refine lv_iload hx hb dX2_laneOfCell_159 (lv_at hl 1 rfl) ?_
                refine n_iadd hx hb dX2_laneOfCell_161 ?_
                refine ct_bald (f := wb) B hP 5 rfl (by omega) (by omega) dX2_laneOfCell_162 ?_
                refine W.eq (g2 := F0 m 163 ls [.int (nI (w.1.getD j 0))]) (by rw [ht.1 j (by omega)]) ?_
                refine lv_bipush (v := nI 46) hx hb dX2_laneOfCell_163 (by decide) ?_
                refine n_icmp_eq (tgt := 171) hx hb dX2_laneOfCell_165 (by decide) (by have := tAt_rg ht (j := j) (by omega); omega) (by omega) (fun c46 => ?_) (fun c46 => ?_)
                · refine lv_iload hx hb dX2_laneOfCell_171 (lv_at hl 1 rfl) ?_
                  refine lv_istore (lv' := [(8, .int (nI j)), (7, .int (nI (j - 0))), (6, .int (nI j)), (5, .int (nI 0)), (4, .int (nI w.1.length)), (3, .int (nI a)), (0, .ref (ad 3)), (1, .ref (q 0)), (2, .int (nI k))]) hx hb dX2_laneOfCell_173 hl (by decide) rfl (fun ls hl => ?_)
                  refine n_iinc (n := 1) (lv' := [(6, .int (nI (j + 1))), (8, .int (nI j)), (7, .int (nI (j - 0))), (5, .int (nI 0)), (4, .int (nI w.1.length)), (3, .int (nI a)), (0, .ref (ad 3)), (1, .ref (q 0)), (2, .int (nI k))]) hx hb dX2_laneOfCell_175 hl (k := 2) rfl rfl (by decide) (by decide) rfl (fun ls hl => ?_)
                  refine ct_loop (σ := Nat) (fun i ls => lv_has ls 9 [(6, .int (nI i)), (8, .int (nI j)), (7, .int (nI (j - 0))), (5, .int (nI 0)), (4, .int (nI w.1.length)), (3, .int (nI a)), (0, .ref (ad 3)), (1, .ref (q 0)), (2, .int (nI k))] ∧ (j + 1 ≤ i) ∧ (i ≤ w.1.length) ∧ (dEnd w.1 (j + 1) = dEnd w.1 i)) (fun i => w.1.length - i) (g := fun i ls => F0 m 178 ls []) (x0 := (j + 1)) (ls0 := ls) ?_ ⟨lv_sub hl [0, 1, 2, 3, 4, 5, 6, 7, 8] rfl, Nat.le_refl _, by omega, rfl⟩
                  clear hl
                  intro i ls hI ih_5
                  obtain ⟨hl, hi1, hi2, he2⟩ := hI
                  refine W.eq (g2 := F0 m 178 ls []) rfl ?_
                  refine lv_iload hx hb dX2_laneOfCell_178 (lv_at hl 0 rfl) ?_
                  refine lv_iload hx hb dX2_laneOfCell_180 (lv_at hl 4 rfl) ?_
                  refine n_icmp_ge (tgt := 209) hx hb dX2_laneOfCell_182 (by decide) (by omega) (by omega) (fun c_6 => ?_) (fun c_6 => ?_)
                  · have hk2 : i = dEnd w.1 (j + 1) := by rw [he2, dEnd_end (by omega)]
                    refine lv_iload hx hb dX2_laneOfCell_209 (lv_at hl 0 rfl) ?_
                    refine lv_iload hx hb dX2_laneOfCell_211 (lv_at hl 4 rfl) ?_
                    refine n_icmp_ne (tgt := 242) hx hb dX2_laneOfCell_213 (by decide) (by omega) (by omega) (fun c_7 => ?_) (fun c_7 => ?_)
                    · refine lv_bipush (v := nI 8) hx hb dX2_laneOfCell_242 (by decide) ?_
                      exact ct_iretR (ty := .int) (v := (nI 8)) B rfl rfl (by rw [laneC_of hq ct cf hf hke, if_neg (by omega), if_neg (by omega), if_neg (fun q => q c46), if_neg (by rw [← hk2]; omega)]) dX2_laneOfCell_244
                    · refine lv_iload hx hb dX2_laneOfCell_216 (lv_at hl 0 rfl) ?_
                      refine lv_iload hx hb dX2_laneOfCell_218 (lv_at hl 1 rfl) ?_
                      refine lv_iconst (v := nI 1) hx hb dX2_laneOfCell_220 (by decide) ?_
                      refine n_iadd hx hb dX2_laneOfCell_221 ?_
                      refine n_icmp_le (tgt := 242) hx hb dX2_laneOfCell_222 (by decide) (by omega) (by omega) (fun c_8 => ?_) (fun c_8 => ?_)
                      · refine lv_bipush (v := nI 8) hx hb dX2_laneOfCell_242 (by decide) ?_
                        exact ct_iretR (ty := .int) (v := (nI 8)) B rfl rfl (by rw [laneC_of hq ct cf hf hke, if_neg (by omega), if_neg (by omega), if_neg (fun q => q c46), if_neg (by rw [← hk2]; omega)]) dX2_laneOfCell_244
                      · refine lv_iload hx hb dX2_laneOfCell_225 (lv_at hl 4 rfl) ?_
                        refine lv_iload hx hb dX2_laneOfCell_227 (lv_at hl 3 rfl) ?_
                        refine n_isub hx hb (by omega) dX2_laneOfCell_229 ?_
                        refine lv_iconst (v := nI 1) hx hb dX2_laneOfCell_230 (by decide) ?_
                        refine n_isub hx hb (by omega) dX2_laneOfCell_231 ?_
                        refine lv_bipush (v := nI 15) hx hb dX2_laneOfCell_232 (by decide) ?_
                        refine n_icmp_gt (tgt := 242) hx hb dX2_laneOfCell_234 (by decide) (by omega) (by omega) (fun c_9 => ?_) (fun c_9 => ?_)
                        · refine lv_bipush (v := nI 8) hx hb dX2_laneOfCell_242 (by decide) ?_
                          exact ct_iretR (ty := .int) (v := (nI 8)) B rfl rfl (by rw [laneC_of hq ct cf hf hke, if_neg (by omega), if_neg (by omega), if_neg (fun q => q c46), if_neg (by rw [← hk2]; omega)]) dX2_laneOfCell_244
                        · refine lv_bipush (v := nI 7) hx hb dX2_laneOfCell_237 (by decide) ?_
                          refine lv_goto (tgt := 244) hx hb dX2_laneOfCell_239 (by decide) ?_
                          exact ct_iretR (ty := .int) (v := (nI 7)) B rfl rfl (by rw [laneC_of hq ct cf hf hke, if_neg (by omega), if_neg (by omega), if_neg (fun q => q c46), if_pos (by rw [← hk2]; omega)]) dX2_laneOfCell_244
                  · refine lv_aload_n hx hb dX2_laneOfCell_185 rfl (lv_at hl 6 rfl) ?_
                    refine ct_get (v := .ref (ad 4)) B hP kX2 3 rfl 1 (Nat.le_of_ble_eq_true rfl) q216 rfl dX2_laneOfCell_186 ?_
                    refine ct_getN (v := .ref (ad 5)) B hP kX3 4 rfl 0 (Nat.le_of_ble_eq_true rfl) ct_nw_0 rfl dX2_laneOfCell_189 ?_
                    refine lv_iload_n hx hb dX2_laneOfCell_192 rfl (lv_at hl 5 rfl) ?_
                    refine lv_iload hx hb dX2_laneOfCell_193 (lv_at hl 0 rfl) ?_
                    refine n_iadd hx hb dX2_laneOfCell_195 ?_
                    refine ct_bald (f := wb) B hP 5 rfl (by omega) (by omega) dX2_laneOfCell_196 ?_
                    refine W.eq (g2 := F0 m 197 ls [.int (nI (w.1.getD i 0))]) (by rw [ht.1 i (by omega)]) ?_
                    refine ct_callR (ct_runS (As := [.int (nI (w.1.getD i 0))]) (rest := []) B (met_X2_isDigit l E  (w.1.getD i 0) s.heap.size (by have := tAt_rg ht (j := i) (by omega); omega)) (lw_S q514 q515 q50 q516) (n := 1) ⟨by decide, by decide, by decide +kernel⟩ rfl ⟨rfl, rfl, (Nat.le_of_ble_eq_true rfl), (Nat.le_of_ble_eq_true rfl), (Nat.le_of_ble_eq_true rfl), (Nat.le_of_ble_eq_true rfl)⟩ (va_S.rf (A := fun _ => False)) (fun _ h => h.elim) trivial hl.1 (Nat.le_of_ble_eq_true rfl) dX2_laneOfCell_197) (fun v hv => ?_)
                    subst hv
                    refine W.eq (g2 := F0 m 200 ls [.int (if 48 ≤ (w.1.getD i 0) ∧ (w.1.getD i 0) ≤ 57 then 1 else 0)]) rfl ?_
                    refine b_if_eq (tgt := 209) hx hb dX2_laneOfCell_200 (by decide) (fun cd2 => ?_) (fun cd2 => ?_)
                    · have hk2 : i = dEnd w.1 (j + 1) := by rw [he2, dEnd_stop (by omega) cd2]
                      refine lv_iload hx hb dX2_laneOfCell_209 (lv_at hl 0 rfl) ?_
                      refine lv_iload hx hb dX2_laneOfCell_211 (lv_at hl 4 rfl) ?_
                      refine n_icmp_ne (tgt := 242) hx hb dX2_laneOfCell_213 (by decide) (by omega) (by omega) (fun c_10 => ?_) (fun c_10 => ?_)
                      · refine lv_bipush (v := nI 8) hx hb dX2_laneOfCell_242 (by decide) ?_
                        exact ct_iretR (ty := .int) (v := (nI 8)) B rfl rfl (by rw [laneC_of hq ct cf hf hke, if_neg (by omega), if_neg (by omega), if_neg (fun q => q c46), if_neg (by rw [← hk2]; omega)]) dX2_laneOfCell_244
                      · refine lv_iload hx hb dX2_laneOfCell_216 (lv_at hl 0 rfl) ?_
                        refine lv_iload hx hb dX2_laneOfCell_218 (lv_at hl 1 rfl) ?_
                        refine lv_iconst (v := nI 1) hx hb dX2_laneOfCell_220 (by decide) ?_
                        refine n_iadd hx hb dX2_laneOfCell_221 ?_
                        refine n_icmp_le (tgt := 242) hx hb dX2_laneOfCell_222 (by decide) (by omega) (by omega) (fun c_11 => ?_) (fun c_11 => ?_)
                        · refine lv_bipush (v := nI 8) hx hb dX2_laneOfCell_242 (by decide) ?_
                          exact ct_iretR (ty := .int) (v := (nI 8)) B rfl rfl (by rw [laneC_of hq ct cf hf hke, if_neg (by omega), if_neg (by omega), if_neg (fun q => q c46), if_neg (by rw [← hk2]; omega)]) dX2_laneOfCell_244
                        · refine lv_iload hx hb dX2_laneOfCell_225 (lv_at hl 4 rfl) ?_
                          refine lv_iload hx hb dX2_laneOfCell_227 (lv_at hl 3 rfl) ?_
                          refine n_isub hx hb (by omega) dX2_laneOfCell_229 ?_
                          refine lv_iconst (v := nI 1) hx hb dX2_laneOfCell_230 (by decide) ?_
                          refine n_isub hx hb (by omega) dX2_laneOfCell_231 ?_
                          refine lv_bipush (v := nI 15) hx hb dX2_laneOfCell_232 (by decide) ?_
                          refine n_icmp_gt (tgt := 242) hx hb dX2_laneOfCell_234 (by decide) (by omega) (by omega) (fun c_12 => ?_) (fun c_12 => ?_)
                          · refine lv_bipush (v := nI 8) hx hb dX2_laneOfCell_242 (by decide) ?_
                            exact ct_iretR (ty := .int) (v := (nI 8)) B rfl rfl (by rw [laneC_of hq ct cf hf hke, if_neg (by omega), if_neg (by omega), if_neg (fun q => q c46), if_neg (by rw [← hk2]; omega)]) dX2_laneOfCell_244
                          · refine lv_bipush (v := nI 7) hx hb dX2_laneOfCell_237 (by decide) ?_
                            refine lv_goto (tgt := 244) hx hb dX2_laneOfCell_239 (by decide) ?_
                            exact ct_iretR (ty := .int) (v := (nI 7)) B rfl rfl (by rw [laneC_of hq ct cf hf hke, if_neg (by omega), if_neg (by omega), if_neg (fun q => q c46), if_pos (by rw [← hk2]; omega)]) dX2_laneOfCell_244
                    · refine n_iinc (n := 1) (lv' := [(6, .int (nI (i + 1))), (8, .int (nI j)), (7, .int (nI (j - 0))), (5, .int (nI 0)), (4, .int (nI w.1.length)), (3, .int (nI a)), (0, .ref (ad 3)), (1, .ref (q 0)), (2, .int (nI k))]) hx hb dX2_laneOfCell_203 hl (k := 0) rfl rfl (by decide) (by decide) rfl (fun ls hl => ?_)
                      refine lv_goto (tgt := 178) hx hb dX2_laneOfCell_206 (by decide) ?_
                      exact ih_5 (i + 1) ls (by omega) ⟨lv_sub hl [0, 1, 2, 3, 4, 5, 6, 7, 8] rfl, by omega, by omega, he2.trans (dEnd_S (by omega) cd2)⟩
                · refine lv_bipush (v := nI 8) hx hb dX2_laneOfCell_168 (by decide) ?_
                  exact ct_iretR (ty := .int) (v := (nI 8)) B rfl rfl (by rw [laneC_of hq ct cf hf hke, if_neg (by omega), if_neg (by omega), if_pos c46]) dX2_laneOfCell_170
              · refine lv_aload_n hx hb dX2_laneOfCell_129 rfl (lv_at hl 5 rfl) ?_
                refine lv_iload_n hx hb dX2_laneOfCell_130 rfl (lv_at hl 4 rfl) ?_
                refine lv_iload hx hb dX2_laneOfCell_131 (lv_at hl 2 rfl) ?_
                refine n_iadd hx hb dX2_laneOfCell_133 ?_
                refine lv_iload hx hb dX2_laneOfCell_134 (lv_at hl 0 rfl) ?_
                refine W.eq (g2 := F0 m 136 ls [.int (nI ((w.1.drop 0).length)), .int (nI a), .ref (ad 3)]) (by rw [show j - 0 = (w.1.drop 0).length by rw [List.length_drop]; omega] <;> rfl) ?_
                refine lv_iload hx hb dX2_laneOfCell_136 (lv_at hl 2 rfl) ?_
                refine lv_iconst (v := nI 1) hx hb dX2_laneOfCell_138 (by decide) ?_
                refine n_icmp_ne (tgt := 146) hx hb dX2_laneOfCell_139 (by decide) (by omega) (by omega) (fun c_13 => ?_) (fun c_13 => absurd c_13 (by omega))
                refine lv_iconst (v := nI 0) hx hb dX2_laneOfCell_146 (by decide) ?_
                refine ct_callR (ct_runV (As := [.int (nI a), .int (nI ((w.1.drop 0).length)), .int (nI 0)]) (rest := []) B (met_X2_wholeLane_false l E ad F O S made all wn wb P R a (w.1.drop 0) s.heap.size (tAt_drop ht (by omega)) (dEnd_all (by omega) (by omega))) (lw_V q517 q519 qs18 q50 q520) (n := 3) ⟨by decide, by decide, by decide +kernel⟩ rfl ⟨rfl, rfl, (Nat.le_of_ble_eq_true rfl), (Nat.le_of_ble_eq_true rfl), (Nat.le_of_ble_eq_true rfl), (Nat.le_of_ble_eq_true rfl)⟩ (va_S.rf (A := fun _ => False)) (fun _ h => h.elim) (ct_recv B hP kX2 3 rfl) hP hl.1 (Nat.le_of_ble_eq_true rfl) dX2_laneOfCell_147) (fun v hv => ?_)
                subst hv
                refine W.eq (g2 := F0 m 150 ls [.int (nI (wl false (w.1.drop 0)))]) rfl ?_
                exact ct_iretR (ty := .int) (v := (nI (wl false (w.1.drop 0)))) B rfl rfl (by rw [laneC_of hq ct cf hf hke, if_neg (by omega), if_pos (by omega)]; rfl) dX2_laneOfCell_150
            · refine lv_bipush (v := nI 8) hx hb dX2_laneOfCell_119 (by decide) ?_
              exact ct_iretR (ty := .int) (v := (nI 8)) B rfl rfl (by rw [laneC_of hq ct cf hf hke, if_pos (by omega)]) dX2_laneOfCell_121
          · refine lv_aload_n hx hb dX2_laneOfCell_83 rfl (lv_at hl 4 rfl) ?_
            refine ct_get (v := .ref (ad 4)) B hP kX2 3 rfl 1 (Nat.le_of_ble_eq_true rfl) q216 rfl dX2_laneOfCell_84 ?_
            refine ct_getN (v := .ref (ad 5)) B hP kX3 4 rfl 0 (Nat.le_of_ble_eq_true rfl) ct_nw_0 rfl dX2_laneOfCell_87 ?_
            refine lv_iload_n hx hb dX2_laneOfCell_90 rfl (lv_at hl 3 rfl) ?_
            refine lv_iload hx hb dX2_laneOfCell_91 (lv_at hl 0 rfl) ?_
            refine n_iadd hx hb dX2_laneOfCell_93 ?_
            refine ct_bald (f := wb) B hP 5 rfl (by omega) (by omega) dX2_laneOfCell_94 ?_
            refine W.eq (g2 := F0 m 95 ls [.int (nI (w.1.getD j 0))]) (by rw [ht.1 j (by omega)]) ?_
            refine ct_callR (ct_runS (As := [.int (nI (w.1.getD j 0))]) (rest := []) B (met_X2_isDigit l E  (w.1.getD j 0) s.heap.size (by have := tAt_rg ht (j := j) (by omega); omega)) (lw_S q514 q515 q50 q516) (n := 1) ⟨by decide, by decide, by decide +kernel⟩ rfl ⟨rfl, rfl, (Nat.le_of_ble_eq_true rfl), (Nat.le_of_ble_eq_true rfl), (Nat.le_of_ble_eq_true rfl), (Nat.le_of_ble_eq_true rfl)⟩ (va_S.rf (A := fun _ => False)) (fun _ h => h.elim) trivial hl.1 (Nat.le_of_ble_eq_true rfl) dX2_laneOfCell_95) (fun v hv => ?_)
            subst hv
            refine W.eq (g2 := F0 m 98 ls [.int (if 48 ≤ (w.1.getD j 0) ∧ (w.1.getD j 0) ≤ 57 then 1 else 0)]) rfl ?_
            refine b_if_eq (tgt := 107) hx hb dX2_laneOfCell_98 (by decide) (fun cd => ?_) (fun cd => ?_)
            · have hke : j = dEnd w.1 0 := by rw [he, dEnd_stop (by omega) cd]
              have hf : 0 = if w.1.getD 0 0 = 45 then 1 else 0 := by rw [if_neg c45]
              refine lv_iload hx hb dX2_laneOfCell_107 (lv_at hl 0 rfl) ?_
              refine lv_iload hx hb dX2_laneOfCell_109 (lv_at hl 1 rfl) ?_
              refine n_isub hx hb (by omega) dX2_laneOfCell_111 ?_
              refine lv_istore (lv' := [(7, .int (nI (j - 0))), (6, .int (nI j)), (5, .int (nI 0)), (4, .int (nI w.1.length)), (3, .int (nI a)), (0, .ref (ad 3)), (1, .ref (q 0)), (2, .int (nI k))]) hx hb dX2_laneOfCell_112 hl (by decide) rfl (fun ls hl => ?_)
              refine lv_iload hx hb dX2_laneOfCell_114 (lv_at hl 0 rfl) ?_
              refine n_if_ne (tgt := 122) hx hb dX2_laneOfCell_116 (by decide) (by omega) (fun c_14 => ?_) (fun c_14 => ?_)
              · refine lv_iload hx hb dX2_laneOfCell_122 (lv_at hl 1 rfl) ?_
                refine lv_iload hx hb dX2_laneOfCell_124 (lv_at hl 3 rfl) ?_
                refine n_icmp_ne (tgt := 151) hx hb dX2_laneOfCell_126 (by decide) (by omega) (by omega) (fun c_15 => ?_) (fun c_15 => ?_)
                · refine lv_aload_n hx hb dX2_laneOfCell_151 rfl (lv_at hl 5 rfl) ?_
                  refine ct_get (v := .ref (ad 4)) B hP kX2 3 rfl 1 (Nat.le_of_ble_eq_true rfl) q216 rfl dX2_laneOfCell_152 ?_
                  refine ct_getN (v := .ref (ad 5)) B hP kX3 4 rfl 0 (Nat.le_of_ble_eq_true rfl) ct_nw_0 rfl dX2_laneOfCell_155 ?_
                  refine lv_iload_n hx hb dX2_laneOfCell_158 rfl (lv_at hl 4 rfl) ?_
                  refine lv_iload hx hb dX2_laneOfCell_159 (lv_at hl 1 rfl) ?_
                  refine n_iadd hx hb dX2_laneOfCell_161 ?_
                  refine ct_bald (f := wb) B hP 5 rfl (by omega) (by omega) dX2_laneOfCell_162 ?_
                  refine W.eq (g2 := F0 m 163 ls [.int (nI (w.1.getD j 0))]) (by rw [ht.1 j (by omega)]) ?_
                  refine lv_bipush (v := nI 46) hx hb dX2_laneOfCell_163 (by decide) ?_
                  refine n_icmp_eq (tgt := 171) hx hb dX2_laneOfCell_165 (by decide) (by have := tAt_rg ht (j := j) (by omega); omega) (by omega) (fun c46 => ?_) (fun c46 => ?_)
                  · refine lv_iload hx hb dX2_laneOfCell_171 (lv_at hl 1 rfl) ?_
                    refine lv_istore (lv' := [(8, .int (nI j)), (7, .int (nI (j - 0))), (6, .int (nI j)), (5, .int (nI 0)), (4, .int (nI w.1.length)), (3, .int (nI a)), (0, .ref (ad 3)), (1, .ref (q 0)), (2, .int (nI k))]) hx hb dX2_laneOfCell_173 hl (by decide) rfl (fun ls hl => ?_)
                    refine n_iinc (n := 1) (lv' := [(6, .int (nI (j + 1))), (8, .int (nI j)), (7, .int (nI (j - 0))), (5, .int (nI 0)), (4, .int (nI w.1.length)), (3, .int (nI a)), (0, .ref (ad 3)), (1, .ref (q 0)), (2, .int (nI k))]) hx hb dX2_laneOfCell_175 hl (k := 2) rfl rfl (by decide) (by decide) rfl (fun ls hl => ?_)
                    refine ct_loop (σ := Nat) (fun i ls => lv_has ls 9 [(6, .int (nI i)), (8, .int (nI j)), (7, .int (nI (j - 0))), (5, .int (nI 0)), (4, .int (nI w.1.length)), (3, .int (nI a)), (0, .ref (ad 3)), (1, .ref (q 0)), (2, .int (nI k))] ∧ (j + 1 ≤ i) ∧ (i ≤ w.1.length) ∧ (dEnd w.1 (j + 1) = dEnd w.1 i)) (fun i => w.1.length - i) (g := fun i ls => F0 m 178 ls []) (x0 := (j + 1)) (ls0 := ls) ?_ ⟨lv_sub hl [0, 1, 2, 3, 4, 5, 6, 7, 8] rfl, Nat.le_refl _, by omega, rfl⟩
                    clear hl
                    intro i ls hI ih_16
                    obtain ⟨hl, hi1, hi2, he2⟩ := hI
                    refine W.eq (g2 := F0 m 178 ls []) rfl ?_
                    refine lv_iload hx hb dX2_laneOfCell_178 (lv_at hl 0 rfl) ?_
                    refine lv_iload hx hb dX2_laneOfCell_180 (lv_at hl 4 rfl) ?_
                    refine n_icmp_ge (tgt := 209) hx hb dX2_laneOfCell_182 (by decide) (by omega) (by omega) (fun c_17 => ?_) (fun c_17 => ?_)
                    · have hk2 : i = dEnd w.1 (j + 1) := by rw [he2, dEnd_end (by omega)]
                      refine lv_iload hx hb dX2_laneOfCell_209 (lv_at hl 0 rfl) ?_
                      refine lv_iload hx hb dX2_laneOfCell_211 (lv_at hl 4 rfl) ?_
                      refine n_icmp_ne (tgt := 242) hx hb dX2_laneOfCell_213 (by decide) (by omega) (by omega) (fun c_18 => ?_) (fun c_18 => ?_)
                      · refine lv_bipush (v := nI 8) hx hb dX2_laneOfCell_242 (by decide) ?_
                        exact ct_iretR (ty := .int) (v := (nI 8)) B rfl rfl (by rw [laneC_of hq ct cf hf hke, if_neg (by omega), if_neg (by omega), if_neg (fun q => q c46), if_neg (by rw [← hk2]; omega)]) dX2_laneOfCell_244
                      · refine lv_iload hx hb dX2_laneOfCell_216 (lv_at hl 0 rfl) ?_
                        refine lv_iload hx hb dX2_laneOfCell_218 (lv_at hl 1 rfl) ?_
                        refine lv_iconst (v := nI 1) hx hb dX2_laneOfCell_220 (by decide) ?_
                        refine n_iadd hx hb dX2_laneOfCell_221 ?_
                        refine n_icmp_le (tgt := 242) hx hb dX2_laneOfCell_222 (by decide) (by omega) (by omega) (fun c_19 => ?_) (fun c_19 => ?_)
                        · refine lv_bipush (v := nI 8) hx hb dX2_laneOfCell_242 (by decide) ?_
                          exact ct_iretR (ty := .int) (v := (nI 8)) B rfl rfl (by rw [laneC_of hq ct cf hf hke, if_neg (by omega), if_neg (by omega), if_neg (fun q => q c46), if_neg (by rw [← hk2]; omega)]) dX2_laneOfCell_244
                        · refine lv_iload hx hb dX2_laneOfCell_225 (lv_at hl 4 rfl) ?_
                          refine lv_iload hx hb dX2_laneOfCell_227 (lv_at hl 3 rfl) ?_
                          refine n_isub hx hb (by omega) dX2_laneOfCell_229 ?_
                          refine lv_iconst (v := nI 1) hx hb dX2_laneOfCell_230 (by decide) ?_
                          refine n_isub hx hb (by omega) dX2_laneOfCell_231 ?_
                          refine lv_bipush (v := nI 15) hx hb dX2_laneOfCell_232 (by decide) ?_
                          refine n_icmp_gt (tgt := 242) hx hb dX2_laneOfCell_234 (by decide) (by omega) (by omega) (fun c_20 => ?_) (fun c_20 => ?_)
                          · refine lv_bipush (v := nI 8) hx hb dX2_laneOfCell_242 (by decide) ?_
                            exact ct_iretR (ty := .int) (v := (nI 8)) B rfl rfl (by rw [laneC_of hq ct cf hf hke, if_neg (by omega), if_neg (by omega), if_neg (fun q => q c46), if_neg (by rw [← hk2]; omega)]) dX2_laneOfCell_244
                          · refine lv_bipush (v := nI 7) hx hb dX2_laneOfCell_237 (by decide) ?_
                            refine lv_goto (tgt := 244) hx hb dX2_laneOfCell_239 (by decide) ?_
                            exact ct_iretR (ty := .int) (v := (nI 7)) B rfl rfl (by rw [laneC_of hq ct cf hf hke, if_neg (by omega), if_neg (by omega), if_neg (fun q => q c46), if_pos (by rw [← hk2]; omega)]) dX2_laneOfCell_244
                    · refine lv_aload_n hx hb dX2_laneOfCell_185 rfl (lv_at hl 6 rfl) ?_
                      refine ct_get (v := .ref (ad 4)) B hP kX2 3 rfl 1 (Nat.le_of_ble_eq_true rfl) q216 rfl dX2_laneOfCell_186 ?_
                      refine ct_getN (v := .ref (ad 5)) B hP kX3 4 rfl 0 (Nat.le_of_ble_eq_true rfl) ct_nw_0 rfl dX2_laneOfCell_189 ?_
                      refine lv_iload_n hx hb dX2_laneOfCell_192 rfl (lv_at hl 5 rfl) ?_
                      refine lv_iload hx hb dX2_laneOfCell_193 (lv_at hl 0 rfl) ?_
                      refine n_iadd hx hb dX2_laneOfCell_195 ?_
                      refine ct_bald (f := wb) B hP 5 rfl (by omega) (by omega) dX2_laneOfCell_196 ?_
                      refine W.eq (g2 := F0 m 197 ls [.int (nI (w.1.getD i 0))]) (by rw [ht.1 i (by omega)]) ?_
                      refine ct_callR (ct_runS (As := [.int (nI (w.1.getD i 0))]) (rest := []) B (met_X2_isDigit l E  (w.1.getD i 0) s.heap.size (by have := tAt_rg ht (j := i) (by omega); omega)) (lw_S q514 q515 q50 q516) (n := 1) ⟨by decide, by decide, by decide +kernel⟩ rfl ⟨rfl, rfl, (Nat.le_of_ble_eq_true rfl), (Nat.le_of_ble_eq_true rfl), (Nat.le_of_ble_eq_true rfl), (Nat.le_of_ble_eq_true rfl)⟩ (va_S.rf (A := fun _ => False)) (fun _ h => h.elim) trivial hl.1 (Nat.le_of_ble_eq_true rfl) dX2_laneOfCell_197) (fun v hv => ?_)
                      subst hv
                      refine W.eq (g2 := F0 m 200 ls [.int (if 48 ≤ (w.1.getD i 0) ∧ (w.1.getD i 0) ≤ 57 then 1 else 0)]) rfl ?_
                      refine b_if_eq (tgt := 209) hx hb dX2_laneOfCell_200 (by decide) (fun cd2 => ?_) (fun cd2 => ?_)
                      · have hk2 : i = dEnd w.1 (j + 1) := by rw [he2, dEnd_stop (by omega) cd2]
                        refine lv_iload hx hb dX2_laneOfCell_209 (lv_at hl 0 rfl) ?_
                        refine lv_iload hx hb dX2_laneOfCell_211 (lv_at hl 4 rfl) ?_
                        refine n_icmp_ne (tgt := 242) hx hb dX2_laneOfCell_213 (by decide) (by omega) (by omega) (fun c_21 => ?_) (fun c_21 => ?_)
                        · refine lv_bipush (v := nI 8) hx hb dX2_laneOfCell_242 (by decide) ?_
                          exact ct_iretR (ty := .int) (v := (nI 8)) B rfl rfl (by rw [laneC_of hq ct cf hf hke, if_neg (by omega), if_neg (by omega), if_neg (fun q => q c46), if_neg (by rw [← hk2]; omega)]) dX2_laneOfCell_244
                        · refine lv_iload hx hb dX2_laneOfCell_216 (lv_at hl 0 rfl) ?_
                          refine lv_iload hx hb dX2_laneOfCell_218 (lv_at hl 1 rfl) ?_
                          refine lv_iconst (v := nI 1) hx hb dX2_laneOfCell_220 (by decide) ?_
                          refine n_iadd hx hb dX2_laneOfCell_221 ?_
                          refine n_icmp_le (tgt := 242) hx hb dX2_laneOfCell_222 (by decide) (by omega) (by omega) (fun c_22 => ?_) (fun c_22 => ?_)
                          · refine lv_bipush (v := nI 8) hx hb dX2_laneOfCell_242 (by decide) ?_
                            exact ct_iretR (ty := .int) (v := (nI 8)) B rfl rfl (by rw [laneC_of hq ct cf hf hke, if_neg (by omega), if_neg (by omega), if_neg (fun q => q c46), if_neg (by rw [← hk2]; omega)]) dX2_laneOfCell_244
                          · refine lv_iload hx hb dX2_laneOfCell_225 (lv_at hl 4 rfl) ?_
                            refine lv_iload hx hb dX2_laneOfCell_227 (lv_at hl 3 rfl) ?_
                            refine n_isub hx hb (by omega) dX2_laneOfCell_229 ?_
                            refine lv_iconst (v := nI 1) hx hb dX2_laneOfCell_230 (by decide) ?_
                            refine n_isub hx hb (by omega) dX2_laneOfCell_231 ?_
                            refine lv_bipush (v := nI 15) hx hb dX2_laneOfCell_232 (by decide) ?_
                            refine n_icmp_gt (tgt := 242) hx hb dX2_laneOfCell_234 (by decide) (by omega) (by omega) (fun c_23 => ?_) (fun c_23 => ?_)
                            · refine lv_bipush (v := nI 8) hx hb dX2_laneOfCell_242 (by decide) ?_
                              exact ct_iretR (ty := .int) (v := (nI 8)) B rfl rfl (by rw [laneC_of hq ct cf hf hke, if_neg (by omega), if_neg (by omega), if_neg (fun q => q c46), if_neg (by rw [← hk2]; omega)]) dX2_laneOfCell_244
                            · refine lv_bipush (v := nI 7) hx hb dX2_laneOfCell_237 (by decide) ?_
                              refine lv_goto (tgt := 244) hx hb dX2_laneOfCell_239 (by decide) ?_
                              exact ct_iretR (ty := .int) (v := (nI 7)) B rfl rfl (by rw [laneC_of hq ct cf hf hke, if_neg (by omega), if_neg (by omega), if_neg (fun q => q c46), if_pos (by rw [← hk2]; omega)]) dX2_laneOfCell_244
                      · refine n_iinc (n := 1) (lv' := [(6, .int (nI (i + 1))), (8, .int (nI j)), (7, .int (nI (j - 0))), (5, .int (nI 0)), (4, .int (nI w.1.length)), (3, .int (nI a)), (0, .ref (ad 3)), (1, .ref (q 0)), (2, .int (nI k))]) hx hb dX2_laneOfCell_203 hl (k := 0) rfl rfl (by decide) (by decide) rfl (fun ls hl => ?_)
                        refine lv_goto (tgt := 178) hx hb dX2_laneOfCell_206 (by decide) ?_
                        exact ih_16 (i + 1) ls (by omega) ⟨lv_sub hl [0, 1, 2, 3, 4, 5, 6, 7, 8] rfl, by omega, by omega, he2.trans (dEnd_S (by omega) cd2)⟩
                  · refine lv_bipush (v := nI 8) hx hb dX2_laneOfCell_168 (by decide) ?_
                    exact ct_iretR (ty := .int) (v := (nI 8)) B rfl rfl (by rw [laneC_of hq ct cf hf hke, if_neg (by omega), if_neg (by omega), if_pos c46]) dX2_laneOfCell_170
                · refine lv_aload_n hx hb dX2_laneOfCell_129 rfl (lv_at hl 5 rfl) ?_
                  refine lv_iload_n hx hb dX2_laneOfCell_130 rfl (lv_at hl 4 rfl) ?_
                  refine lv_iload hx hb dX2_laneOfCell_131 (lv_at hl 2 rfl) ?_
                  refine n_iadd hx hb dX2_laneOfCell_133 ?_
                  refine lv_iload hx hb dX2_laneOfCell_134 (lv_at hl 0 rfl) ?_
                  refine W.eq (g2 := F0 m 136 ls [.int (nI ((w.1.drop 0).length)), .int (nI a), .ref (ad 3)]) (by rw [show j - 0 = (w.1.drop 0).length by rw [List.length_drop]; omega] <;> rfl) ?_
                  refine lv_iload hx hb dX2_laneOfCell_136 (lv_at hl 2 rfl) ?_
                  refine lv_iconst (v := nI 1) hx hb dX2_laneOfCell_138 (by decide) ?_
                  refine n_icmp_ne (tgt := 146) hx hb dX2_laneOfCell_139 (by decide) (by omega) (by omega) (fun c_24 => ?_) (fun c_24 => absurd c_24 (by omega))
                  refine lv_iconst (v := nI 0) hx hb dX2_laneOfCell_146 (by decide) ?_
                  refine ct_callR (ct_runV (As := [.int (nI a), .int (nI ((w.1.drop 0).length)), .int (nI 0)]) (rest := []) B (met_X2_wholeLane_false l E ad F O S made all wn wb P R a (w.1.drop 0) s.heap.size (tAt_drop ht (by omega)) (dEnd_all (by omega) (by omega))) (lw_V q517 q519 qs18 q50 q520) (n := 3) ⟨by decide, by decide, by decide +kernel⟩ rfl ⟨rfl, rfl, (Nat.le_of_ble_eq_true rfl), (Nat.le_of_ble_eq_true rfl), (Nat.le_of_ble_eq_true rfl), (Nat.le_of_ble_eq_true rfl)⟩ (va_S.rf (A := fun _ => False)) (fun _ h => h.elim) (ct_recv B hP kX2 3 rfl) hP hl.1 (Nat.le_of_ble_eq_true rfl) dX2_laneOfCell_147) (fun v hv => ?_)
                  subst hv
                  refine W.eq (g2 := F0 m 150 ls [.int (nI (wl false (w.1.drop 0)))]) rfl ?_
                  exact ct_iretR (ty := .int) (v := (nI (wl false (w.1.drop 0)))) B rfl rfl (by rw [laneC_of hq ct cf hf hke, if_neg (by omega), if_pos (by omega)]; rfl) dX2_laneOfCell_150
              · refine lv_bipush (v := nI 8) hx hb dX2_laneOfCell_119 (by decide) ?_
                exact ct_iretR (ty := .int) (v := (nI 8)) B rfl rfl (by rw [laneC_of hq ct cf hf hke, if_pos (by omega)]) dX2_laneOfCell_121
            · refine n_iinc (n := 1) (lv' := [(6, .int (nI (j + 1))), (5, .int (nI 0)), (4, .int (nI w.1.length)), (3, .int (nI a)), (0, .ref (ad 3)), (1, .ref (q 0)), (2, .int (nI k))]) hx hb dX2_laneOfCell_101 hl (k := 0) rfl rfl (by decide) (by decide) rfl (fun ls hl => ?_)
              refine lv_goto (tgt := 76) hx hb dX2_laneOfCell_104 (by decide) ?_
              exact ih_1 (j + 1) ls (by omega) ⟨lv_sub hl [0, 1, 2, 3, 4, 5, 6] rfl, by omega, by omega, he.trans (dEnd_S (by omega) cd)⟩
        · refine lv_iconst (v := nI 1) hx hb dX2_laneOfCell_65 (by decide) ?_
          refine lv_goto (tgt := 70) hx hb dX2_laneOfCell_66 (by decide) ?_
          refine lv_istore (lv' := [(5, .int (nI 1)), (4, .int (nI w.1.length)), (3, .int (nI a)), (0, .ref (ad 3)), (1, .ref (q 0)), (2, .int (nI k))]) hx hb dX2_laneOfCell_70 hl (by decide) rfl (fun ls hl => ?_)
          refine lv_iload hx hb dX2_laneOfCell_72 (lv_at hl 0 rfl) ?_
          refine lv_istore (lv' := [(6, .int (nI 1)), (5, .int (nI 1)), (4, .int (nI w.1.length)), (3, .int (nI a)), (0, .ref (ad 3)), (1, .ref (q 0)), (2, .int (nI k))]) hx hb dX2_laneOfCell_74 hl (by decide) rfl (fun ls hl => ?_)
          refine ct_loop (σ := Nat) (fun j ls => lv_has ls 9 [(6, .int (nI j)), (5, .int (nI 1)), (4, .int (nI w.1.length)), (3, .int (nI a)), (0, .ref (ad 3)), (1, .ref (q 0)), (2, .int (nI k))] ∧ (1 ≤ j) ∧ (j ≤ w.1.length) ∧ (dEnd w.1 1 = dEnd w.1 j)) (fun j => w.1.length - j) (g := fun j ls => F0 m 76 ls []) (x0 := 1) (ls0 := ls) ?_ ⟨lv_sub hl [0, 1, 2, 3, 4, 5, 6] rfl, Nat.le_refl _, by omega, rfl⟩
          clear hl
          intro j ls hI ih_25
          obtain ⟨hl, hj1, hj2, he⟩ := hI
          refine W.eq (g2 := F0 m 76 ls []) rfl ?_
          refine lv_iload hx hb dX2_laneOfCell_76 (lv_at hl 0 rfl) ?_
          refine lv_iload hx hb dX2_laneOfCell_78 (lv_at hl 2 rfl) ?_
          refine n_icmp_ge (tgt := 107) hx hb dX2_laneOfCell_80 (by decide) (by omega) (by omega) (fun c_26 => ?_) (fun c_26 => ?_)
          · have hke : j = dEnd w.1 1 := by rw [he, dEnd_end (by omega)]
            have hf : 1 = if w.1.getD 0 0 = 45 then 1 else 0 := by rw [if_pos c45]
            refine lv_iload hx hb dX2_laneOfCell_107 (lv_at hl 0 rfl) ?_
            refine lv_iload hx hb dX2_laneOfCell_109 (lv_at hl 1 rfl) ?_
            refine n_isub hx hb (by omega) dX2_laneOfCell_111 ?_
            refine lv_istore (lv' := [(7, .int (nI (j - 1))), (6, .int (nI j)), (5, .int (nI 1)), (4, .int (nI w.1.length)), (3, .int (nI a)), (0, .ref (ad 3)), (1, .ref (q 0)), (2, .int (nI k))]) hx hb dX2_laneOfCell_112 hl (by decide) rfl (fun ls hl => ?_)
            refine lv_iload hx hb dX2_laneOfCell_114 (lv_at hl 0 rfl) ?_
            refine n_if_ne (tgt := 122) hx hb dX2_laneOfCell_116 (by decide) (by omega) (fun c_27 => ?_) (fun c_27 => ?_)
            · refine lv_iload hx hb dX2_laneOfCell_122 (lv_at hl 1 rfl) ?_
              refine lv_iload hx hb dX2_laneOfCell_124 (lv_at hl 3 rfl) ?_
              refine n_icmp_ne (tgt := 151) hx hb dX2_laneOfCell_126 (by decide) (by omega) (by omega) (fun c_28 => ?_) (fun c_28 => ?_)
              · refine lv_aload_n hx hb dX2_laneOfCell_151 rfl (lv_at hl 5 rfl) ?_
                refine ct_get (v := .ref (ad 4)) B hP kX2 3 rfl 1 (Nat.le_of_ble_eq_true rfl) q216 rfl dX2_laneOfCell_152 ?_
                refine ct_getN (v := .ref (ad 5)) B hP kX3 4 rfl 0 (Nat.le_of_ble_eq_true rfl) ct_nw_0 rfl dX2_laneOfCell_155 ?_
                refine lv_iload_n hx hb dX2_laneOfCell_158 rfl (lv_at hl 4 rfl) ?_
                refine lv_iload hx hb dX2_laneOfCell_159 (lv_at hl 1 rfl) ?_
                refine n_iadd hx hb dX2_laneOfCell_161 ?_
                refine ct_bald (f := wb) B hP 5 rfl (by omega) (by omega) dX2_laneOfCell_162 ?_
                refine W.eq (g2 := F0 m 163 ls [.int (nI (w.1.getD j 0))]) (by rw [ht.1 j (by omega)]) ?_
                refine lv_bipush (v := nI 46) hx hb dX2_laneOfCell_163 (by decide) ?_
                refine n_icmp_eq (tgt := 171) hx hb dX2_laneOfCell_165 (by decide) (by have := tAt_rg ht (j := j) (by omega); omega) (by omega) (fun c46 => ?_) (fun c46 => ?_)
                · refine lv_iload hx hb dX2_laneOfCell_171 (lv_at hl 1 rfl) ?_
                  refine lv_istore (lv' := [(8, .int (nI j)), (7, .int (nI (j - 1))), (6, .int (nI j)), (5, .int (nI 1)), (4, .int (nI w.1.length)), (3, .int (nI a)), (0, .ref (ad 3)), (1, .ref (q 0)), (2, .int (nI k))]) hx hb dX2_laneOfCell_173 hl (by decide) rfl (fun ls hl => ?_)
                  refine n_iinc (n := 1) (lv' := [(6, .int (nI (j + 1))), (8, .int (nI j)), (7, .int (nI (j - 1))), (5, .int (nI 1)), (4, .int (nI w.1.length)), (3, .int (nI a)), (0, .ref (ad 3)), (1, .ref (q 0)), (2, .int (nI k))]) hx hb dX2_laneOfCell_175 hl (k := 2) rfl rfl (by decide) (by decide) rfl (fun ls hl => ?_)
                  refine ct_loop (σ := Nat) (fun i ls => lv_has ls 9 [(6, .int (nI i)), (8, .int (nI j)), (7, .int (nI (j - 1))), (5, .int (nI 1)), (4, .int (nI w.1.length)), (3, .int (nI a)), (0, .ref (ad 3)), (1, .ref (q 0)), (2, .int (nI k))] ∧ (j + 1 ≤ i) ∧ (i ≤ w.1.length) ∧ (dEnd w.1 (j + 1) = dEnd w.1 i)) (fun i => w.1.length - i) (g := fun i ls => F0 m 178 ls []) (x0 := (j + 1)) (ls0 := ls) ?_ ⟨lv_sub hl [0, 1, 2, 3, 4, 5, 6, 7, 8] rfl, Nat.le_refl _, by omega, rfl⟩
                  clear hl
                  intro i ls hI ih_29
                  obtain ⟨hl, hi1, hi2, he2⟩ := hI
                  refine W.eq (g2 := F0 m 178 ls []) rfl ?_
                  refine lv_iload hx hb dX2_laneOfCell_178 (lv_at hl 0 rfl) ?_
                  refine lv_iload hx hb dX2_laneOfCell_180 (lv_at hl 4 rfl) ?_
                  refine n_icmp_ge (tgt := 209) hx hb dX2_laneOfCell_182 (by decide) (by omega) (by omega) (fun c_30 => ?_) (fun c_30 => ?_)
                  · have hk2 : i = dEnd w.1 (j + 1) := by rw [he2, dEnd_end (by omega)]
                    refine lv_iload hx hb dX2_laneOfCell_209 (lv_at hl 0 rfl) ?_
                    refine lv_iload hx hb dX2_laneOfCell_211 (lv_at hl 4 rfl) ?_
                    refine n_icmp_ne (tgt := 242) hx hb dX2_laneOfCell_213 (by decide) (by omega) (by omega) (fun c_31 => ?_) (fun c_31 => ?_)
                    · refine lv_bipush (v := nI 8) hx hb dX2_laneOfCell_242 (by decide) ?_
                      exact ct_iretR (ty := .int) (v := (nI 8)) B rfl rfl (by rw [laneC_of hq ct cf hf hke, if_neg (by omega), if_neg (by omega), if_neg (fun q => q c46), if_neg (by rw [← hk2]; omega)]) dX2_laneOfCell_244
                    · refine lv_iload hx hb dX2_laneOfCell_216 (lv_at hl 0 rfl) ?_
                      refine lv_iload hx hb dX2_laneOfCell_218 (lv_at hl 1 rfl) ?_
                      refine lv_iconst (v := nI 1) hx hb dX2_laneOfCell_220 (by decide) ?_
                      refine n_iadd hx hb dX2_laneOfCell_221 ?_
                      refine n_icmp_le (tgt := 242) hx hb dX2_laneOfCell_222 (by decide) (by omega) (by omega) (fun c_32 => ?_) (fun c_32 => ?_)
                      · refine lv_bipush (v := nI 8) hx hb dX2_laneOfCell_242 (by decide) ?_
                        exact ct_iretR (ty := .int) (v := (nI 8)) B rfl rfl (by rw [laneC_of hq ct cf hf hke, if_neg (by omega), if_neg (by omega), if_neg (fun q => q c46), if_neg (by rw [← hk2]; omega)]) dX2_laneOfCell_244
                      · refine lv_iload hx hb dX2_laneOfCell_225 (lv_at hl 4 rfl) ?_
                        refine lv_iload hx hb dX2_laneOfCell_227 (lv_at hl 3 rfl) ?_
                        refine n_isub hx hb (by omega) dX2_laneOfCell_229 ?_
                        refine lv_iconst (v := nI 1) hx hb dX2_laneOfCell_230 (by decide) ?_
                        refine n_isub hx hb (by omega) dX2_laneOfCell_231 ?_
                        refine lv_bipush (v := nI 15) hx hb dX2_laneOfCell_232 (by decide) ?_
                        refine n_icmp_gt (tgt := 242) hx hb dX2_laneOfCell_234 (by decide) (by omega) (by omega) (fun c_33 => ?_) (fun c_33 => ?_)
                        · refine lv_bipush (v := nI 8) hx hb dX2_laneOfCell_242 (by decide) ?_
                          exact ct_iretR (ty := .int) (v := (nI 8)) B rfl rfl (by rw [laneC_of hq ct cf hf hke, if_neg (by omega), if_neg (by omega), if_neg (fun q => q c46), if_neg (by rw [← hk2]; omega)]) dX2_laneOfCell_244
                        · refine lv_bipush (v := nI 7) hx hb dX2_laneOfCell_237 (by decide) ?_
                          refine lv_goto (tgt := 244) hx hb dX2_laneOfCell_239 (by decide) ?_
                          exact ct_iretR (ty := .int) (v := (nI 7)) B rfl rfl (by rw [laneC_of hq ct cf hf hke, if_neg (by omega), if_neg (by omega), if_neg (fun q => q c46), if_pos (by rw [← hk2]; omega)]) dX2_laneOfCell_244
                  · refine lv_aload_n hx hb dX2_laneOfCell_185 rfl (lv_at hl 6 rfl) ?_
                    refine ct_get (v := .ref (ad 4)) B hP kX2 3 rfl 1 (Nat.le_of_ble_eq_true rfl) q216 rfl dX2_laneOfCell_186 ?_
                    refine ct_getN (v := .ref (ad 5)) B hP kX3 4 rfl 0 (Nat.le_of_ble_eq_true rfl) ct_nw_0 rfl dX2_laneOfCell_189 ?_
                    refine lv_iload_n hx hb dX2_laneOfCell_192 rfl (lv_at hl 5 rfl) ?_
                    refine lv_iload hx hb dX2_laneOfCell_193 (lv_at hl 0 rfl) ?_
                    refine n_iadd hx hb dX2_laneOfCell_195 ?_
                    refine ct_bald (f := wb) B hP 5 rfl (by omega) (by omega) dX2_laneOfCell_196 ?_
                    refine W.eq (g2 := F0 m 197 ls [.int (nI (w.1.getD i 0))]) (by rw [ht.1 i (by omega)]) ?_
                    refine ct_callR (ct_runS (As := [.int (nI (w.1.getD i 0))]) (rest := []) B (met_X2_isDigit l E  (w.1.getD i 0) s.heap.size (by have := tAt_rg ht (j := i) (by omega); omega)) (lw_S q514 q515 q50 q516) (n := 1) ⟨by decide, by decide, by decide +kernel⟩ rfl ⟨rfl, rfl, (Nat.le_of_ble_eq_true rfl), (Nat.le_of_ble_eq_true rfl), (Nat.le_of_ble_eq_true rfl), (Nat.le_of_ble_eq_true rfl)⟩ (va_S.rf (A := fun _ => False)) (fun _ h => h.elim) trivial hl.1 (Nat.le_of_ble_eq_true rfl) dX2_laneOfCell_197) (fun v hv => ?_)
                    subst hv
                    refine W.eq (g2 := F0 m 200 ls [.int (if 48 ≤ (w.1.getD i 0) ∧ (w.1.getD i 0) ≤ 57 then 1 else 0)]) rfl ?_
                    refine b_if_eq (tgt := 209) hx hb dX2_laneOfCell_200 (by decide) (fun cd2 => ?_) (fun cd2 => ?_)
                    · have hk2 : i = dEnd w.1 (j + 1) := by rw [he2, dEnd_stop (by omega) cd2]
                      refine lv_iload hx hb dX2_laneOfCell_209 (lv_at hl 0 rfl) ?_
                      refine lv_iload hx hb dX2_laneOfCell_211 (lv_at hl 4 rfl) ?_
                      refine n_icmp_ne (tgt := 242) hx hb dX2_laneOfCell_213 (by decide) (by omega) (by omega) (fun c_34 => ?_) (fun c_34 => ?_)
                      · refine lv_bipush (v := nI 8) hx hb dX2_laneOfCell_242 (by decide) ?_
                        exact ct_iretR (ty := .int) (v := (nI 8)) B rfl rfl (by rw [laneC_of hq ct cf hf hke, if_neg (by omega), if_neg (by omega), if_neg (fun q => q c46), if_neg (by rw [← hk2]; omega)]) dX2_laneOfCell_244
                      · refine lv_iload hx hb dX2_laneOfCell_216 (lv_at hl 0 rfl) ?_
                        refine lv_iload hx hb dX2_laneOfCell_218 (lv_at hl 1 rfl) ?_
                        refine lv_iconst (v := nI 1) hx hb dX2_laneOfCell_220 (by decide) ?_
                        refine n_iadd hx hb dX2_laneOfCell_221 ?_
                        refine n_icmp_le (tgt := 242) hx hb dX2_laneOfCell_222 (by decide) (by omega) (by omega) (fun c_35 => ?_) (fun c_35 => ?_)
                        · refine lv_bipush (v := nI 8) hx hb dX2_laneOfCell_242 (by decide) ?_
                          exact ct_iretR (ty := .int) (v := (nI 8)) B rfl rfl (by rw [laneC_of hq ct cf hf hke, if_neg (by omega), if_neg (by omega), if_neg (fun q => q c46), if_neg (by rw [← hk2]; omega)]) dX2_laneOfCell_244
                        · refine lv_iload hx hb dX2_laneOfCell_225 (lv_at hl 4 rfl) ?_
                          refine lv_iload hx hb dX2_laneOfCell_227 (lv_at hl 3 rfl) ?_
                          refine n_isub hx hb (by omega) dX2_laneOfCell_229 ?_
                          refine lv_iconst (v := nI 1) hx hb dX2_laneOfCell_230 (by decide) ?_
                          refine n_isub hx hb (by omega) dX2_laneOfCell_231 ?_
                          refine lv_bipush (v := nI 15) hx hb dX2_laneOfCell_232 (by decide) ?_
                          refine n_icmp_gt (tgt := 242) hx hb dX2_laneOfCell_234 (by decide) (by omega) (by omega) (fun c_36 => ?_) (fun c_36 => ?_)
                          · refine lv_bipush (v := nI 8) hx hb dX2_laneOfCell_242 (by decide) ?_
                            exact ct_iretR (ty := .int) (v := (nI 8)) B rfl rfl (by rw [laneC_of hq ct cf hf hke, if_neg (by omega), if_neg (by omega), if_neg (fun q => q c46), if_neg (by rw [← hk2]; omega)]) dX2_laneOfCell_244
                          · refine lv_bipush (v := nI 7) hx hb dX2_laneOfCell_237 (by decide) ?_
                            refine lv_goto (tgt := 244) hx hb dX2_laneOfCell_239 (by decide) ?_
                            exact ct_iretR (ty := .int) (v := (nI 7)) B rfl rfl (by rw [laneC_of hq ct cf hf hke, if_neg (by omega), if_neg (by omega), if_neg (fun q => q c46), if_pos (by rw [← hk2]; omega)]) dX2_laneOfCell_244
                    · refine n_iinc (n := 1) (lv' := [(6, .int (nI (i + 1))), (8, .int (nI j)), (7, .int (nI (j - 1))), (5, .int (nI 1)), (4, .int (nI w.1.length)), (3, .int (nI a)), (0, .ref (ad 3)), (1, .ref (q 0)), (2, .int (nI k))]) hx hb dX2_laneOfCell_203 hl (k := 0) rfl rfl (by decide) (by decide) rfl (fun ls hl => ?_)
                      refine lv_goto (tgt := 178) hx hb dX2_laneOfCell_206 (by decide) ?_
                      exact ih_29 (i + 1) ls (by omega) ⟨lv_sub hl [0, 1, 2, 3, 4, 5, 6, 7, 8] rfl, by omega, by omega, he2.trans (dEnd_S (by omega) cd2)⟩
                · refine lv_bipush (v := nI 8) hx hb dX2_laneOfCell_168 (by decide) ?_
                  exact ct_iretR (ty := .int) (v := (nI 8)) B rfl rfl (by rw [laneC_of hq ct cf hf hke, if_neg (by omega), if_neg (by omega), if_pos c46]) dX2_laneOfCell_170
              · refine lv_aload_n hx hb dX2_laneOfCell_129 rfl (lv_at hl 5 rfl) ?_
                refine lv_iload_n hx hb dX2_laneOfCell_130 rfl (lv_at hl 4 rfl) ?_
                refine lv_iload hx hb dX2_laneOfCell_131 (lv_at hl 2 rfl) ?_
                refine n_iadd hx hb dX2_laneOfCell_133 ?_
                refine lv_iload hx hb dX2_laneOfCell_134 (lv_at hl 0 rfl) ?_
                refine W.eq (g2 := F0 m 136 ls [.int (nI ((w.1.drop 1).length)), .int (nI (a + 1)), .ref (ad 3)]) (by rw [show j - 1 = (w.1.drop 1).length by rw [List.length_drop]; omega] <;> rfl) ?_
                refine lv_iload hx hb dX2_laneOfCell_136 (lv_at hl 2 rfl) ?_
                refine lv_iconst (v := nI 1) hx hb dX2_laneOfCell_138 (by decide) ?_
                refine n_icmp_ne (tgt := 146) hx hb dX2_laneOfCell_139 (by decide) (by omega) (by omega) (fun c_37 => absurd c_37 (by omega)) (fun c_37 => ?_)
                refine lv_iconst (v := nI 1) hx hb dX2_laneOfCell_142 (by decide) ?_
                refine lv_goto (tgt := 147) hx hb dX2_laneOfCell_143 (by decide) ?_
                refine ct_callR (ct_runV (As := [.int (nI (a + 1)), .int (nI ((w.1.drop 1).length)), .int (nI 1)]) (rest := []) B (met_X2_wholeLane_true l E ad F O S made all wn wb P R (a + 1) (w.1.drop 1) s.heap.size (tAt_drop ht (by omega)) (dEnd_all (by omega) (by omega))) (lw_V q517 q519 qs18 q50 q520) (n := 3) ⟨by decide, by decide, by decide +kernel⟩ rfl ⟨rfl, rfl, (Nat.le_of_ble_eq_true rfl), (Nat.le_of_ble_eq_true rfl), (Nat.le_of_ble_eq_true rfl), (Nat.le_of_ble_eq_true rfl)⟩ (va_S.rf (A := fun _ => False)) (fun _ h => h.elim) (ct_recv B hP kX2 3 rfl) hP hl.1 (Nat.le_of_ble_eq_true rfl) dX2_laneOfCell_147) (fun v hv => ?_)
                subst hv
                refine W.eq (g2 := F0 m 150 ls [.int (nI (wl true (w.1.drop 1)))]) rfl ?_
                exact ct_iretR (ty := .int) (v := (nI (wl true (w.1.drop 1)))) B rfl rfl (by rw [laneC_of hq ct cf hf hke, if_neg (by omega), if_pos (by omega)]; rfl) dX2_laneOfCell_150
            · refine lv_bipush (v := nI 8) hx hb dX2_laneOfCell_119 (by decide) ?_
              exact ct_iretR (ty := .int) (v := (nI 8)) B rfl rfl (by rw [laneC_of hq ct cf hf hke, if_pos (by omega)]) dX2_laneOfCell_121
          · refine lv_aload_n hx hb dX2_laneOfCell_83 rfl (lv_at hl 4 rfl) ?_
            refine ct_get (v := .ref (ad 4)) B hP kX2 3 rfl 1 (Nat.le_of_ble_eq_true rfl) q216 rfl dX2_laneOfCell_84 ?_
            refine ct_getN (v := .ref (ad 5)) B hP kX3 4 rfl 0 (Nat.le_of_ble_eq_true rfl) ct_nw_0 rfl dX2_laneOfCell_87 ?_
            refine lv_iload_n hx hb dX2_laneOfCell_90 rfl (lv_at hl 3 rfl) ?_
            refine lv_iload hx hb dX2_laneOfCell_91 (lv_at hl 0 rfl) ?_
            refine n_iadd hx hb dX2_laneOfCell_93 ?_
            refine ct_bald (f := wb) B hP 5 rfl (by omega) (by omega) dX2_laneOfCell_94 ?_
            refine W.eq (g2 := F0 m 95 ls [.int (nI (w.1.getD j 0))]) (by rw [ht.1 j (by omega)]) ?_
            refine ct_callR (ct_runS (As := [.int (nI (w.1.getD j 0))]) (rest := []) B (met_X2_isDigit l E  (w.1.getD j 0) s.heap.size (by have := tAt_rg ht (j := j) (by omega); omega)) (lw_S q514 q515 q50 q516) (n := 1) ⟨by decide, by decide, by decide +kernel⟩ rfl ⟨rfl, rfl, (Nat.le_of_ble_eq_true rfl), (Nat.le_of_ble_eq_true rfl), (Nat.le_of_ble_eq_true rfl), (Nat.le_of_ble_eq_true rfl)⟩ (va_S.rf (A := fun _ => False)) (fun _ h => h.elim) trivial hl.1 (Nat.le_of_ble_eq_true rfl) dX2_laneOfCell_95) (fun v hv => ?_)
            subst hv
            refine W.eq (g2 := F0 m 98 ls [.int (if 48 ≤ (w.1.getD j 0) ∧ (w.1.getD j 0) ≤ 57 then 1 else 0)]) rfl ?_
            refine b_if_eq (tgt := 107) hx hb dX2_laneOfCell_98 (by decide) (fun cd => ?_) (fun cd => ?_)
            · have hke : j = dEnd w.1 1 := by rw [he, dEnd_stop (by omega) cd]
              have hf : 1 = if w.1.getD 0 0 = 45 then 1 else 0 := by rw [if_pos c45]
              refine lv_iload hx hb dX2_laneOfCell_107 (lv_at hl 0 rfl) ?_
              refine lv_iload hx hb dX2_laneOfCell_109 (lv_at hl 1 rfl) ?_
              refine n_isub hx hb (by omega) dX2_laneOfCell_111 ?_
              refine lv_istore (lv' := [(7, .int (nI (j - 1))), (6, .int (nI j)), (5, .int (nI 1)), (4, .int (nI w.1.length)), (3, .int (nI a)), (0, .ref (ad 3)), (1, .ref (q 0)), (2, .int (nI k))]) hx hb dX2_laneOfCell_112 hl (by decide) rfl (fun ls hl => ?_)
              refine lv_iload hx hb dX2_laneOfCell_114 (lv_at hl 0 rfl) ?_
              refine n_if_ne (tgt := 122) hx hb dX2_laneOfCell_116 (by decide) (by omega) (fun c_38 => ?_) (fun c_38 => ?_)
              · refine lv_iload hx hb dX2_laneOfCell_122 (lv_at hl 1 rfl) ?_
                refine lv_iload hx hb dX2_laneOfCell_124 (lv_at hl 3 rfl) ?_
                refine n_icmp_ne (tgt := 151) hx hb dX2_laneOfCell_126 (by decide) (by omega) (by omega) (fun c_39 => ?_) (fun c_39 => ?_)
                · refine lv_aload_n hx hb dX2_laneOfCell_151 rfl (lv_at hl 5 rfl) ?_
                  refine ct_get (v := .ref (ad 4)) B hP kX2 3 rfl 1 (Nat.le_of_ble_eq_true rfl) q216 rfl dX2_laneOfCell_152 ?_
                  refine ct_getN (v := .ref (ad 5)) B hP kX3 4 rfl 0 (Nat.le_of_ble_eq_true rfl) ct_nw_0 rfl dX2_laneOfCell_155 ?_
                  refine lv_iload_n hx hb dX2_laneOfCell_158 rfl (lv_at hl 4 rfl) ?_
                  refine lv_iload hx hb dX2_laneOfCell_159 (lv_at hl 1 rfl) ?_
                  refine n_iadd hx hb dX2_laneOfCell_161 ?_
                  refine ct_bald (f := wb) B hP 5 rfl (by omega) (by omega) dX2_laneOfCell_162 ?_
                  refine W.eq (g2 := F0 m 163 ls [.int (nI (w.1.getD j 0))]) (by rw [ht.1 j (by omega)]) ?_
                  refine lv_bipush (v := nI 46) hx hb dX2_laneOfCell_163 (by decide) ?_
                  refine n_icmp_eq (tgt := 171) hx hb dX2_laneOfCell_165 (by decide) (by have := tAt_rg ht (j := j) (by omega); omega) (by omega) (fun c46 => ?_) (fun c46 => ?_)
                  · refine lv_iload hx hb dX2_laneOfCell_171 (lv_at hl 1 rfl) ?_
                    refine lv_istore (lv' := [(8, .int (nI j)), (7, .int (nI (j - 1))), (6, .int (nI j)), (5, .int (nI 1)), (4, .int (nI w.1.length)), (3, .int (nI a)), (0, .ref (ad 3)), (1, .ref (q 0)), (2, .int (nI k))]) hx hb dX2_laneOfCell_173 hl (by decide) rfl (fun ls hl => ?_)
                    refine n_iinc (n := 1) (lv' := [(6, .int (nI (j + 1))), (8, .int (nI j)), (7, .int (nI (j - 1))), (5, .int (nI 1)), (4, .int (nI w.1.length)), (3, .int (nI a)), (0, .ref (ad 3)), (1, .ref (q 0)), (2, .int (nI k))]) hx hb dX2_laneOfCell_175 hl (k := 2) rfl rfl (by decide) (by decide) rfl (fun ls hl => ?_)
                    refine ct_loop (σ := Nat) (fun i ls => lv_has ls 9 [(6, .int (nI i)), (8, .int (nI j)), (7, .int (nI (j - 1))), (5, .int (nI 1)), (4, .int (nI w.1.length)), (3, .int (nI a)), (0, .ref (ad 3)), (1, .ref (q 0)), (2, .int (nI k))] ∧ (j + 1 ≤ i) ∧ (i ≤ w.1.length) ∧ (dEnd w.1 (j + 1) = dEnd w.1 i)) (fun i => w.1.length - i) (g := fun i ls => F0 m 178 ls []) (x0 := (j + 1)) (ls0 := ls) ?_ ⟨lv_sub hl [0, 1, 2, 3, 4, 5, 6, 7, 8] rfl, Nat.le_refl _, by omega, rfl⟩
                    clear hl
                    intro i ls hI ih_40
                    obtain ⟨hl, hi1, hi2, he2⟩ := hI
                    refine W.eq (g2 := F0 m 178 ls []) rfl ?_
                    refine lv_iload hx hb dX2_laneOfCell_178 (lv_at hl 0 rfl) ?_
                    refine lv_iload hx hb dX2_laneOfCell_180 (lv_at hl 4 rfl) ?_
                    refine n_icmp_ge (tgt := 209) hx hb dX2_laneOfCell_182 (by decide) (by omega) (by omega) (fun c_41 => ?_) (fun c_41 => ?_)
                    · have hk2 : i = dEnd w.1 (j + 1) := by rw [he2, dEnd_end (by omega)]
                      refine lv_iload hx hb dX2_laneOfCell_209 (lv_at hl 0 rfl) ?_
                      refine lv_iload hx hb dX2_laneOfCell_211 (lv_at hl 4 rfl) ?_
                      refine n_icmp_ne (tgt := 242) hx hb dX2_laneOfCell_213 (by decide) (by omega) (by omega) (fun c_42 => ?_) (fun c_42 => ?_)
                      · refine lv_bipush (v := nI 8) hx hb dX2_laneOfCell_242 (by decide) ?_
                        exact ct_iretR (ty := .int) (v := (nI 8)) B rfl rfl (by rw [laneC_of hq ct cf hf hke, if_neg (by omega), if_neg (by omega), if_neg (fun q => q c46), if_neg (by rw [← hk2]; omega)]) dX2_laneOfCell_244
                      · refine lv_iload hx hb dX2_laneOfCell_216 (lv_at hl 0 rfl) ?_
                        refine lv_iload hx hb dX2_laneOfCell_218 (lv_at hl 1 rfl) ?_
                        refine lv_iconst (v := nI 1) hx hb dX2_laneOfCell_220 (by decide) ?_
                        refine n_iadd hx hb dX2_laneOfCell_221 ?_
                        refine n_icmp_le (tgt := 242) hx hb dX2_laneOfCell_222 (by decide) (by omega) (by omega) (fun c_43 => ?_) (fun c_43 => ?_)
                        · refine lv_bipush (v := nI 8) hx hb dX2_laneOfCell_242 (by decide) ?_
                          exact ct_iretR (ty := .int) (v := (nI 8)) B rfl rfl (by rw [laneC_of hq ct cf hf hke, if_neg (by omega), if_neg (by omega), if_neg (fun q => q c46), if_neg (by rw [← hk2]; omega)]) dX2_laneOfCell_244
                        · refine lv_iload hx hb dX2_laneOfCell_225 (lv_at hl 4 rfl) ?_
                          refine lv_iload hx hb dX2_laneOfCell_227 (lv_at hl 3 rfl) ?_
                          refine n_isub hx hb (by omega) dX2_laneOfCell_229 ?_
                          refine lv_iconst (v := nI 1) hx hb dX2_laneOfCell_230 (by decide) ?_
                          refine n_isub hx hb (by omega) dX2_laneOfCell_231 ?_
                          refine lv_bipush (v := nI 15) hx hb dX2_laneOfCell_232 (by decide) ?_
                          refine n_icmp_gt (tgt := 242) hx hb dX2_laneOfCell_234 (by decide) (by omega) (by omega) (fun c_44 => ?_) (fun c_44 => ?_)
                          · refine lv_bipush (v := nI 8) hx hb dX2_laneOfCell_242 (by decide) ?_
                            exact ct_iretR (ty := .int) (v := (nI 8)) B rfl rfl (by rw [laneC_of hq ct cf hf hke, if_neg (by omega), if_neg (by omega), if_neg (fun q => q c46), if_neg (by rw [← hk2]; omega)]) dX2_laneOfCell_244
                          · refine lv_bipush (v := nI 7) hx hb dX2_laneOfCell_237 (by decide) ?_
                            refine lv_goto (tgt := 244) hx hb dX2_laneOfCell_239 (by decide) ?_
                            exact ct_iretR (ty := .int) (v := (nI 7)) B rfl rfl (by rw [laneC_of hq ct cf hf hke, if_neg (by omega), if_neg (by omega), if_neg (fun q => q c46), if_pos (by rw [← hk2]; omega)]) dX2_laneOfCell_244
                    · refine lv_aload_n hx hb dX2_laneOfCell_185 rfl (lv_at hl 6 rfl) ?_
                      refine ct_get (v := .ref (ad 4)) B hP kX2 3 rfl 1 (Nat.le_of_ble_eq_true rfl) q216 rfl dX2_laneOfCell_186 ?_
                      refine ct_getN (v := .ref (ad 5)) B hP kX3 4 rfl 0 (Nat.le_of_ble_eq_true rfl) ct_nw_0 rfl dX2_laneOfCell_189 ?_
                      refine lv_iload_n hx hb dX2_laneOfCell_192 rfl (lv_at hl 5 rfl) ?_
                      refine lv_iload hx hb dX2_laneOfCell_193 (lv_at hl 0 rfl) ?_
                      refine n_iadd hx hb dX2_laneOfCell_195 ?_
                      refine ct_bald (f := wb) B hP 5 rfl (by omega) (by omega) dX2_laneOfCell_196 ?_
                      refine W.eq (g2 := F0 m 197 ls [.int (nI (w.1.getD i 0))]) (by rw [ht.1 i (by omega)]) ?_
                      refine ct_callR (ct_runS (As := [.int (nI (w.1.getD i 0))]) (rest := []) B (met_X2_isDigit l E  (w.1.getD i 0) s.heap.size (by have := tAt_rg ht (j := i) (by omega); omega)) (lw_S q514 q515 q50 q516) (n := 1) ⟨by decide, by decide, by decide +kernel⟩ rfl ⟨rfl, rfl, (Nat.le_of_ble_eq_true rfl), (Nat.le_of_ble_eq_true rfl), (Nat.le_of_ble_eq_true rfl), (Nat.le_of_ble_eq_true rfl)⟩ (va_S.rf (A := fun _ => False)) (fun _ h => h.elim) trivial hl.1 (Nat.le_of_ble_eq_true rfl) dX2_laneOfCell_197) (fun v hv => ?_)
                      subst hv
                      refine W.eq (g2 := F0 m 200 ls [.int (if 48 ≤ (w.1.getD i 0) ∧ (w.1.getD i 0) ≤ 57 then 1 else 0)]) rfl ?_
                      refine b_if_eq (tgt := 209) hx hb dX2_laneOfCell_200 (by decide) (fun cd2 => ?_) (fun cd2 => ?_)
                      · have hk2 : i = dEnd w.1 (j + 1) := by rw [he2, dEnd_stop (by omega) cd2]
                        refine lv_iload hx hb dX2_laneOfCell_209 (lv_at hl 0 rfl) ?_
                        refine lv_iload hx hb dX2_laneOfCell_211 (lv_at hl 4 rfl) ?_
                        refine n_icmp_ne (tgt := 242) hx hb dX2_laneOfCell_213 (by decide) (by omega) (by omega) (fun c_45 => ?_) (fun c_45 => ?_)
                        · refine lv_bipush (v := nI 8) hx hb dX2_laneOfCell_242 (by decide) ?_
                          exact ct_iretR (ty := .int) (v := (nI 8)) B rfl rfl (by rw [laneC_of hq ct cf hf hke, if_neg (by omega), if_neg (by omega), if_neg (fun q => q c46), if_neg (by rw [← hk2]; omega)]) dX2_laneOfCell_244
                        · refine lv_iload hx hb dX2_laneOfCell_216 (lv_at hl 0 rfl) ?_
                          refine lv_iload hx hb dX2_laneOfCell_218 (lv_at hl 1 rfl) ?_
                          refine lv_iconst (v := nI 1) hx hb dX2_laneOfCell_220 (by decide) ?_
                          refine n_iadd hx hb dX2_laneOfCell_221 ?_
                          refine n_icmp_le (tgt := 242) hx hb dX2_laneOfCell_222 (by decide) (by omega) (by omega) (fun c_46 => ?_) (fun c_46 => ?_)
                          · refine lv_bipush (v := nI 8) hx hb dX2_laneOfCell_242 (by decide) ?_
                            exact ct_iretR (ty := .int) (v := (nI 8)) B rfl rfl (by rw [laneC_of hq ct cf hf hke, if_neg (by omega), if_neg (by omega), if_neg (fun q => q c46), if_neg (by rw [← hk2]; omega)]) dX2_laneOfCell_244
                          · refine lv_iload hx hb dX2_laneOfCell_225 (lv_at hl 4 rfl) ?_
                            refine lv_iload hx hb dX2_laneOfCell_227 (lv_at hl 3 rfl) ?_
                            refine n_isub hx hb (by omega) dX2_laneOfCell_229 ?_
                            refine lv_iconst (v := nI 1) hx hb dX2_laneOfCell_230 (by decide) ?_
                            refine n_isub hx hb (by omega) dX2_laneOfCell_231 ?_
                            refine lv_bipush (v := nI 15) hx hb dX2_laneOfCell_232 (by decide) ?_
                            refine n_icmp_gt (tgt := 242) hx hb dX2_laneOfCell_234 (by decide) (by omega) (by omega) (fun c_47 => ?_) (fun c_47 => ?_)
                            · refine lv_bipush (v := nI 8) hx hb dX2_laneOfCell_242 (by decide) ?_
                              exact ct_iretR (ty := .int) (v := (nI 8)) B rfl rfl (by rw [laneC_of hq ct cf hf hke, if_neg (by omega), if_neg (by omega), if_neg (fun q => q c46), if_neg (by rw [← hk2]; omega)]) dX2_laneOfCell_244
                            · refine lv_bipush (v := nI 7) hx hb dX2_laneOfCell_237 (by decide) ?_
                              refine lv_goto (tgt := 244) hx hb dX2_laneOfCell_239 (by decide) ?_
                              exact ct_iretR (ty := .int) (v := (nI 7)) B rfl rfl (by rw [laneC_of hq ct cf hf hke, if_neg (by omega), if_neg (by omega), if_neg (fun q => q c46), if_pos (by rw [← hk2]; omega)]) dX2_laneOfCell_244
                      · refine n_iinc (n := 1) (lv' := [(6, .int (nI (i + 1))), (8, .int (nI j)), (7, .int (nI (j - 1))), (5, .int (nI 1)), (4, .int (nI w.1.length)), (3, .int (nI a)), (0, .ref (ad 3)), (1, .ref (q 0)), (2, .int (nI k))]) hx hb dX2_laneOfCell_203 hl (k := 0) rfl rfl (by decide) (by decide) rfl (fun ls hl => ?_)
                        refine lv_goto (tgt := 178) hx hb dX2_laneOfCell_206 (by decide) ?_
                        exact ih_40 (i + 1) ls (by omega) ⟨lv_sub hl [0, 1, 2, 3, 4, 5, 6, 7, 8] rfl, by omega, by omega, he2.trans (dEnd_S (by omega) cd2)⟩
                  · refine lv_bipush (v := nI 8) hx hb dX2_laneOfCell_168 (by decide) ?_
                    exact ct_iretR (ty := .int) (v := (nI 8)) B rfl rfl (by rw [laneC_of hq ct cf hf hke, if_neg (by omega), if_neg (by omega), if_pos c46]) dX2_laneOfCell_170
                · refine lv_aload_n hx hb dX2_laneOfCell_129 rfl (lv_at hl 5 rfl) ?_
                  refine lv_iload_n hx hb dX2_laneOfCell_130 rfl (lv_at hl 4 rfl) ?_
                  refine lv_iload hx hb dX2_laneOfCell_131 (lv_at hl 2 rfl) ?_
                  refine n_iadd hx hb dX2_laneOfCell_133 ?_
                  refine lv_iload hx hb dX2_laneOfCell_134 (lv_at hl 0 rfl) ?_
                  refine W.eq (g2 := F0 m 136 ls [.int (nI ((w.1.drop 1).length)), .int (nI (a + 1)), .ref (ad 3)]) (by rw [show j - 1 = (w.1.drop 1).length by rw [List.length_drop]; omega] <;> rfl) ?_
                  refine lv_iload hx hb dX2_laneOfCell_136 (lv_at hl 2 rfl) ?_
                  refine lv_iconst (v := nI 1) hx hb dX2_laneOfCell_138 (by decide) ?_
                  refine n_icmp_ne (tgt := 146) hx hb dX2_laneOfCell_139 (by decide) (by omega) (by omega) (fun c_48 => absurd c_48 (by omega)) (fun c_48 => ?_)
                  refine lv_iconst (v := nI 1) hx hb dX2_laneOfCell_142 (by decide) ?_
                  refine lv_goto (tgt := 147) hx hb dX2_laneOfCell_143 (by decide) ?_
                  refine ct_callR (ct_runV (As := [.int (nI (a + 1)), .int (nI ((w.1.drop 1).length)), .int (nI 1)]) (rest := []) B (met_X2_wholeLane_true l E ad F O S made all wn wb P R (a + 1) (w.1.drop 1) s.heap.size (tAt_drop ht (by omega)) (dEnd_all (by omega) (by omega))) (lw_V q517 q519 qs18 q50 q520) (n := 3) ⟨by decide, by decide, by decide +kernel⟩ rfl ⟨rfl, rfl, (Nat.le_of_ble_eq_true rfl), (Nat.le_of_ble_eq_true rfl), (Nat.le_of_ble_eq_true rfl), (Nat.le_of_ble_eq_true rfl)⟩ (va_S.rf (A := fun _ => False)) (fun _ h => h.elim) (ct_recv B hP kX2 3 rfl) hP hl.1 (Nat.le_of_ble_eq_true rfl) dX2_laneOfCell_147) (fun v hv => ?_)
                  subst hv
                  refine W.eq (g2 := F0 m 150 ls [.int (nI (wl true (w.1.drop 1)))]) rfl ?_
                  exact ct_iretR (ty := .int) (v := (nI (wl true (w.1.drop 1)))) B rfl rfl (by rw [laneC_of hq ct cf hf hke, if_neg (by omega), if_pos (by omega)]; rfl) dX2_laneOfCell_150
              · refine lv_bipush (v := nI 8) hx hb dX2_laneOfCell_119 (by decide) ?_
                exact ct_iretR (ty := .int) (v := (nI 8)) B rfl rfl (by rw [laneC_of hq ct cf hf hke, if_pos (by omega)]) dX2_laneOfCell_121
            · refine n_iinc (n := 1) (lv' := [(6, .int (nI (j + 1))), (5, .int (nI 1)), (4, .int (nI w.1.length)), (3, .int (nI a)), (0, .ref (ad 3)), (1, .ref (q 0)), (2, .int (nI k))]) hx hb dX2_laneOfCell_101 hl (k := 0) rfl rfl (by decide) (by decide) rfl (fun ls hl => ?_)
              refine lv_goto (tgt := 76) hx hb dX2_laneOfCell_104 (by decide) ?_
              exact ih_25 (j + 1) ls (by omega) ⟨lv_sub hl [0, 1, 2, 3, 4, 5, 6] rfl, by omega, by omega, he.trans (dEnd_S (by omega) cd)⟩
      · refine lv_iconst (v := nI 0) hx hb dX2_laneOfCell_49 (by decide) ?_
        exact ct_iretR (ty := .int) (v := (nI 0)) B rfl rfl (by rw [laneC, if_neg cq, if_pos (by first | exact Or.inl ct | exact Or.inr cf)]) dX2_laneOfCell_50
  · refine lv_bipush (v := nI 8) hx hb dX2_laneOfCell_22 (by decide) ?_
    exact ct_iretR (ty := .int) (v := (nI 8)) B rfl rfl (by rw [laneC, if_pos cq]) dX2_laneOfCell_24
