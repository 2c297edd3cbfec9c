set_option maxHeartbeats 4000000 in
set_option maxRecDepth 100000 in
theorem met_X2_wholeLane_true (l : Launch) (E : CE) (ad : Nat → Nat) (F : XF) (O : XO) (S : XS) (made : Nat) (all : Nat → Option Nat) (wn : Nat) (wb : Nat → Int32) (P : XP) (R : XR) (a : Nat) (ds : List Nat) (sz : Nat) (ht : tAt wb a ds) (hd : ∀ x ∈ ds, isD x) : Met l yX2_wholeLane (ws_ yX2_wholeLane cX2_wholeLane 9 (some .int)) { frames := 5, cells := 0, slots := 0, locals := 109 } (ctP E [.ref (ad 3), .int (nI a), .int (nI ds.length), .int (nI 1)] sz (fun H => va_P E.1 ct_cl (xw E ad F O S (made, all, wn, wb) P R) H)) (ctR (fun v => v = some (.int (nI (wl true ds))))) 0 0 (fun _ => False) := by
  refine ct_start (by decide) (Nat.le_of_ble_eq_true rfl) ?_
  intro p e s m below meth c ls B hsz hH hl
  have hP := hH
  have hx := B.1
  have hb := B.2.1
  have hl : lv_has ls 9 [(0, .ref (ad 3)), (1, .int (nI a)), (2, .int (nI ds.length)), (3, .int (nI 1))] := hl
  have hta := ht.2.2
  refine lv_iload_n hx hb dX2_wholeLane_0 rfl (lv_at hl 2 rfl) ?_
  refine lv_bipush (v := nI 19) hx hb dX2_wholeLane_1 (by decide) ?_
  refine n_icmp_le (tgt := 9) hx hb dX2_wholeLane_3 (by decide) (by omega) (by omega) (fun c_1 => ?_) (fun c_1 => ?_)
  · refine lv_lconst (v := lN 0) hx hb dX2_wholeLane_9 (by decide) ?_
    refine lv_lstore (lv' := [(4, .long (lN 0)), (0, .ref (ad 3)), (1, .int (nI a)), (2, .int (nI ds.length)), (3, .int (nI 1))]) hx hb dX2_wholeLane_10 hl (by decide) rfl (fun ls hl => ?_)
    refine lv_iconst (v := nI 1) hx hb dX2_wholeLane_12 (by decide) ?_
    refine lv_istore (lv' := [(6, .int (nI 1)), (4, .long (lN 0)), (0, .ref (ad 3)), (1, .int (nI a)), (2, .int (nI ds.length)), (3, .int (nI 1))]) hx hb dX2_wholeLane_13 hl (by decide) rfl (fun ls hl => ?_)
    refine lv_iconst (v := nI 0) hx hb dX2_wholeLane_15 (by decide) ?_
    refine lv_istore (lv' := [(7, .int (nI 0)), (6, .int (nI 1)), (4, .long (lN 0)), (0, .ref (ad 3)), (1, .int (nI a)), (2, .int (nI ds.length)), (3, .int (nI 1))]) hx hb dX2_wholeLane_16 hl (by decide) rfl (fun ls hl => ?_)
    refine ct_loop (σ := Nat × Nat × Nat) (fun (k, V, fi) ls => lv_has ls 9 [(7, .int (nI k)), (6, .int (nI fi)), (4, .long (lN V)), (0, .ref (ad 3)), (1, .int (nI a)), (2, .int (nI ds.length)), (3, .int (nI 1))] ∧ (k ≤ ds.length) ∧ ((fi = 1 ∧ V = val10 (ds.take k) ∧ V ≤ 9223372036854775807) ∨ (fi = 0 ∧ V < 9223372036854775808 ∧ 9223372036854775807 < val10 (ds.take k)))) (fun (k, V, fi) => ds.length - k) (g := fun (k, V, fi) ls => F0 m 18 ls []) (x0 := (0, 0, 1)) (ls0 := ls) ?_ ⟨lv_sub hl [0, 1, 2, 3, 4, 5, 6] rfl, Nat.zero_le _, Or.inl ⟨rfl, rfl, by omega⟩⟩
    clear hl
    intro x9 ls hI ih_2
    obtain ⟨k, V, fi⟩ := x9
    obtain ⟨hl, hk, hv⟩ := hI
    refine W.eq (g2 := F0 m 18 ls []) rfl ?_
    refine lv_iload hx hb dX2_wholeLane_18 (lv_at hl 0 rfl) ?_
    refine lv_iload_n hx hb dX2_wholeLane_20 rfl (lv_at hl 5 rfl) ?_
    refine n_icmp_ge (tgt := 93) hx hb dX2_wholeLane_21 (by decide) (by omega) (by omega) (fun c_3 => ?_) (fun c_3 => ?_)
    · refine lv_iload hx hb dX2_wholeLane_93 (lv_at hl 1 rfl) ?_
      refine n_if_ne (tgt := 124) hx hb dX2_wholeLane_95 (by decide) (by omega) (fun c_4 => ?_) (fun c_4 => ?_)
      · refine lv_iconst (v := nI 0) hx hb dX2_wholeLane_124 (by decide) ?_
        refine lv_istore (lv' := [(7, .int (nI 0)), (6, .int (nI fi)), (4, .long (lN V)), (0, .ref (ad 3)), (1, .int (nI a)), (2, .int (nI ds.length)), (3, .int (nI 1))]) hx hb dX2_wholeLane_125 hl (by decide) rfl (fun ls hl => ?_)
        refine lv_iload hx hb dX2_wholeLane_127 (lv_at hl 1 rfl) ?_
        refine n_if_ne (tgt := 140) hx hb dX2_wholeLane_129 (by decide) (by omega) (fun c_5 => ?_) (fun c_5 => ?_)
        · refine lv_iload hx hb dX2_wholeLane_140 (lv_at hl 1 rfl) ?_
          refine n_if_eq (tgt := 174) hx hb dX2_wholeLane_142 (by decide) (by omega) (fun c_6 => ?_) (fun c_6 => ?_)
          · refine lv_iconst (v := nI 0) hx hb dX2_wholeLane_174 (by decide) ?_
            refine lv_istore (lv' := [(8, .int (nI 0)), (7, .int (nI 0)), (6, .int (nI fi)), (4, .long (lN V)), (0, .ref (ad 3)), (1, .int (nI a)), (2, .int (nI ds.length)), (3, .int (nI 1))]) hx hb dX2_wholeLane_175 hl (by decide) rfl (fun ls hl => ?_)
            refine lv_iload hx hb dX2_wholeLane_177 (lv_at hl 0 rfl) ?_
            refine n_if_eq (tgt := 186) hx hb dX2_wholeLane_179 (by decide) (by omega) (fun c_7 => ?_) (fun c_7 => absurd c_7 (by omega))
            refine lv_iconst (v := nI 5) hx hb dX2_wholeLane_186 (by decide) ?_
            exact ct_iretR (ty := .int) (v := (nI 5)) B rfl rfl (by
      have e9 : val10 (ds.take k) = val10 ds := by rw [show k = ds.length by omega, List.take_length]
      have e8 : (true = true) = True := by decide
      rw [wl, if_neg (by omega), if_neg (by simp only [e8, if_true, if_false, true_and, false_and, not_false_eq_true, and_true]; omega), if_neg (by simp only [e8, if_true, if_false, true_and, false_and, not_false_eq_true, and_true]; omega)]) dX2_wholeLane_187
          · refine lv_iload_n hx hb dX2_wholeLane_145 rfl (lv_at hl 5 rfl) ?_
            refine lv_bipush (v := nI 10) hx hb dX2_wholeLane_146 (by decide) ?_
            refine n_icmp_gt (tgt := 174) hx hb dX2_wholeLane_148 (by decide) (by omega) (by omega) (fun c_8 => ?_) (fun c_8 => ?_)
            · refine lv_iconst (v := nI 0) hx hb dX2_wholeLane_174 (by decide) ?_
              refine lv_istore (lv' := [(8, .int (nI 0)), (7, .int (nI 0)), (6, .int (nI fi)), (4, .long (lN V)), (0, .ref (ad 3)), (1, .int (nI a)), (2, .int (nI ds.length)), (3, .int (nI 1))]) hx hb dX2_wholeLane_175 hl (by decide) rfl (fun ls hl => ?_)
              refine lv_iload hx hb dX2_wholeLane_177 (lv_at hl 0 rfl) ?_
              refine n_if_eq (tgt := 186) hx hb dX2_wholeLane_179 (by decide) (by omega) (fun c_9 => ?_) (fun c_9 => absurd c_9 (by omega))
              refine lv_iconst (v := nI 5) hx hb dX2_wholeLane_186 (by decide) ?_
              exact ct_iretR (ty := .int) (v := (nI 5)) B rfl rfl (by
      have e9 : val10 (ds.take k) = val10 ds := by rw [show k = ds.length by omega, List.take_length]
      have e8 : (true = true) = True := by decide
      rw [wl, if_neg (by omega), if_neg (by simp only [e8, if_true, if_false, true_and, false_and, not_false_eq_true, and_true]; omega), if_neg (by simp only [e8, if_true, if_false, true_and, false_and, not_false_eq_true, and_true]; omega)]) dX2_wholeLane_187
            · refine lv_lload hx hb dX2_wholeLane_151 (lv_at hl 2 rfl) ?_
              refine lv_iload_n hx hb dX2_wholeLane_153 rfl (lv_at hl 6 rfl) ?_
              refine n_if_eq (tgt := 163) hx hb dX2_wholeLane_154 (by decide) (by omega) (fun c_10 => absurd c_10 (by omega)) (fun c_10 => ?_)
              refine lv_ldc2 (v := lN 2147483648) hx hb B.2.2.1 (B.2.2.2.1 _ q524) dX2_wholeLane_157 ?_
              refine lv_goto (tgt := 166) hx hb dX2_wholeLane_160 (by decide) ?_
              refine m_if_gt (tgt := 174) hx hb dX2_wholeLane_166 dX2_wholeLane_167 (by decide) (by omega) (by omega) (fun c_11 => ?_) (fun c_11 => ?_)
              · refine lv_iconst (v := nI 0) hx hb dX2_wholeLane_174 (by decide) ?_
                refine lv_istore (lv' := [(8, .int (nI 0)), (7, .int (nI 0)), (6, .int (nI fi)), (4, .long (lN V)), (0, .ref (ad 3)), (1, .int (nI a)), (2, .int (nI ds.length)), (3, .int (nI 1))]) hx hb dX2_wholeLane_175 hl (by decide) rfl (fun ls hl => ?_)
                refine lv_iload hx hb dX2_wholeLane_177 (lv_at hl 0 rfl) ?_
                refine n_if_eq (tgt := 186) hx hb dX2_wholeLane_179 (by decide) (by omega) (fun c_12 => ?_) (fun c_12 => absurd c_12 (by omega))
                refine lv_iconst (v := nI 5) hx hb dX2_wholeLane_186 (by decide) ?_
                exact ct_iretR (ty := .int) (v := (nI 5)) B rfl rfl (by
      have e9 : val10 (ds.take k) = val10 ds := by rw [show k = ds.length by omega, List.take_length]
      have e8 : (true = true) = True := by decide
      rw [wl, if_neg (by omega), if_neg (by simp only [e8, if_true, if_false, true_and, false_and, not_false_eq_true, and_true]; omega), if_neg (by simp only [e8, if_true, if_false, true_and, false_and, not_false_eq_true, and_true]; omega)]) dX2_wholeLane_187
              · refine lv_iconst (v := nI 1) hx hb dX2_wholeLane_170 (by decide) ?_
                refine lv_goto (tgt := 175) hx hb dX2_wholeLane_171 (by decide) ?_
                refine lv_istore (lv' := [(8, .int (nI 1)), (7, .int (nI 0)), (6, .int (nI fi)), (4, .long (lN V)), (0, .ref (ad 3)), (1, .int (nI a)), (2, .int (nI ds.length)), (3, .int (nI 1))]) hx hb dX2_wholeLane_175 hl (by decide) rfl (fun ls hl => ?_)
                refine lv_iload hx hb dX2_wholeLane_177 (lv_at hl 0 rfl) ?_
                refine n_if_eq (tgt := 186) hx hb dX2_wholeLane_179 (by decide) (by omega) (fun c_13 => absurd c_13 (by omega)) (fun c_13 => ?_)
                refine lv_iconst (v := nI 4) hx hb dX2_wholeLane_182 (by decide) ?_
                refine lv_goto (tgt := 187) hx hb dX2_wholeLane_183 (by decide) ?_
                exact ct_iretR (ty := .int) (v := (nI 4)) B rfl rfl (by
      have e9 : val10 (ds.take k) = val10 ds := by rw [show k = ds.length by omega, List.take_length]
      have e8 : (true = true) = True := by decide
      rw [wl, if_neg (by omega), if_neg (by simp only [e8, if_true, if_false, true_and, false_and, not_false_eq_true, and_true]; omega), if_pos (by simp only [e8, if_true, if_false, true_and, false_and, not_false_eq_true, and_true]; omega)]) dX2_wholeLane_187
        · refine lv_iload hx hb dX2_wholeLane_132 (lv_at hl 0 rfl) ?_
          refine n_if_ne (tgt := 140) hx hb dX2_wholeLane_134 (by decide) (by omega) (fun c_14 => absurd c_14 (by omega)) (fun c_14 => ?_)
          refine lv_bipush (v := nI 8) hx hb dX2_wholeLane_137 (by decide) ?_
          exact ct_iretR (ty := .int) (v := (nI 8)) B rfl rfl (by
      have e9 : val10 (ds.take k) = val10 ds := by rw [show k = ds.length by omega, List.take_length]
      have e8 : (true = true) = True := by decide
      rw [wl, if_neg (by omega), if_pos (by simp only [e8, if_true, if_false, true_and, false_and, not_false_eq_true, and_true]; omega)]) dX2_wholeLane_139
      · refine lv_iload_n hx hb dX2_wholeLane_98 rfl (lv_at hl 6 rfl) ?_
        refine n_if_eq (tgt := 124) hx hb dX2_wholeLane_99 (by decide) (by omega) (fun c_15 => absurd c_15 (by omega)) (fun c_15 => ?_)
        refine lv_iload_n hx hb dX2_wholeLane_102 rfl (lv_at hl 5 rfl) ?_
        refine lv_bipush (v := nI 19) hx hb dX2_wholeLane_103 (by decide) ?_
        refine n_icmp_ne (tgt := 124) hx hb dX2_wholeLane_105 (by decide) (by omega) (by omega) (fun cn19 => ?_) (fun cn19 => ?_)
        · refine lv_iconst (v := nI 0) hx hb dX2_wholeLane_124 (by decide) ?_
          refine lv_istore (lv' := [(7, .int (nI 0)), (6, .int (nI fi)), (4, .long (lN V)), (0, .ref (ad 3)), (1, .int (nI a)), (2, .int (nI ds.length)), (3, .int (nI 1))]) hx hb dX2_wholeLane_125 hl (by decide) rfl (fun ls hl => ?_)
          refine lv_iload hx hb dX2_wholeLane_127 (lv_at hl 1 rfl) ?_
          refine n_if_ne (tgt := 140) hx hb dX2_wholeLane_129 (by decide) (by omega) (fun c_16 => ?_) (fun c_16 => ?_)
          · refine lv_iload hx hb dX2_wholeLane_140 (lv_at hl 1 rfl) ?_
            refine n_if_eq (tgt := 174) hx hb dX2_wholeLane_142 (by decide) (by omega) (fun c_17 => ?_) (fun c_17 => ?_)
            · refine lv_iconst (v := nI 0) hx hb dX2_wholeLane_174 (by decide) ?_
              refine lv_istore (lv' := [(8, .int (nI 0)), (7, .int (nI 0)), (6, .int (nI fi)), (4, .long (lN V)), (0, .ref (ad 3)), (1, .int (nI a)), (2, .int (nI ds.length)), (3, .int (nI 1))]) hx hb dX2_wholeLane_175 hl (by decide) rfl (fun ls hl => ?_)
              refine lv_iload hx hb dX2_wholeLane_177 (lv_at hl 0 rfl) ?_
              refine n_if_eq (tgt := 186) hx hb dX2_wholeLane_179 (by decide) (by omega) (fun c_18 => ?_) (fun c_18 => absurd c_18 (by omega))
              refine lv_iconst (v := nI 5) hx hb dX2_wholeLane_186 (by decide) ?_
              exact ct_iretR (ty := .int) (v := (nI 5)) B rfl rfl (by
      have e9 : val10 (ds.take k) = val10 ds := by rw [show k = ds.length by omega, List.take_length]
      have e8 : (true = true) = True := by decide
      have e7 : val10 ds ≠ 9223372036854775808 := val10_ne hd (by omega)
      rw [wl, if_neg (by omega), if_neg (by simp only [e8, if_true, if_false, true_and, false_and, not_false_eq_true, and_true]; omega), if_neg (by simp only [e8, if_true, if_false, true_and, false_and, not_false_eq_true, and_true]; omega)]) dX2_wholeLane_187
            · refine lv_iload_n hx hb dX2_wholeLane_145 rfl (lv_at hl 5 rfl) ?_
              refine lv_bipush (v := nI 10) hx hb dX2_wholeLane_146 (by decide) ?_
              refine n_icmp_gt (tgt := 174) hx hb dX2_wholeLane_148 (by decide) (by omega) (by omega) (fun c_19 => ?_) (fun c_19 => ?_)
              · refine lv_iconst (v := nI 0) hx hb dX2_wholeLane_174 (by decide) ?_
                refine lv_istore (lv' := [(8, .int (nI 0)), (7, .int (nI 0)), (6, .int (nI fi)), (4, .long (lN V)), (0, .ref (ad 3)), (1, .int (nI a)), (2, .int (nI ds.length)), (3, .int (nI 1))]) hx hb dX2_wholeLane_175 hl (by decide) rfl (fun ls hl => ?_)
                refine lv_iload hx hb dX2_wholeLane_177 (lv_at hl 0 rfl) ?_
                refine n_if_eq (tgt := 186) hx hb dX2_wholeLane_179 (by decide) (by omega) (fun c_20 => ?_) (fun c_20 => absurd c_20 (by omega))
                refine lv_iconst (v := nI 5) hx hb dX2_wholeLane_186 (by decide) ?_
                exact ct_iretR (ty := .int) (v := (nI 5)) B rfl rfl (by
      have e9 : val10 (ds.take k) = val10 ds := by rw [show k = ds.length by omega, List.take_length]
      have e8 : (true = true) = True := by decide
      have e7 : val10 ds ≠ 9223372036854775808 := val10_ne hd (by omega)
      rw [wl, if_neg (by omega), if_neg (by simp only [e8, if_true, if_false, true_and, false_and, not_false_eq_true, and_true]; omega), if_neg (by simp only [e8, if_true, if_false, true_and, false_and, not_false_eq_true, and_true]; omega)]) dX2_wholeLane_187
              · refine lv_lload hx hb dX2_wholeLane_151 (lv_at hl 2 rfl) ?_
                refine lv_iload_n hx hb dX2_wholeLane_153 rfl (lv_at hl 6 rfl) ?_
                refine n_if_eq (tgt := 163) hx hb dX2_wholeLane_154 (by decide) (by omega) (fun c_21 => absurd c_21 (by omega)) (fun c_21 => ?_)
                refine lv_ldc2 (v := lN 2147483648) hx hb B.2.2.1 (B.2.2.2.1 _ q524) dX2_wholeLane_157 ?_
                refine lv_goto (tgt := 166) hx hb dX2_wholeLane_160 (by decide) ?_
                refine m_if_gt (tgt := 174) hx hb dX2_wholeLane_166 dX2_wholeLane_167 (by decide) (by omega) (by omega) (fun c_22 => ?_) (fun c_22 => ?_)
                · refine lv_iconst (v := nI 0) hx hb dX2_wholeLane_174 (by decide) ?_
                  refine lv_istore (lv' := [(8, .int (nI 0)), (7, .int (nI 0)), (6, .int (nI fi)), (4, .long (lN V)), (0, .ref (ad 3)), (1, .int (nI a)), (2, .int (nI ds.length)), (3, .int (nI 1))]) hx hb dX2_wholeLane_175 hl (by decide) rfl (fun ls hl => ?_)
                  refine lv_iload hx hb dX2_wholeLane_177 (lv_at hl 0 rfl) ?_
                  refine n_if_eq (tgt := 186) hx hb dX2_wholeLane_179 (by decide) (by omega) (fun c_23 => ?_) (fun c_23 => absurd c_23 (by omega))
                  refine lv_iconst (v := nI 5) hx hb dX2_wholeLane_186 (by decide) ?_
                  exact ct_iretR (ty := .int) (v := (nI 5)) B rfl rfl (by
      have e9 : val10 (ds.take k) = val10 ds := by rw [show k = ds.length by omega, List.take_length]
      have e8 : (true = true) = True := by decide
      have e7 : val10 ds ≠ 9223372036854775808 := val10_ne hd (by omega)
      rw [wl, if_neg (by omega), if_neg (by simp only [e8, if_true, if_false, true_and, false_and, not_false_eq_true, and_true]; omega), if_neg (by simp only [e8, if_true, if_false, true_and, false_and, not_false_eq_true, and_true]; omega)]) dX2_wholeLane_187
                · refine lv_iconst (v := nI 1) hx hb dX2_wholeLane_170 (by decide) ?_
                  refine lv_goto (tgt := 175) hx hb dX2_wholeLane_171 (by decide) ?_
                  refine lv_istore (lv' := [(8, .int (nI 1)), (7, .int (nI 0)), (6, .int (nI fi)), (4, .long (lN V)), (0, .ref (ad 3)), (1, .int (nI a)), (2, .int (nI ds.length)), (3, .int (nI 1))]) hx hb dX2_wholeLane_175 hl (by decide) rfl (fun ls hl => ?_)
                  refine lv_iload hx hb dX2_wholeLane_177 (lv_at hl 0 rfl) ?_
                  refine n_if_eq (tgt := 186) hx hb dX2_wholeLane_179 (by decide) (by omega) (fun c_24 => absurd c_24 (by omega)) (fun c_24 => ?_)
                  refine lv_iconst (v := nI 4) hx hb dX2_wholeLane_182 (by decide) ?_
                  refine lv_goto (tgt := 187) hx hb dX2_wholeLane_183 (by decide) ?_
                  exact ct_iretR (ty := .int) (v := (nI 4)) B rfl rfl (by
      have e9 : val10 (ds.take k) = val10 ds := by rw [show k = ds.length by omega, List.take_length]
      have e8 : (true = true) = True := by decide
      have e7 : val10 ds ≠ 9223372036854775808 := val10_ne hd (by omega)
      rw [wl, if_neg (by omega), if_neg (by simp only [e8, if_true, if_false, true_and, false_and, not_false_eq_true, and_true]; omega), if_pos (by simp only [e8, if_true, if_false, true_and, false_and, not_false_eq_true, and_true]; omega)]) dX2_wholeLane_187
          · refine lv_iload hx hb dX2_wholeLane_132 (lv_at hl 0 rfl) ?_
            refine n_if_ne (tgt := 140) hx hb dX2_wholeLane_134 (by decide) (by omega) (fun c_25 => absurd c_25 (by omega)) (fun c_25 => ?_)
            refine lv_bipush (v := nI 8) hx hb dX2_wholeLane_137 (by decide) ?_
            exact ct_iretR (ty := .int) (v := (nI 8)) B rfl rfl (by
      have e9 : val10 (ds.take k) = val10 ds := by rw [show k = ds.length by omega, List.take_length]
      have e8 : (true = true) = True := by decide
      have e7 : val10 ds ≠ 9223372036854775808 := val10_ne hd (by omega)
      rw [wl, if_neg (by omega), if_pos (by simp only [e8, if_true, if_false, true_and, false_and, not_false_eq_true, and_true]; omega)]) dX2_wholeLane_139
        · refine lv_aload_n hx hb dX2_wholeLane_108 rfl (lv_at hl 3 rfl) ?_
          refine lv_iload_n hx hb dX2_wholeLane_109 rfl (lv_at hl 4 rfl) ?_
          refine lv_bipush (v := nI 19) hx hb dX2_wholeLane_110 (by decide) ?_
          refine va_ldcS hx hb B.2.2.1 (B.2.2.2.2.2.2.2.2.2.2.2.2.2.2.1) dX2_wholeLane_112 ?_
          refine ct_callR (ct_runV (As := [.int (nI a), .int (nI 19), .ref (E.2.2.2 2)]) (rest := []) B (met_X2_isWord l E ad F O S made all wn wb P R _ a 19 (E.2.2.2 2) ds tx_least s.heap.size (by omega) ht) (lw_V q461 q463 qs17 q50 q464) (n := 3) ⟨by decide, by decide, by decide +kernel⟩ rfl ⟨rfl, rfl, (Nat.le_of_ble_eq_true rfl), (Nat.le_of_ble_eq_true rfl), (Nat.le_of_ble_eq_true rfl), (Nat.le_of_ble_eq_true rfl)⟩ (va_S.rf (A := fun _ => False)) (fun _ h => h.elim) (ct_recv B hP kX2 3 rfl) ⟨hP, B.2.2.2.2.2.2.2.2.2.2.2.1.2.2.2.2.2.2.2⟩ hl.1 (Nat.le_of_ble_eq_true rfl) dX2_wholeLane_114) (fun v hv => ?_)
          subst hv
          refine W.eq (g2 := F0 m 117 ls [.int (if ds = tx_least then 1 else 0)]) rfl ?_
          refine b_if_eq (tgt := 124) hx hb dX2_wholeLane_117 (by decide) (fun cle => ?_) (fun cle => ?_)
          · refine lv_iconst (v := nI 0) hx hb dX2_wholeLane_124 (by decide) ?_
            refine lv_istore (lv' := [(7, .int (nI 0)), (6, .int (nI fi)), (4, .long (lN V)), (0, .ref (ad 3)), (1, .int (nI a)), (2, .int (nI ds.length)), (3, .int (nI 1))]) hx hb dX2_wholeLane_125 hl (by decide) rfl (fun ls hl => ?_)
            refine lv_iload hx hb dX2_wholeLane_127 (lv_at hl 1 rfl) ?_
            refine n_if_ne (tgt := 140) hx hb dX2_wholeLane_129 (by decide) (by omega) (fun c_26 => ?_) (fun c_26 => ?_)
            · refine lv_iload hx hb dX2_wholeLane_140 (lv_at hl 1 rfl) ?_
              refine n_if_eq (tgt := 174) hx hb dX2_wholeLane_142 (by decide) (by omega) (fun c_27 => ?_) (fun c_27 => ?_)
              · refine lv_iconst (v := nI 0) hx hb dX2_wholeLane_174 (by decide) ?_
                refine lv_istore (lv' := [(8, .int (nI 0)), (7, .int (nI 0)), (6, .int (nI fi)), (4, .long (lN V)), (0, .ref (ad 3)), (1, .int (nI a)), (2, .int (nI ds.length)), (3, .int (nI 1))]) hx hb dX2_wholeLane_175 hl (by decide) rfl (fun ls hl => ?_)
                refine lv_iload hx hb dX2_wholeLane_177 (lv_at hl 0 rfl) ?_
                refine n_if_eq (tgt := 186) hx hb dX2_wholeLane_179 (by decide) (by omega) (fun c_28 => ?_) (fun c_28 => absurd c_28 (by omega))
                refine lv_iconst (v := nI 5) hx hb dX2_wholeLane_186 (by decide) ?_
                exact ct_iretR (ty := .int) (v := (nI 5)) B rfl rfl (by
      have e9 : val10 (ds.take k) = val10 ds := by rw [show k = ds.length by omega, List.take_length]
      have e8 : (true = true) = True := by decide
      have e7 : val10 ds ≠ 9223372036854775808 := fun q => cle (val10_inj hd tx_least_d (show ds.length = 19 by omega) (q.trans tx_least_v.symm))
      rw [wl, if_neg (by omega), if_neg (by simp only [e8, if_true, if_false, true_and, false_and, not_false_eq_true, and_true]; omega), if_neg (by simp only [e8, if_true, if_false, true_and, false_and, not_false_eq_true, and_true]; omega)]) dX2_wholeLane_187
              · refine lv_iload_n hx hb dX2_wholeLane_145 rfl (lv_at hl 5 rfl) ?_
                refine lv_bipush (v := nI 10) hx hb dX2_wholeLane_146 (by decide) ?_
                refine n_icmp_gt (tgt := 174) hx hb dX2_wholeLane_148 (by decide) (by omega) (by omega) (fun c_29 => ?_) (fun c_29 => ?_)
                · refine lv_iconst (v := nI 0) hx hb dX2_wholeLane_174 (by decide) ?_
                  refine lv_istore (lv' := [(8, .int (nI 0)), (7, .int (nI 0)), (6, .int (nI fi)), (4, .long (lN V)), (0, .ref (ad 3)), (1, .int (nI a)), (2, .int (nI ds.length)), (3, .int (nI 1))]) hx hb dX2_wholeLane_175 hl (by decide) rfl (fun ls hl => ?_)
                  refine lv_iload hx hb dX2_wholeLane_177 (lv_at hl 0 rfl) ?_
                  refine n_if_eq (tgt := 186) hx hb dX2_wholeLane_179 (by decide) (by omega) (fun c_30 => ?_) (fun c_30 => absurd c_30 (by omega))
                  refine lv_iconst (v := nI 5) hx hb dX2_wholeLane_186 (by decide) ?_
                  exact ct_iretR (ty := .int) (v := (nI 5)) B rfl rfl (by
      have e9 : val10 (ds.take k) = val10 ds := by rw [show k = ds.length by omega, List.take_length]
      have e8 : (true = true) = True := by decide
      have e7 : val10 ds ≠ 9223372036854775808 := fun q => cle (val10_inj hd tx_least_d (show ds.length = 19 by omega) (q.trans tx_least_v.symm))
      rw [wl, if_neg (by omega), if_neg (by simp only [e8, if_true, if_false, true_and, false_and, not_false_eq_true, and_true]; omega), if_neg (by simp only [e8, if_true, if_false, true_and, false_and, not_false_eq_true, and_true]; omega)]) dX2_wholeLane_187
                · refine lv_lload hx hb dX2_wholeLane_151 (lv_at hl 2 rfl) ?_
                  refine lv_iload_n hx hb dX2_wholeLane_153 rfl (lv_at hl 6 rfl) ?_
                  refine n_if_eq (tgt := 163) hx hb dX2_wholeLane_154 (by decide) (by omega) (fun c_31 => absurd c_31 (by omega)) (fun c_31 => ?_)
                  refine lv_ldc2 (v := lN 2147483648) hx hb B.2.2.1 (B.2.2.2.1 _ q524) dX2_wholeLane_157 ?_
                  refine lv_goto (tgt := 166) hx hb dX2_wholeLane_160 (by decide) ?_
                  refine m_if_gt (tgt := 174) hx hb dX2_wholeLane_166 dX2_wholeLane_167 (by decide) (by omega) (by omega) (fun c_32 => ?_) (fun c_32 => ?_)
                  · refine lv_iconst (v := nI 0) hx hb dX2_wholeLane_174 (by decide) ?_
                    refine lv_istore (lv' := [(8, .int (nI 0)), (7, .int (nI 0)), (6, .int (nI fi)), (4, .long (lN V)), (0, .ref (ad 3)), (1, .int (nI a)), (2, .int (nI ds.length)), (3, .int (nI 1))]) hx hb dX2_wholeLane_175 hl (by decide) rfl (fun ls hl => ?_)
                    refine lv_iload hx hb dX2_wholeLane_177 (lv_at hl 0 rfl) ?_
                    refine n_if_eq (tgt := 186) hx hb dX2_wholeLane_179 (by decide) (by omega) (fun c_33 => ?_) (fun c_33 => absurd c_33 (by omega))
                    refine lv_iconst (v := nI 5) hx hb dX2_wholeLane_186 (by decide) ?_
                    exact ct_iretR (ty := .int) (v := (nI 5)) B rfl rfl (by
      have e9 : val10 (ds.take k) = val10 ds := by rw [show k = ds.length by omega, List.take_length]
      have e8 : (true = true) = True := by decide
      have e7 : val10 ds ≠ 9223372036854775808 := fun q => cle (val10_inj hd tx_least_d (show ds.length = 19 by omega) (q.trans tx_least_v.symm))
      rw [wl, if_neg (by omega), if_neg (by simp only [e8, if_true, if_false, true_and, false_and, not_false_eq_true, and_true]; omega), if_neg (by simp only [e8, if_true, if_false, true_and, false_and, not_false_eq_true, and_true]; omega)]) dX2_wholeLane_187
                  · refine lv_iconst (v := nI 1) hx hb dX2_wholeLane_170 (by decide) ?_
                    refine lv_goto (tgt := 175) hx hb dX2_wholeLane_171 (by decide) ?_
                    refine lv_istore (lv' := [(8, .int (nI 1)), (7, .int (nI 0)), (6, .int (nI fi)), (4, .long (lN V)), (0, .ref (ad 3)), (1, .int (nI a)), (2, .int (nI ds.length)), (3, .int (nI 1))]) hx hb dX2_wholeLane_175 hl (by decide) rfl (fun ls hl => ?_)
                    refine lv_iload hx hb dX2_wholeLane_177 (lv_at hl 0 rfl) ?_
                    refine n_if_eq (tgt := 186) hx hb dX2_wholeLane_179 (by decide) (by omega) (fun c_34 => absurd c_34 (by omega)) (fun c_34 => ?_)
                    refine lv_iconst (v := nI 4) hx hb dX2_wholeLane_182 (by decide) ?_
                    refine lv_goto (tgt := 187) hx hb dX2_wholeLane_183 (by decide) ?_
                    exact ct_iretR (ty := .int) (v := (nI 4)) B rfl rfl (by
      have e9 : val10 (ds.take k) = val10 ds := by rw [show k = ds.length by omega, List.take_length]
      have e8 : (true = true) = True := by decide
      have e7 : val10 ds ≠ 9223372036854775808 := fun q => cle (val10_inj hd tx_least_d (show ds.length = 19 by omega) (q.trans tx_least_v.symm))
      rw [wl, if_neg (by omega), if_neg (by simp only [e8, if_true, if_false, true_and, false_and, not_false_eq_true, and_true]; omega), if_pos (by simp only [e8, if_true, if_false, true_and, false_and, not_false_eq_true, and_true]; omega)]) dX2_wholeLane_187
            · refine lv_iload hx hb dX2_wholeLane_132 (lv_at hl 0 rfl) ?_
              refine n_if_ne (tgt := 140) hx hb dX2_wholeLane_134 (by decide) (by omega) (fun c_35 => absurd c_35 (by omega)) (fun c_35 => ?_)
              refine lv_bipush (v := nI 8) hx hb dX2_wholeLane_137 (by decide) ?_
              exact ct_iretR (ty := .int) (v := (nI 8)) B rfl rfl (by
      have e9 : val10 (ds.take k) = val10 ds := by rw [show k = ds.length by omega, List.take_length]
      have e8 : (true = true) = True := by decide
      have e7 : val10 ds ≠ 9223372036854775808 := fun q => cle (val10_inj hd tx_least_d (show ds.length = 19 by omega) (q.trans tx_least_v.symm))
      rw [wl, if_neg (by omega), if_pos (by simp only [e8, if_true, if_false, true_and, false_and, not_false_eq_true, and_true]; omega)]) dX2_wholeLane_139
          · refine lv_iconst (v := nI 1) hx hb dX2_wholeLane_120 (by decide) ?_
            refine lv_goto (tgt := 125) hx hb dX2_wholeLane_121 (by decide) ?_
            refine lv_istore (lv' := [(7, .int (nI 1)), (6, .int (nI fi)), (4, .long (lN V)), (0, .ref (ad 3)), (1, .int (nI a)), (2, .int (nI ds.length)), (3, .int (nI 1))]) hx hb dX2_wholeLane_125 hl (by decide) rfl (fun ls hl => ?_)
            refine lv_iload hx hb dX2_wholeLane_127 (lv_at hl 1 rfl) ?_
            refine n_if_ne (tgt := 140) hx hb dX2_wholeLane_129 (by decide) (by omega) (fun c_36 => ?_) (fun c_36 => ?_)
            · refine lv_iload hx hb dX2_wholeLane_140 (lv_at hl 1 rfl) ?_
              refine n_if_eq (tgt := 174) hx hb dX2_wholeLane_142 (by decide) (by omega) (fun c_37 => ?_) (fun c_37 => ?_)
              · refine lv_iconst (v := nI 0) hx hb dX2_wholeLane_174 (by decide) ?_
                refine lv_istore (lv' := [(8, .int (nI 0)), (7, .int (nI 1)), (6, .int (nI fi)), (4, .long (lN V)), (0, .ref (ad 3)), (1, .int (nI a)), (2, .int (nI ds.length)), (3, .int (nI 1))]) hx hb dX2_wholeLane_175 hl (by decide) rfl (fun ls hl => ?_)
                refine lv_iload hx hb dX2_wholeLane_177 (lv_at hl 0 rfl) ?_
                refine n_if_eq (tgt := 186) hx hb dX2_wholeLane_179 (by decide) (by omega) (fun c_38 => ?_) (fun c_38 => absurd c_38 (by omega))
                refine lv_iconst (v := nI 5) hx hb dX2_wholeLane_186 (by decide) ?_
                exact ct_iretR (ty := .int) (v := (nI 5)) B rfl rfl (by
      have e9 : val10 (ds.take k) = val10 ds := by rw [show k = ds.length by omega, List.take_length]
      have e8 : (true = true) = True := by decide
      have e7 : val10 ds = 9223372036854775808 := by rw [cle]; exact tx_least_v
      rw [wl, if_neg (by omega), if_neg (by simp only [e8, if_true, if_false, true_and, false_and, not_false_eq_true, and_true]; omega), if_neg (by simp only [e8, if_true, if_false, true_and, false_and, not_false_eq_true, and_true]; omega)]) dX2_wholeLane_187
              · refine lv_iload_n hx hb dX2_wholeLane_145 rfl (lv_at hl 5 rfl) ?_
                refine lv_bipush (v := nI 10) hx hb dX2_wholeLane_146 (by decide) ?_
                refine n_icmp_gt (tgt := 174) hx hb dX2_wholeLane_148 (by decide) (by omega) (by omega) (fun c_39 => ?_) (fun c_39 => ?_)
                · refine lv_iconst (v := nI 0) hx hb dX2_wholeLane_174 (by decide) ?_
                  refine lv_istore (lv' := [(8, .int (nI 0)), (7, .int (nI 1)), (6, .int (nI fi)), (4, .long (lN V)), (0, .ref (ad 3)), (1, .int (nI a)), (2, .int (nI ds.length)), (3, .int (nI 1))]) hx hb dX2_wholeLane_175 hl (by decide) rfl (fun ls hl => ?_)
                  refine lv_iload hx hb dX2_wholeLane_177 (lv_at hl 0 rfl) ?_
                  refine n_if_eq (tgt := 186) hx hb dX2_wholeLane_179 (by decide) (by omega) (fun c_40 => ?_) (fun c_40 => absurd c_40 (by omega))
                  refine lv_iconst (v := nI 5) hx hb dX2_wholeLane_186 (by decide) ?_
                  exact ct_iretR (ty := .int) (v := (nI 5)) B rfl rfl (by
      have e9 : val10 (ds.take k) = val10 ds := by rw [show k = ds.length by omega, List.take_length]
      have e8 : (true = true) = True := by decide
      have e7 : val10 ds = 9223372036854775808 := by rw [cle]; exact tx_least_v
      rw [wl, if_neg (by omega), if_neg (by simp only [e8, if_true, if_false, true_and, false_and, not_false_eq_true, and_true]; omega), if_neg (by simp only [e8, if_true, if_false, true_and, false_and, not_false_eq_true, and_true]; omega)]) dX2_wholeLane_187
                · refine lv_lload hx hb dX2_wholeLane_151 (lv_at hl 2 rfl) ?_
                  refine lv_iload_n hx hb dX2_wholeLane_153 rfl (lv_at hl 6 rfl) ?_
                  refine n_if_eq (tgt := 163) hx hb dX2_wholeLane_154 (by decide) (by omega) (fun c_41 => absurd c_41 (by omega)) (fun c_41 => ?_)
                  refine lv_ldc2 (v := lN 2147483648) hx hb B.2.2.1 (B.2.2.2.1 _ q524) dX2_wholeLane_157 ?_
                  refine lv_goto (tgt := 166) hx hb dX2_wholeLane_160 (by decide) ?_
                  refine m_if_gt (tgt := 174) hx hb dX2_wholeLane_166 dX2_wholeLane_167 (by decide) (by omega) (by omega) (fun c_42 => ?_) (fun c_42 => ?_)
                  · refine lv_iconst (v := nI 0) hx hb dX2_wholeLane_174 (by decide) ?_
                    refine lv_istore (lv' := [(8, .int (nI 0)), (7, .int (nI 1)), (6, .int (nI fi)), (4, .long (lN V)), (0, .ref (ad 3)), (1, .int (nI a)), (2, .int (nI ds.length)), (3, .int (nI 1))]) hx hb dX2_wholeLane_175 hl (by decide) rfl (fun ls hl => ?_)
                    refine lv_iload hx hb dX2_wholeLane_177 (lv_at hl 0 rfl) ?_
                    refine n_if_eq (tgt := 186) hx hb dX2_wholeLane_179 (by decide) (by omega) (fun c_43 => ?_) (fun c_43 => absurd c_43 (by omega))
                    refine lv_iconst (v := nI 5) hx hb dX2_wholeLane_186 (by decide) ?_
                    exact ct_iretR (ty := .int) (v := (nI 5)) B rfl rfl (by
      have e9 : val10 (ds.take k) = val10 ds := by rw [show k = ds.length by omega, List.take_length]
      have e8 : (true = true) = True := by decide
      have e7 : val10 ds = 9223372036854775808 := by rw [cle]; exact tx_least_v
      rw [wl, if_neg (by omega), if_neg (by simp only [e8, if_true, if_false, true_and, false_and, not_false_eq_true, and_true]; omega), if_neg (by simp only [e8, if_true, if_false, true_and, false_and, not_false_eq_true, and_true]; omega)]) dX2_wholeLane_187
                  · refine lv_iconst (v := nI 1) hx hb dX2_wholeLane_170 (by decide) ?_
                    refine lv_goto (tgt := 175) hx hb dX2_wholeLane_171 (by decide) ?_
                    refine lv_istore (lv' := [(8, .int (nI 1)), (7, .int (nI 1)), (6, .int (nI fi)), (4, .long (lN V)), (0, .ref (ad 3)), (1, .int (nI a)), (2, .int (nI ds.length)), (3, .int (nI 1))]) hx hb dX2_wholeLane_175 hl (by decide) rfl (fun ls hl => ?_)
                    refine lv_iload hx hb dX2_wholeLane_177 (lv_at hl 0 rfl) ?_
                    refine n_if_eq (tgt := 186) hx hb dX2_wholeLane_179 (by decide) (by omega) (fun c_44 => absurd c_44 (by omega)) (fun c_44 => ?_)
                    refine lv_iconst (v := nI 4) hx hb dX2_wholeLane_182 (by decide) ?_
                    refine lv_goto (tgt := 187) hx hb dX2_wholeLane_183 (by decide) ?_
                    exact ct_iretR (ty := .int) (v := (nI 4)) B rfl rfl (by
      have e9 : val10 (ds.take k) = val10 ds := by rw [show k = ds.length by omega, List.take_length]
      have e8 : (true = true) = True := by decide
      have e7 : val10 ds = 9223372036854775808 := by rw [cle]; exact tx_least_v
      rw [wl, if_neg (by omega), if_neg (by simp only [e8, if_true, if_false, true_and, false_and, not_false_eq_true, and_true]; omega), if_pos (by simp only [e8, if_true, if_false, true_and, false_and, not_false_eq_true, and_true]; omega)]) dX2_wholeLane_187
            · refine lv_iload hx hb dX2_wholeLane_132 (lv_at hl 0 rfl) ?_
              refine n_if_ne (tgt := 140) hx hb dX2_wholeLane_134 (by decide) (by omega) (fun c_45 => ?_) (fun c_45 => absurd c_45 (by omega))
              refine lv_iload hx hb dX2_wholeLane_140 (lv_at hl 1 rfl) ?_
              refine n_if_eq (tgt := 174) hx hb dX2_wholeLane_142 (by decide) (by omega) (fun c_46 => ?_) (fun c_46 => ?_)
              · refine lv_iconst (v := nI 0) hx hb dX2_wholeLane_174 (by decide) ?_
                refine lv_istore (lv' := [(8, .int (nI 0)), (7, .int (nI 1)), (6, .int (nI fi)), (4, .long (lN V)), (0, .ref (ad 3)), (1, .int (nI a)), (2, .int (nI ds.length)), (3, .int (nI 1))]) hx hb dX2_wholeLane_175 hl (by decide) rfl (fun ls hl => ?_)
                refine lv_iload hx hb dX2_wholeLane_177 (lv_at hl 0 rfl) ?_
                refine n_if_eq (tgt := 186) hx hb dX2_wholeLane_179 (by decide) (by omega) (fun c_47 => ?_) (fun c_47 => absurd c_47 (by omega))
                refine lv_iconst (v := nI 5) hx hb dX2_wholeLane_186 (by decide) ?_
                exact ct_iretR (ty := .int) (v := (nI 5)) B rfl rfl (by
      have e9 : val10 (ds.take k) = val10 ds := by rw [show k = ds.length by omega, List.take_length]
      have e8 : (true = true) = True := by decide
      have e7 : val10 ds = 9223372036854775808 := by rw [cle]; exact tx_least_v
      rw [wl, if_neg (by omega), if_neg (by simp only [e8, if_true, if_false, true_and, false_and, not_false_eq_true, and_true]; omega), if_neg (by simp only [e8, if_true, if_false, true_and, false_and, not_false_eq_true, and_true]; omega)]) dX2_wholeLane_187
              · refine lv_iload_n hx hb dX2_wholeLane_145 rfl (lv_at hl 5 rfl) ?_
                refine lv_bipush (v := nI 10) hx hb dX2_wholeLane_146 (by decide) ?_
                refine n_icmp_gt (tgt := 174) hx hb dX2_wholeLane_148 (by decide) (by omega) (by omega) (fun c_48 => ?_) (fun c_48 => ?_)
                · refine lv_iconst (v := nI 0) hx hb dX2_wholeLane_174 (by decide) ?_
                  refine lv_istore (lv' := [(8, .int (nI 0)), (7, .int (nI 1)), (6, .int (nI fi)), (4, .long (lN V)), (0, .ref (ad 3)), (1, .int (nI a)), (2, .int (nI ds.length)), (3, .int (nI 1))]) hx hb dX2_wholeLane_175 hl (by decide) rfl (fun ls hl => ?_)
                  refine lv_iload hx hb dX2_wholeLane_177 (lv_at hl 0 rfl) ?_
                  refine n_if_eq (tgt := 186) hx hb dX2_wholeLane_179 (by decide) (by omega) (fun c_49 => ?_) (fun c_49 => absurd c_49 (by omega))
                  refine lv_iconst (v := nI 5) hx hb dX2_wholeLane_186 (by decide) ?_
                  exact ct_iretR (ty := .int) (v := (nI 5)) B rfl rfl (by
      have e9 : val10 (ds.take k) = val10 ds := by rw [show k = ds.length by omega, List.take_length]
      have e8 : (true = true) = True := by decide
      have e7 : val10 ds = 9223372036854775808 := by rw [cle]; exact tx_least_v
      rw [wl, if_neg (by omega), if_neg (by simp only [e8, if_true, if_false, true_and, false_and, not_false_eq_true, and_true]; omega), if_neg (by simp only [e8, if_true, if_false, true_and, false_and, not_false_eq_true, and_true]; omega)]) dX2_wholeLane_187
                · refine lv_lload hx hb dX2_wholeLane_151 (lv_at hl 2 rfl) ?_
                  refine lv_iload_n hx hb dX2_wholeLane_153 rfl (lv_at hl 6 rfl) ?_
                  refine n_if_eq (tgt := 163) hx hb dX2_wholeLane_154 (by decide) (by omega) (fun c_50 => absurd c_50 (by omega)) (fun c_50 => ?_)
                  refine lv_ldc2 (v := lN 2147483648) hx hb B.2.2.1 (B.2.2.2.1 _ q524) dX2_wholeLane_157 ?_
                  refine lv_goto (tgt := 166) hx hb dX2_wholeLane_160 (by decide) ?_
                  refine m_if_gt (tgt := 174) hx hb dX2_wholeLane_166 dX2_wholeLane_167 (by decide) (by omega) (by omega) (fun c_51 => ?_) (fun c_51 => ?_)
                  · refine lv_iconst (v := nI 0) hx hb dX2_wholeLane_174 (by decide) ?_
                    refine lv_istore (lv' := [(8, .int (nI 0)), (7, .int (nI 1)), (6, .int (nI fi)), (4, .long (lN V)), (0, .ref (ad 3)), (1, .int (nI a)), (2, .int (nI ds.length)), (3, .int (nI 1))]) hx hb dX2_wholeLane_175 hl (by decide) rfl (fun ls hl => ?_)
                    refine lv_iload hx hb dX2_wholeLane_177 (lv_at hl 0 rfl) ?_
                    refine n_if_eq (tgt := 186) hx hb dX2_wholeLane_179 (by decide) (by omega) (fun c_52 => ?_) (fun c_52 => absurd c_52 (by omega))
                    refine lv_iconst (v := nI 5) hx hb dX2_wholeLane_186 (by decide) ?_
                    exact ct_iretR (ty := .int) (v := (nI 5)) B rfl rfl (by
      have e9 : val10 (ds.take k) = val10 ds := by rw [show k = ds.length by omega, List.take_length]
      have e8 : (true = true) = True := by decide
      have e7 : val10 ds = 9223372036854775808 := by rw [cle]; exact tx_least_v
      rw [wl, if_neg (by omega), if_neg (by simp only [e8, if_true, if_false, true_and, false_and, not_false_eq_true, and_true]; omega), if_neg (by simp only [e8, if_true, if_false, true_and, false_and, not_false_eq_true, and_true]; omega)]) dX2_wholeLane_187
                  · refine lv_iconst (v := nI 1) hx hb dX2_wholeLane_170 (by decide) ?_
                    refine lv_goto (tgt := 175) hx hb dX2_wholeLane_171 (by decide) ?_
                    refine lv_istore (lv' := [(8, .int (nI 1)), (7, .int (nI 1)), (6, .int (nI fi)), (4, .long (lN V)), (0, .ref (ad 3)), (1, .int (nI a)), (2, .int (nI ds.length)), (3, .int (nI 1))]) hx hb dX2_wholeLane_175 hl (by decide) rfl (fun ls hl => ?_)
                    refine lv_iload hx hb dX2_wholeLane_177 (lv_at hl 0 rfl) ?_
                    refine n_if_eq (tgt := 186) hx hb dX2_wholeLane_179 (by decide) (by omega) (fun c_53 => absurd c_53 (by omega)) (fun c_53 => ?_)
                    refine lv_iconst (v := nI 4) hx hb dX2_wholeLane_182 (by decide) ?_
                    refine lv_goto (tgt := 187) hx hb dX2_wholeLane_183 (by decide) ?_
                    exact ct_iretR (ty := .int) (v := (nI 4)) B rfl rfl (by
      have e9 : val10 (ds.take k) = val10 ds := by rw [show k = ds.length by omega, List.take_length]
      have e8 : (true = true) = True := by decide
      have e7 : val10 ds = 9223372036854775808 := by rw [cle]; exact tx_least_v
      rw [wl, if_neg (by omega), if_neg (by simp only [e8, if_true, if_false, true_and, false_and, not_false_eq_true, and_true]; omega), if_pos (by simp only [e8, if_true, if_false, true_and, false_and, not_false_eq_true, and_true]; omega)]) dX2_wholeLane_187
    · have hdk : isD (ds.getD k 0) := by rw [List.getD_eq_getElem?_getD, List.getElem?_eq_getElem (by omega : k < ds.length)]; exact hd _ (List.getElem_mem _)
      refine lv_aload_n hx hb dX2_wholeLane_24 rfl (lv_at hl 3 rfl) ?_
      refine ct_get (v := .ref (ad 4)) B hP kX2 3 rfl 1 (Nat.le_of_ble_eq_true rfl) q216 rfl dX2_wholeLane_25 ?_
      refine ct_getN (v := .ref (ad 5)) B hP kX3 4 rfl 0 (Nat.le_of_ble_eq_true rfl) ct_nw_0 rfl dX2_wholeLane_28 ?_
      refine lv_iload_n hx hb dX2_wholeLane_31 rfl (lv_at hl 4 rfl) ?_
      refine lv_iload hx hb dX2_wholeLane_32 (lv_at hl 0 rfl) ?_
      refine n_iadd hx hb dX2_wholeLane_34 ?_
      refine ct_bald (f := wb) B hP 5 rfl (by omega) (by omega) dX2_wholeLane_35 ?_
      refine W.eq (g2 := F0 m 36 ls [.int (nI (ds.getD k 0))]) (by rw [ht.1 k (by omega)]) ?_
      refine lv_bipush (v := nI 48) hx hb dX2_wholeLane_36 (by decide) ?_
      refine n_isub hx hb hdk.1 dX2_wholeLane_38 ?_
      refine lv_istore (lv' := [(8, .int (nI (ds.getD k 0 - 48))), (7, .int (nI k)), (6, .int (nI fi)), (4, .long (lN V)), (0, .ref (ad 3)), (1, .int (nI a)), (2, .int (nI ds.length)), (3, .int (nI 1))]) hx hb dX2_wholeLane_39 hl (by decide) rfl (fun ls hl => ?_)
      refine lv_iload hx hb dX2_wholeLane_41 (lv_at hl 2 rfl) ?_
      refine n_if_eq (tgt := 67) hx hb dX2_wholeLane_43 (by decide) (by omega) (fun c_54 => ?_) (fun c_54 => ?_)
      · refine lv_iconst (v := nI 0) hx hb dX2_wholeLane_67 (by decide) ?_
        refine lv_istore (lv' := [(6, .int (nI 0)), (8, .int (nI (ds.getD k 0 - 48))), (7, .int (nI k)), (4, .long (lN V)), (0, .ref (ad 3)), (1, .int (nI a)), (2, .int (nI ds.length)), (3, .int (nI 1))]) hx hb dX2_wholeLane_68 hl (by decide) rfl (fun ls hl => ?_)
        refine lv_iload hx hb dX2_wholeLane_70 (lv_at hl 0 rfl) ?_
        refine n_if_eq (tgt := 87) hx hb dX2_wholeLane_72 (by decide) (by omega) (fun c_55 => ?_) (fun c_55 => absurd c_55 (by omega))
        refine n_iinc (n := 1) (lv' := [(7, .int (nI (k + 1))), (6, .int (nI 0)), (8, .int (nI (ds.getD k 0 - 48))), (4, .long (lN V)), (0, .ref (ad 3)), (1, .int (nI a)), (2, .int (nI ds.length)), (3, .int (nI 1))]) hx hb dX2_wholeLane_87 hl (k := 2) rfl rfl (by decide) (by decide) rfl (fun ls hl => ?_)
        refine lv_goto (tgt := 18) hx hb dX2_wholeLane_90 (by decide) ?_
        exact ih_2 ((k + 1), V, 0) ls (by dsimp only; omega) ⟨lv_sub hl [0, 1, 3, 4, 5, 6, 7] rfl, by omega, (by have e9 := val10_S (t := ds) (k := k) (by omega); exact Or.inr ⟨rfl, by omega, by omega⟩)⟩
      · refine lv_lload hx hb dX2_wholeLane_46 (lv_at hl 3 rfl) ?_
        refine lv_ldc2 (v := lN 9223372036854775807) hx hb B.2.2.1 (B.2.2.2.1 _ q521) dX2_wholeLane_48 ?_
        refine lv_iload hx hb dX2_wholeLane_51 (lv_at hl 0 rfl) ?_
        refine lv_i2l (v := lN (ds.getD k 0 - 48)) hx hb dX2_wholeLane_53 (nI_l (by have := hdk.2; omega)) ?_
        refine m_lsub hx hb (by have := hdk.2; omega) dX2_wholeLane_54 ?_
        refine lv_ldc2 (v := lN 10) hx hb B.2.2.1 (B.2.2.2.1 _ q522) dX2_wholeLane_55 ?_
        refine m_ldiv hx hb (by omega) (by omega) (by omega) dX2_wholeLane_58 ?_
        refine m_if_gt (tgt := 67) hx hb dX2_wholeLane_59 dX2_wholeLane_60 (by decide) (by omega) (by have := hdk.2; omega) (fun cfit => ?_) (fun cfit => ?_)
        · refine lv_iconst (v := nI 0) hx hb dX2_wholeLane_67 (by decide) ?_
          refine lv_istore (lv' := [(6, .int (nI 0)), (8, .int (nI (ds.getD k 0 - 48))), (7, .int (nI k)), (4, .long (lN V)), (0, .ref (ad 3)), (1, .int (nI a)), (2, .int (nI ds.length)), (3, .int (nI 1))]) hx hb dX2_wholeLane_68 hl (by decide) rfl (fun ls hl => ?_)
          refine lv_iload hx hb dX2_wholeLane_70 (lv_at hl 0 rfl) ?_
          refine n_if_eq (tgt := 87) hx hb dX2_wholeLane_72 (by decide) (by omega) (fun c_56 => ?_) (fun c_56 => absurd c_56 (by omega))
          refine n_iinc (n := 1) (lv' := [(7, .int (nI (k + 1))), (6, .int (nI 0)), (8, .int (nI (ds.getD k 0 - 48))), (4, .long (lN V)), (0, .ref (ad 3)), (1, .int (nI a)), (2, .int (nI ds.length)), (3, .int (nI 1))]) hx hb dX2_wholeLane_87 hl (k := 2) rfl rfl (by decide) (by decide) rfl (fun ls hl => ?_)
          refine lv_goto (tgt := 18) hx hb dX2_wholeLane_90 (by decide) ?_
          exact ih_2 ((k + 1), V, 0) ls (by dsimp only; omega) ⟨lv_sub hl [0, 1, 3, 4, 5, 6, 7] rfl, by omega, (by have e9 := val10_S (t := ds) (k := k) (by omega); exact Or.inr ⟨rfl, by omega, by omega⟩)⟩
        · refine lv_iconst (v := nI 1) hx hb dX2_wholeLane_63 (by decide) ?_
          refine lv_goto (tgt := 68) hx hb dX2_wholeLane_64 (by decide) ?_
          refine lv_istore (lv' := [(6, .int (nI 1)), (8, .int (nI (ds.getD k 0 - 48))), (7, .int (nI k)), (4, .long (lN V)), (0, .ref (ad 3)), (1, .int (nI a)), (2, .int (nI ds.length)), (3, .int (nI 1))]) hx hb dX2_wholeLane_68 hl (by decide) rfl (fun ls hl => ?_)
          refine lv_iload hx hb dX2_wholeLane_70 (lv_at hl 0 rfl) ?_
          refine n_if_eq (tgt := 87) hx hb dX2_wholeLane_72 (by decide) (by omega) (fun c_57 => absurd c_57 (by omega)) (fun c_57 => ?_)
          refine lv_ldc2 (v := lN 10) hx hb B.2.2.1 (B.2.2.2.1 _ q522) dX2_wholeLane_75 ?_
          refine lv_lload hx hb dX2_wholeLane_78 (lv_at hl 3 rfl) ?_
          refine m_lmul hx hb dX2_wholeLane_80 ?_
          refine lv_iload hx hb dX2_wholeLane_81 (lv_at hl 1 rfl) ?_
          refine lv_i2l (v := lN (ds.getD k 0 - 48)) hx hb dX2_wholeLane_83 (nI_l (by have := hdk.2; omega)) ?_
          refine m_ladd hx hb dX2_wholeLane_84 ?_
          refine lv_lstore (lv' := [(4, .long (lN (10 * V + (ds.getD k 0 - 48)))), (6, .int (nI 1)), (8, .int (nI (ds.getD k 0 - 48))), (7, .int (nI k)), (0, .ref (ad 3)), (1, .int (nI a)), (2, .int (nI ds.length)), (3, .int (nI 1))]) hx hb dX2_wholeLane_85 hl (by decide) rfl (fun ls hl => ?_)
          refine n_iinc (n := 1) (lv' := [(7, .int (nI (k + 1))), (4, .long (lN (10 * V + (ds.getD k 0 - 48)))), (6, .int (nI 1)), (8, .int (nI (ds.getD k 0 - 48))), (0, .ref (ad 3)), (1, .int (nI a)), (2, .int (nI ds.length)), (3, .int (nI 1))]) hx hb dX2_wholeLane_87 hl (k := 3) rfl rfl (by decide) (by decide) rfl (fun ls hl => ?_)
          refine lv_goto (tgt := 18) hx hb dX2_wholeLane_90 (by decide) ?_
          exact ih_2 ((k + 1), (10 * V + (ds.getD k 0 - 48)), 1) ls (by dsimp only; omega) ⟨lv_sub hl [0, 2, 1, 4, 5, 6, 7] rfl, by omega, (by have e9 := val10_S (t := ds) (k := k) (by omega); exact Or.inl ⟨rfl, by omega, by omega⟩)⟩
  · refine lv_bipush (v := nI 8) hx hb dX2_wholeLane_6 (by decide) ?_
    exact ct_iretR (ty := .int) (v := (nI 8)) B rfl rfl (by rw [wl, if_pos (by omega)]) dX2_wholeLane_8
set_option maxHeartbeats 4000000 in
set_option maxRecDepth 100000 in
theorem met_X2_wholeLane_false (l : Launch) (E : CE) (ad : Nat → Nat) (F : XF) (O : XO) (S : XS) (made : Nat) (all : Nat → Option Nat) (wn : Nat) (wb : Nat → Int32) (P : XP) (R : XR) (a : Nat) (ds : List Nat) (sz : Nat) (ht : tAt wb a ds) (hd : ∀ x ∈ ds, isD x) : Met l yX2_wholeLane (ws_ yX2_wholeLane cX2_wholeLane 9 (some .int)) { frames := 0, cells := 0, slots := 0, locals := 0 } (ctP E [.ref (ad 3), .int (nI a), .int (nI ds.length), .int (nI 0)] sz (fun H => va_P E.1 ct_cl (xw E ad F O S (made, all, wn, wb) P R) H)) (ctR (fun v => v = some (.int (nI (wl false ds))))) 0 0 (fun _ => False) := by
  refine ct_start (by decide) (Nat.le_of_ble_eq_true rfl) ?_
  intro p e s m below meth c ls B hsz hH hl
  have hP := hH
  have hx := B.1
  have hb := B.2.1
  have hl : lv_has ls 9 [(0, .ref (ad 3)), (1, .int (nI a)), (2, .int (nI ds.length)), (3, .int (nI 0))] := hl
  have hta := ht.2.2
  refine lv_iload_n hx hb dX2_wholeLane_0 rfl (lv_at hl 2 rfl) ?_
  refine lv_bipush (v := nI 19) hx hb dX2_wholeLane_1 (by decide) ?_
  refine n_icmp_le (tgt := 9) hx hb dX2_wholeLane_3 (by decide) (by omega) (by omega) (fun c_1 => ?_) (fun c_1 => ?_)
  · refine lv_lconst (v := lN 0) hx hb dX2_wholeLane_9 (by decide) ?_
    refine lv_lstore (lv' := [(4, .long (lN 0)), (0, .ref (ad 3)), (1, .int (nI a)), (2, .int (nI ds.length)), (3, .int (nI 0))]) hx hb dX2_wholeLane_10 hl (by decide) rfl (fun ls hl => ?_)
    refine lv_iconst (v := nI 1) hx hb dX2_wholeLane_12 (by decide) ?_
    refine lv_istore (lv' := [(6, .int (nI 1)), (4, .long (lN 0)), (0, .ref (ad 3)), (1, .int (nI a)), (2, .int (nI ds.length)), (3, .int (nI 0))]) hx hb dX2_wholeLane_13 hl (by decide) rfl (fun ls hl => ?_)
    refine lv_iconst (v := nI 0) hx hb dX2_wholeLane_15 (by decide) ?_
    refine lv_istore (lv' := [(7, .int (nI 0)), (6, .int (nI 1)), (4, .long (lN 0)), (0, .ref (ad 3)), (1, .int (nI a)), (2, .int (nI ds.length)), (3, .int (nI 0))]) hx hb dX2_wholeLane_16 hl (by decide) rfl (fun ls hl => ?_)
    refine ct_loop (σ := Nat × Nat × Nat) (fun (k, V, fi) ls => lv_has ls 9 [(7, .int (nI k)), (6, .int (nI fi)), (4, .long (lN V)), (0, .ref (ad 3)), (1, .int (nI a)), (2, .int (nI ds.length)), (3, .int (nI 0))] ∧ (k ≤ ds.length) ∧ ((fi = 1 ∧ V = val10 (ds.take k) ∧ V ≤ 9223372036854775807) ∨ (fi = 0 ∧ V < 9223372036854775808 ∧ 9223372036854775807 < val10 (ds.take k)))) (fun (k, V, fi) => ds.length - k) (g := fun (k, V, fi) ls => F0 m 18 ls []) (x0 := (0, 0, 1)) (ls0 := ls) ?_ ⟨lv_sub hl [0, 1, 2, 3, 4, 5, 6] rfl, Nat.zero_le _, Or.inl ⟨rfl, rfl, by omega⟩⟩
    clear hl
    intro x9 ls hI ih_2
    obtain ⟨k, V, fi⟩ := x9
    obtain ⟨hl, hk, hv⟩ := hI
    refine W.eq (g2 := F0 m 18 ls []) rfl ?_
    refine lv_iload hx hb dX2_wholeLane_18 (lv_at hl 0 rfl) ?_
    refine lv_iload_n hx hb dX2_wholeLane_20 rfl (lv_at hl 5 rfl) ?_
    refine n_icmp_ge (tgt := 93) hx hb dX2_wholeLane_21 (by decide) (by omega) (by omega) (fun c_3 => ?_) (fun c_3 => ?_)
    · refine lv_iload hx hb dX2_wholeLane_93 (lv_at hl 1 rfl) ?_
      refine n_if_ne (tgt := 124) hx hb dX2_wholeLane_95 (by decide) (by omega) (fun c_4 => ?_) (fun c_4 => ?_)
      · refine lv_iconst (v := nI 0) hx hb dX2_wholeLane_124 (by decide) ?_
        refine lv_istore (lv' := [(7, .int (nI 0)), (6, .int (nI fi)), (4, .long (lN V)), (0, .ref (ad 3)), (1, .int (nI a)), (2, .int (nI ds.length)), (3, .int (nI 0))]) hx hb dX2_wholeLane_125 hl (by decide) rfl (fun ls hl => ?_)
        refine lv_iload hx hb dX2_wholeLane_127 (lv_at hl 1 rfl) ?_
        refine n_if_ne (tgt := 140) hx hb dX2_wholeLane_129 (by decide) (by omega) (fun c_5 => ?_) (fun c_5 => ?_)
        · refine lv_iload hx hb dX2_wholeLane_140 (lv_at hl 1 rfl) ?_
          refine n_if_eq (tgt := 174) hx hb dX2_wholeLane_142 (by decide) (by omega) (fun c_6 => ?_) (fun c_6 => ?_)
          · refine lv_iconst (v := nI 0) hx hb dX2_wholeLane_174 (by decide) ?_
            refine lv_istore (lv' := [(8, .int (nI 0)), (7, .int (nI 0)), (6, .int (nI fi)), (4, .long (lN V)), (0, .ref (ad 3)), (1, .int (nI a)), (2, .int (nI ds.length)), (3, .int (nI 0))]) hx hb dX2_wholeLane_175 hl (by decide) rfl (fun ls hl => ?_)
            refine lv_iload hx hb dX2_wholeLane_177 (lv_at hl 0 rfl) ?_
            refine n_if_eq (tgt := 186) hx hb dX2_wholeLane_179 (by decide) (by omega) (fun c_7 => ?_) (fun c_7 => absurd c_7 (by omega))
            refine lv_iconst (v := nI 5) hx hb dX2_wholeLane_186 (by decide) ?_
            exact ct_iretR (ty := .int) (v := (nI 5)) B rfl rfl (by
      have e9 : val10 (ds.take k) = val10 ds := by rw [show k = ds.length by omega, List.take_length]
      have e8 : (false = true) = False := by decide
      rw [wl, if_neg (by omega), if_neg (by simp only [e8, if_true, if_false, true_and, false_and, not_false_eq_true, and_true]; omega), if_neg (by simp only [e8, if_true, if_false, true_and, false_and, not_false_eq_true, and_true]; omega)]) dX2_wholeLane_187
          · refine lv_iload_n hx hb dX2_wholeLane_145 rfl (lv_at hl 5 rfl) ?_
            refine lv_bipush (v := nI 10) hx hb dX2_wholeLane_146 (by decide) ?_
            refine n_icmp_gt (tgt := 174) hx hb dX2_wholeLane_148 (by decide) (by omega) (by omega) (fun c_8 => ?_) (fun c_8 => ?_)
            · refine lv_iconst (v := nI 0) hx hb dX2_wholeLane_174 (by decide) ?_
              refine lv_istore (lv' := [(8, .int (nI 0)), (7, .int (nI 0)), (6, .int (nI fi)), (4, .long (lN V)), (0, .ref (ad 3)), (1, .int (nI a)), (2, .int (nI ds.length)), (3, .int (nI 0))]) hx hb dX2_wholeLane_175 hl (by decide) rfl (fun ls hl => ?_)
              refine lv_iload hx hb dX2_wholeLane_177 (lv_at hl 0 rfl) ?_
              refine n_if_eq (tgt := 186) hx hb dX2_wholeLane_179 (by decide) (by omega) (fun c_9 => ?_) (fun c_9 => absurd c_9 (by omega))
              refine lv_iconst (v := nI 5) hx hb dX2_wholeLane_186 (by decide) ?_
              exact ct_iretR (ty := .int) (v := (nI 5)) B rfl rfl (by
      have e9 : val10 (ds.take k) = val10 ds := by rw [show k = ds.length by omega, List.take_length]
      have e8 : (false = true) = False := by decide
      rw [wl, if_neg (by omega), if_neg (by simp only [e8, if_true, if_false, true_and, false_and, not_false_eq_true, and_true]; omega), if_neg (by simp only [e8, if_true, if_false, true_and, false_and, not_false_eq_true, and_true]; omega)]) dX2_wholeLane_187
            · refine lv_lload hx hb dX2_wholeLane_151 (lv_at hl 2 rfl) ?_
              refine lv_iload_n hx hb dX2_wholeLane_153 rfl (lv_at hl 6 rfl) ?_
              refine n_if_eq (tgt := 163) hx hb dX2_wholeLane_154 (by decide) (by omega) (fun c_10 => ?_) (fun c_10 => absurd c_10 (by omega))
              refine lv_ldc2 (v := lN 2147483647) hx hb B.2.2.1 (B.2.2.2.1 _ q525) dX2_wholeLane_163 ?_
              refine m_if_gt (tgt := 174) hx hb dX2_wholeLane_166 dX2_wholeLane_167 (by decide) (by omega) (by omega) (fun c_11 => ?_) (fun c_11 => ?_)
              · refine lv_iconst (v := nI 0) hx hb dX2_wholeLane_174 (by decide) ?_
                refine lv_istore (lv' := [(8, .int (nI 0)), (7, .int (nI 0)), (6, .int (nI fi)), (4, .long (lN V)), (0, .ref (ad 3)), (1, .int (nI a)), (2, .int (nI ds.length)), (3, .int (nI 0))]) hx hb dX2_wholeLane_175 hl (by decide) rfl (fun ls hl => ?_)
                refine lv_iload hx hb dX2_wholeLane_177 (lv_at hl 0 rfl) ?_
                refine n_if_eq (tgt := 186) hx hb dX2_wholeLane_179 (by decide) (by omega) (fun c_12 => ?_) (fun c_12 => absurd c_12 (by omega))
                refine lv_iconst (v := nI 5) hx hb dX2_wholeLane_186 (by decide) ?_
                exact ct_iretR (ty := .int) (v := (nI 5)) B rfl rfl (by
      have e9 : val10 (ds.take k) = val10 ds := by rw [show k = ds.length by omega, List.take_length]
      have e8 : (false = true) = False := by decide
      rw [wl, if_neg (by omega), if_neg (by simp only [e8, if_true, if_false, true_and, false_and, not_false_eq_true, and_true]; omega), if_neg (by simp only [e8, if_true, if_false, true_and, false_and, not_false_eq_true, and_true]; omega)]) dX2_wholeLane_187
              · refine lv_iconst (v := nI 1) hx hb dX2_wholeLane_170 (by decide) ?_
                refine lv_goto (tgt := 175) hx hb dX2_wholeLane_171 (by decide) ?_
                refine lv_istore (lv' := [(8, .int (nI 1)), (7, .int (nI 0)), (6, .int (nI fi)), (4, .long (lN V)), (0, .ref (ad 3)), (1, .int (nI a)), (2, .int (nI ds.length)), (3, .int (nI 0))]) hx hb dX2_wholeLane_175 hl (by decide) rfl (fun ls hl => ?_)
                refine lv_iload hx hb dX2_wholeLane_177 (lv_at hl 0 rfl) ?_
                refine n_if_eq (tgt := 186) hx hb dX2_wholeLane_179 (by decide) (by omega) (fun c_13 => absurd c_13 (by omega)) (fun c_13 => ?_)
                refine lv_iconst (v := nI 4) hx hb dX2_wholeLane_182 (by decide) ?_
                refine lv_goto (tgt := 187) hx hb dX2_wholeLane_183 (by decide) ?_
                exact ct_iretR (ty := .int) (v := (nI 4)) B rfl rfl (by
      have e9 : val10 (ds.take k) = val10 ds := by rw [show k = ds.length by omega, List.take_length]
      have e8 : (false = true) = False := by decide
      rw [wl, if_neg (by omega), if_neg (by simp only [e8, if_true, if_false, true_and, false_and, not_false_eq_true, and_true]; omega), if_pos (by simp only [e8, if_true, if_false, true_and, false_and, not_false_eq_true, and_true]; omega)]) dX2_wholeLane_187
        · refine lv_iload hx hb dX2_wholeLane_132 (lv_at hl 0 rfl) ?_
          refine n_if_ne (tgt := 140) hx hb dX2_wholeLane_134 (by decide) (by omega) (fun c_14 => absurd c_14 (by omega)) (fun c_14 => ?_)
          refine lv_bipush (v := nI 8) hx hb dX2_wholeLane_137 (by decide) ?_
          exact ct_iretR (ty := .int) (v := (nI 8)) B rfl rfl (by
      have e9 : val10 (ds.take k) = val10 ds := by rw [show k = ds.length by omega, List.take_length]
      have e8 : (false = true) = False := by decide
      rw [wl, if_neg (by omega), if_pos (by simp only [e8, if_true, if_false, true_and, false_and, not_false_eq_true, and_true]; omega)]) dX2_wholeLane_139
      · refine lv_iload_n hx hb dX2_wholeLane_98 rfl (lv_at hl 6 rfl) ?_
        refine n_if_eq (tgt := 124) hx hb dX2_wholeLane_99 (by decide) (by omega) (fun c_15 => ?_) (fun c_15 => absurd c_15 (by omega))
        refine lv_iconst (v := nI 0) hx hb dX2_wholeLane_124 (by decide) ?_
        refine lv_istore (lv' := [(7, .int (nI 0)), (6, .int (nI fi)), (4, .long (lN V)), (0, .ref (ad 3)), (1, .int (nI a)), (2, .int (nI ds.length)), (3, .int (nI 0))]) hx hb dX2_wholeLane_125 hl (by decide) rfl (fun ls hl => ?_)
        refine lv_iload hx hb dX2_wholeLane_127 (lv_at hl 1 rfl) ?_
        refine n_if_ne (tgt := 140) hx hb dX2_wholeLane_129 (by decide) (by omega) (fun c_16 => ?_) (fun c_16 => ?_)
        · refine lv_iload hx hb dX2_wholeLane_140 (lv_at hl 1 rfl) ?_
          refine n_if_eq (tgt := 174) hx hb dX2_wholeLane_142 (by decide) (by omega) (fun c_17 => ?_) (fun c_17 => ?_)
          · refine lv_iconst (v := nI 0) hx hb dX2_wholeLane_174 (by decide) ?_
            refine lv_istore (lv' := [(8, .int (nI 0)), (7, .int (nI 0)), (6, .int (nI fi)), (4, .long (lN V)), (0, .ref (ad 3)), (1, .int (nI a)), (2, .int (nI ds.length)), (3, .int (nI 0))]) hx hb dX2_wholeLane_175 hl (by decide) rfl (fun ls hl => ?_)
            refine lv_iload hx hb dX2_wholeLane_177 (lv_at hl 0 rfl) ?_
            refine n_if_eq (tgt := 186) hx hb dX2_wholeLane_179 (by decide) (by omega) (fun c_18 => ?_) (fun c_18 => absurd c_18 (by omega))
            refine lv_iconst (v := nI 5) hx hb dX2_wholeLane_186 (by decide) ?_
            exact ct_iretR (ty := .int) (v := (nI 5)) B rfl rfl (by
      have e9 : val10 (ds.take k) = val10 ds := by rw [show k = ds.length by omega, List.take_length]
      have e8 : (false = true) = False := by decide
      rw [wl, if_neg (by omega), if_neg (by simp only [e8, if_true, if_false, true_and, false_and, not_false_eq_true, and_true]; omega), if_neg (by simp only [e8, if_true, if_false, true_and, false_and, not_false_eq_true, and_true]; omega)]) dX2_wholeLane_187
          · refine lv_iload_n hx hb dX2_wholeLane_145 rfl (lv_at hl 5 rfl) ?_
            refine lv_bipush (v := nI 10) hx hb dX2_wholeLane_146 (by decide) ?_
            refine n_icmp_gt (tgt := 174) hx hb dX2_wholeLane_148 (by decide) (by omega) (by omega) (fun c_19 => ?_) (fun c_19 => ?_)
            · refine lv_iconst (v := nI 0) hx hb dX2_wholeLane_174 (by decide) ?_
              refine lv_istore (lv' := [(8, .int (nI 0)), (7, .int (nI 0)), (6, .int (nI fi)), (4, .long (lN V)), (0, .ref (ad 3)), (1, .int (nI a)), (2, .int (nI ds.length)), (3, .int (nI 0))]) hx hb dX2_wholeLane_175 hl (by decide) rfl (fun ls hl => ?_)
              refine lv_iload hx hb dX2_wholeLane_177 (lv_at hl 0 rfl) ?_
              refine n_if_eq (tgt := 186) hx hb dX2_wholeLane_179 (by decide) (by omega) (fun c_20 => ?_) (fun c_20 => absurd c_20 (by omega))
              refine lv_iconst (v := nI 5) hx hb dX2_wholeLane_186 (by decide) ?_
              exact ct_iretR (ty := .int) (v := (nI 5)) B rfl rfl (by
      have e9 : val10 (ds.take k) = val10 ds := by rw [show k = ds.length by omega, List.take_length]
      have e8 : (false = true) = False := by decide
      rw [wl, if_neg (by omega), if_neg (by simp only [e8, if_true, if_false, true_and, false_and, not_false_eq_true, and_true]; omega), if_neg (by simp only [e8, if_true, if_false, true_and, false_and, not_false_eq_true, and_true]; omega)]) dX2_wholeLane_187
            · refine lv_lload hx hb dX2_wholeLane_151 (lv_at hl 2 rfl) ?_
              refine lv_iload_n hx hb dX2_wholeLane_153 rfl (lv_at hl 6 rfl) ?_
              refine n_if_eq (tgt := 163) hx hb dX2_wholeLane_154 (by decide) (by omega) (fun c_21 => ?_) (fun c_21 => absurd c_21 (by omega))
              refine lv_ldc2 (v := lN 2147483647) hx hb B.2.2.1 (B.2.2.2.1 _ q525) dX2_wholeLane_163 ?_
              refine m_if_gt (tgt := 174) hx hb dX2_wholeLane_166 dX2_wholeLane_167 (by decide) (by omega) (by omega) (fun c_22 => ?_) (fun c_22 => ?_)
              · refine lv_iconst (v := nI 0) hx hb dX2_wholeLane_174 (by decide) ?_
                refine lv_istore (lv' := [(8, .int (nI 0)), (7, .int (nI 0)), (6, .int (nI fi)), (4, .long (lN V)), (0, .ref (ad 3)), (1, .int (nI a)), (2, .int (nI ds.length)), (3, .int (nI 0))]) hx hb dX2_wholeLane_175 hl (by decide) rfl (fun ls hl => ?_)
                refine lv_iload hx hb dX2_wholeLane_177 (lv_at hl 0 rfl) ?_
                refine n_if_eq (tgt := 186) hx hb dX2_wholeLane_179 (by decide) (by omega) (fun c_23 => ?_) (fun c_23 => absurd c_23 (by omega))
                refine lv_iconst (v := nI 5) hx hb dX2_wholeLane_186 (by decide) ?_
                exact ct_iretR (ty := .int) (v := (nI 5)) B rfl rfl (by
      have e9 : val10 (ds.take k) = val10 ds := by rw [show k = ds.length by omega, List.take_length]
      have e8 : (false = true) = False := by decide
      rw [wl, if_neg (by omega), if_neg (by simp only [e8, if_true, if_false, true_and, false_and, not_false_eq_true, and_true]; omega), if_neg (by simp only [e8, if_true, if_false, true_and, false_and, not_false_eq_true, and_true]; omega)]) dX2_wholeLane_187
              · refine lv_iconst (v := nI 1) hx hb dX2_wholeLane_170 (by decide) ?_
                refine lv_goto (tgt := 175) hx hb dX2_wholeLane_171 (by decide) ?_
                refine lv_istore (lv' := [(8, .int (nI 1)), (7, .int (nI 0)), (6, .int (nI fi)), (4, .long (lN V)), (0, .ref (ad 3)), (1, .int (nI a)), (2, .int (nI ds.length)), (3, .int (nI 0))]) hx hb dX2_wholeLane_175 hl (by decide) rfl (fun ls hl => ?_)
                refine lv_iload hx hb dX2_wholeLane_177 (lv_at hl 0 rfl) ?_
                refine n_if_eq (tgt := 186) hx hb dX2_wholeLane_179 (by decide) (by omega) (fun c_24 => absurd c_24 (by omega)) (fun c_24 => ?_)
                refine lv_iconst (v := nI 4) hx hb dX2_wholeLane_182 (by decide) ?_
                refine lv_goto (tgt := 187) hx hb dX2_wholeLane_183 (by decide) ?_
                exact ct_iretR (ty := .int) (v := (nI 4)) B rfl rfl (by
      have e9 : val10 (ds.take k) = val10 ds := by rw [show k = ds.length by omega, List.take_length]
      have e8 : (false = true) = False := by decide
      rw [wl, if_neg (by omega), if_neg (by simp only [e8, if_true, if_false, true_and, false_and, not_false_eq_true, and_true]; omega), if_pos (by simp only [e8, if_true, if_false, true_and, false_and, not_false_eq_true, and_true]; omega)]) dX2_wholeLane_187
        · refine lv_iload hx hb dX2_wholeLane_132 (lv_at hl 0 rfl) ?_
          refine n_if_ne (tgt := 140) hx hb dX2_wholeLane_134 (by decide) (by omega) (fun c_25 => absurd c_25 (by omega)) (fun c_25 => ?_)
          refine lv_bipush (v := nI 8) hx hb dX2_wholeLane_137 (by decide) ?_
          exact ct_iretR (ty := .int) (v := (nI 8)) B rfl rfl (by
      have e9 : val10 (ds.take k) = val10 ds := by rw [show k = ds.length by omega, List.take_length]
      have e8 : (false = true) = False := by decide
      rw [wl, if_neg (by omega), if_pos (by simp only [e8, if_true, if_false, true_and, false_and, not_false_eq_true, and_true]; omega)]) dX2_wholeLane_139
    · have hdk : isD (ds.getD k 0) := by rw [List.getD_eq_getElem?_getD, List.getElem?_eq_getElem (by omega : k < ds.length)]; exact hd _ (List.getElem_mem _)
      refine lv_aload_n hx hb dX2_wholeLane_24 rfl (lv_at hl 3 rfl) ?_
      refine ct_get (v := .ref (ad 4)) B hP kX2 3 rfl 1 (Nat.le_of_ble_eq_true rfl) q216 rfl dX2_wholeLane_25 ?_
      refine ct_getN (v := .ref (ad 5)) B hP kX3 4 rfl 0 (Nat.le_of_ble_eq_true rfl) ct_nw_0 rfl dX2_wholeLane_28 ?_
      refine lv_iload_n hx hb dX2_wholeLane_31 rfl (lv_at hl 4 rfl) ?_
      refine lv_iload hx hb dX2_wholeLane_32 (lv_at hl 0 rfl) ?_
      refine n_iadd hx hb dX2_wholeLane_34 ?_
      refine ct_bald (f := wb) B hP 5 rfl (by omega) (by omega) dX2_wholeLane_35 ?_
      refine W.eq (g2 := F0 m 36 ls [.int (nI (ds.getD k 0))]) (by rw [ht.1 k (by omega)]) ?_
      refine lv_bipush (v := nI 48) hx hb dX2_wholeLane_36 (by decide) ?_
      refine n_isub hx hb hdk.1 dX2_wholeLane_38 ?_
      refine lv_istore (lv' := [(8, .int (nI (ds.getD k 0 - 48))), (7, .int (nI k)), (6, .int (nI fi)), (4, .long (lN V)), (0, .ref (ad 3)), (1, .int (nI a)), (2, .int (nI ds.length)), (3, .int (nI 0))]) hx hb dX2_wholeLane_39 hl (by decide) rfl (fun ls hl => ?_)
      refine lv_iload hx hb dX2_wholeLane_41 (lv_at hl 2 rfl) ?_
      refine n_if_eq (tgt := 67) hx hb dX2_wholeLane_43 (by decide) (by omega) (fun c_26 => ?_) (fun c_26 => ?_)
      · refine lv_iconst (v := nI 0) hx hb dX2_wholeLane_67 (by decide) ?_
        refine lv_istore (lv' := [(6, .int (nI 0)), (8, .int (nI (ds.getD k 0 - 48))), (7, .int (nI k)), (4, .long (lN V)), (0, .ref (ad 3)), (1, .int (nI a)), (2, .int (nI ds.length)), (3, .int (nI 0))]) hx hb dX2_wholeLane_68 hl (by decide) rfl (fun ls hl => ?_)
        refine lv_iload hx hb dX2_wholeLane_70 (lv_at hl 0 rfl) ?_
        refine n_if_eq (tgt := 87) hx hb dX2_wholeLane_72 (by decide) (by omega) (fun c_27 => ?_) (fun c_27 => absurd c_27 (by omega))
        refine n_iinc (n := 1) (lv' := [(7, .int (nI (k + 1))), (6, .int (nI 0)), (8, .int (nI (ds.getD k 0 - 48))), (4, .long (lN V)), (0, .ref (ad 3)), (1, .int (nI a)), (2, .int (nI ds.length)), (3, .int (nI 0))]) hx hb dX2_wholeLane_87 hl (k := 2) rfl rfl (by decide) (by decide) rfl (fun ls hl => ?_)
        refine lv_goto (tgt := 18) hx hb dX2_wholeLane_90 (by decide) ?_
        exact ih_2 ((k + 1), V, 0) ls (by dsimp only; omega) ⟨lv_sub hl [0, 1, 3, 4, 5, 6, 7] rfl, by omega, (by have e9 := val10_S (t := ds) (k := k) (by omega); exact Or.inr ⟨rfl, by omega, by omega⟩)⟩
      · refine lv_lload hx hb dX2_wholeLane_46 (lv_at hl 3 rfl) ?_
        refine lv_ldc2 (v := lN 9223372036854775807) hx hb B.2.2.1 (B.2.2.2.1 _ q521) dX2_wholeLane_48 ?_
        refine lv_iload hx hb dX2_wholeLane_51 (lv_at hl 0 rfl) ?_
        refine lv_i2l (v := lN (ds.getD k 0 - 48)) hx hb dX2_wholeLane_53 (nI_l (by have := hdk.2; omega)) ?_
        refine m_lsub hx hb (by have := hdk.2; omega) dX2_wholeLane_54 ?_
        refine lv_ldc2 (v := lN 10) hx hb B.2.2.1 (B.2.2.2.1 _ q522) dX2_wholeLane_55 ?_
        refine m_ldiv hx hb (by omega) (by omega) (by omega) dX2_wholeLane_58 ?_
        refine m_if_gt (tgt := 67) hx hb dX2_wholeLane_59 dX2_wholeLane_60 (by decide) (by omega) (by have := hdk.2; omega) (fun cfit => ?_) (fun cfit => ?_)
        · refine lv_iconst (v := nI 0) hx hb dX2_wholeLane_67 (by decide) ?_
          refine lv_istore (lv' := [(6, .int (nI 0)), (8, .int (nI (ds.getD k 0 - 48))), (7, .int (nI k)), (4, .long (lN V)), (0, .ref (ad 3)), (1, .int (nI a)), (2, .int (nI ds.length)), (3, .int (nI 0))]) hx hb dX2_wholeLane_68 hl (by decide) rfl (fun ls hl => ?_)
          refine lv_iload hx hb dX2_wholeLane_70 (lv_at hl 0 rfl) ?_
          refine n_if_eq (tgt := 87) hx hb dX2_wholeLane_72 (by decide) (by omega) (fun c_28 => ?_) (fun c_28 => absurd c_28 (by omega))
          refine n_iinc (n := 1) (lv' := [(7, .int (nI (k + 1))), (6, .int (nI 0)), (8, .int (nI (ds.getD k 0 - 48))), (4, .long (lN V)), (0, .ref (ad 3)), (1, .int (nI a)), (2, .int (nI ds.length)), (3, .int (nI 0))]) hx hb dX2_wholeLane_87 hl (k := 2) rfl rfl (by decide) (by decide) rfl (fun ls hl => ?_)
          refine lv_goto (tgt := 18) hx hb dX2_wholeLane_90 (by decide) ?_
          exact ih_2 ((k + 1), V, 0) ls (by dsimp only; omega) ⟨lv_sub hl [0, 1, 3, 4, 5, 6, 7] rfl, by omega, (by have e9 := val10_S (t := ds) (k := k) (by omega); exact Or.inr ⟨rfl, by omega, by omega⟩)⟩
        · refine lv_iconst (v := nI 1) hx hb dX2_wholeLane_63 (by decide) ?_
          refine lv_goto (tgt := 68) hx hb dX2_wholeLane_64 (by decide) ?_
          refine lv_istore (lv' := [(6, .int (nI 1)), (8, .int (nI (ds.getD k 0 - 48))), (7, .int (nI k)), (4, .long (lN V)), (0, .ref (ad 3)), (1, .int (nI a)), (2, .int (nI ds.length)), (3, .int (nI 0))]) hx hb dX2_wholeLane_68 hl (by decide) rfl (fun ls hl => ?_)
          refine lv_iload hx hb dX2_wholeLane_70 (lv_at hl 0 rfl) ?_
          refine n_if_eq (tgt := 87) hx hb dX2_wholeLane_72 (by decide) (by omega) (fun c_29 => absurd c_29 (by omega)) (fun c_29 => ?_)
          refine lv_ldc2 (v := lN 10) hx hb B.2.2.1 (B.2.2.2.1 _ q522) dX2_wholeLane_75 ?_
          refine lv_lload hx hb dX2_wholeLane_78 (lv_at hl 3 rfl) ?_
          refine m_lmul hx hb dX2_wholeLane_80 ?_
          refine lv_iload hx hb dX2_wholeLane_81 (lv_at hl 1 rfl) ?_
          refine lv_i2l (v := lN (ds.getD k 0 - 48)) hx hb dX2_wholeLane_83 (nI_l (by have := hdk.2; omega)) ?_
          refine m_ladd hx hb dX2_wholeLane_84 ?_
          refine lv_lstore (lv' := [(4, .long (lN (10 * V + (ds.getD k 0 - 48)))), (6, .int (nI 1)), (8, .int (nI (ds.getD k 0 - 48))), (7, .int (nI k)), (0, .ref (ad 3)), (1, .int (nI a)), (2, .int (nI ds.length)), (3, .int (nI 0))]) hx hb dX2_wholeLane_85 hl (by decide) rfl (fun ls hl => ?_)
          refine n_iinc (n := 1) (lv' := [(7, .int (nI (k + 1))), (4, .long (lN (10 * V + (ds.getD k 0 - 48)))), (6, .int (nI 1)), (8, .int (nI (ds.getD k 0 - 48))), (0, .ref (ad 3)), (1, .int (nI a)), (2, .int (nI ds.length)), (3, .int (nI 0))]) hx hb dX2_wholeLane_87 hl (k := 3) rfl rfl (by decide) (by decide) rfl (fun ls hl => ?_)
          refine lv_goto (tgt := 18) hx hb dX2_wholeLane_90 (by decide) ?_
          exact ih_2 ((k + 1), (10 * V + (ds.getD k 0 - 48)), 1) ls (by dsimp only; omega) ⟨lv_sub hl [0, 2, 1, 4, 5, 6, 7] rfl, by omega, (by have e9 := val10_S (t := ds) (k := k) (by omega); exact Or.inl ⟨rfl, by omega, by omega⟩)⟩
  · refine lv_bipush (v := nI 8) hx hb dX2_wholeLane_6 (by decide) ?_
    exact ct_iretR (ty := .int) (v := (nI 8)) B rfl rfl (by rw [wl, if_pos (by omega)]) dX2_wholeLane_8
