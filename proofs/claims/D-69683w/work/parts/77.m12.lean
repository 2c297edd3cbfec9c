set_option maxHeartbeats 4000000 in
set_option maxRecDepth 100000 in
theorem met_X6_isWholeWord (l : Launch) (E : CE) (A0 : Nat → Prop) (a ln : Nat) (t : List Nat) (sz : Nat) (hln : ln = 4 ∨ ln = 5) : Met l yX6_isWholeWord (ws_ yX6_isWholeWord cX6_isWholeWord 8 (some .boolean)) { frames := 5, cells := 0, slots := 0, locals := 110 } (ctP E [.ref a, .int (nI ln)] sz (fun H => ct_S E A0 H a t)) (ctR (fun v => v = some (.int (if whW t ln then 1 else 0)))) 0 0 (fun _ => False) := by
  refine ct_start (by decide) (Nat.le_of_ble_eq_true rfl) ?_
  intro p e s m below meth c ls B hsz hH hl
  have hS0 := hH
  have hx := B.1
  have hb := B.2.1
  have hl : lv_has ls 8 [(0, .ref a), (1, .int (nI ln))] := hl
  obtain ⟨v0, hV0⟩ := hS0.val
  have hs0 := hS0.small
  have hfb := frT_le t
  refine lv_aload_n hx hb dX6_isWholeWord_0 rfl (lv_at hl 0 rfl) ?_
  refine lv_iconst (v := nI 0) hx hb dX6_isWholeWord_1 (by decide) ?_
  refine ct_callR (ct_runS (As := [.ref a, .int (nI 0)]) (rest := []) B (met_X6_digits_false l E _ a t s.heap.size) (lw_S q1186 q1187 q54 q1188) (n := 2) ⟨by decide, by decide, by decide +kernel⟩ rfl ⟨rfl, rfl, (Nat.le_of_ble_eq_true rfl), (Nat.le_of_ble_eq_true rfl), (Nat.le_of_ble_eq_true rfl), (Nat.le_of_ble_eq_true rfl)⟩ (va_S.rf (A := fun _ => False)) (fun _ h => h.elim) hV0.str hl.1 (Nat.le_of_ble_eq_true rfl) dX6_isWholeWord_2) (fun v hv => ?_)
  subst hv
  refine W.eq (g2 := F0 m 5 ls [.int (dgV false t)]) rfl ?_
  by_cases hdg : frT t < t.length ∧ dEnd t (frT t) = t.length
  · refine W.eq (g2 := F0 m 5 ls [.int (nI (t.length - frT t))]) (by rw [dgF_y hdg]) ?_
    have hall := dEnd_all hfb.1 hdg.2
    refine lv_istore_n (lv' := [(2, .int (nI (t.length - frT t))), (0, .ref a), (1, .int (nI ln))]) hx hb dX6_isWholeWord_5 rfl hl (by decide) rfl (fun ls hl => ?_)
    refine lv_iload_n hx hb dX6_isWholeWord_6 rfl (lv_at hl 0 rfl) ?_
    refine n_if_lt hx hb dX6_isWholeWord_7 (by omega) ?_
    refine lv_iload_n hx hb dX6_isWholeWord_10 rfl (lv_at hl 0 rfl) ?_
    refine lv_iload_n hx hb dX6_isWholeWord_11 rfl (lv_at hl 2 rfl) ?_
    refine lv_iconst (v := nI 4) hx hb dX6_isWholeWord_12 (by decide) ?_
    refine n_icmp_ne (tgt := 21) hx hb dX6_isWholeWord_13 (by decide) (by omega) (by omega) (fun c4 => ?_) (fun c4 => ?_)
    · refine lv_bipush (v := nI 19) hx hb dX6_isWholeWord_21 (by decide) ?_
      refine n_icmp_le (tgt := 28) hx hb dX6_isWholeWord_23 (by decide) (by omega) (by omega) (fun clen => ?_) (fun clen => ?_)
      · refine lv_aload_n hx hb dX6_isWholeWord_28 rfl (lv_at hl 1 rfl) ?_
        refine lv_iconst (v := nI 0) hx hb dX6_isWholeWord_29 (by decide) ?_
        refine ct_callR (ct_runV (As := [.int (nI 0)]) (rest := []) B (met_J4_charAt l E  _ a 0 t s.heap.size (by omega)) (lw_V q1190 q476 q477 q58 q478) (n := 1) ⟨by decide, by decide, by decide +kernel⟩ rfl ⟨rfl, rfl, (Nat.le_of_ble_eq_true rfl), (Nat.le_of_ble_eq_true rfl), (Nat.le_of_ble_eq_true rfl), (Nat.le_of_ble_eq_true rfl)⟩ (va_S.rf (A := fun _ => False)) (fun _ h => h.elim) (ct_Srecv B hV0.str) hV0.str hl.1 (Nat.le_of_ble_eq_true rfl) dX6_isWholeWord_30) (fun v hv => ?_)
        subst hv
        refine W.eq (g2 := F0 m 33 ls [.int (nI (t.getD 0 0))]) rfl ?_
        refine lv_bipush (v := nI 45) hx hb dX6_isWholeWord_33 (by decide) ?_
        refine n_icmp_ne (tgt := 42) hx hb dX6_isWholeWord_35 (by decide) (by have := tx_lt hs0.2 0; omega) (by omega) (fun c45 => ?_) (fun c45 => ?_)
        · refine lv_iconst (v := nI 0) hx hb dX6_isWholeWord_42 (by decide) ?_
          have hfr : frT t = 0 := by unfold frT; rw [if_neg c45]
          rw [hfr] at hall hdg hfb clen
          have hlr : (t.drop 0).length = t.length - 0 := List.length_drop
          refine lv_istore_n (lv' := [(3, .int (nI 0)), (2, .int (nI (t.length - frT t))), (0, .ref a), (1, .int (nI ln))]) hx hb dX6_isWholeWord_43 rfl hl (by decide) rfl (fun ls hl => ?_)
          refine lv_lconst (v := 0) hx hb dX6_isWholeWord_44 (by decide) ?_
          refine W.eq (g2 := F0 m 45 ls [.long (-lN 0)]) (by rw [show (0 : Int64) = -lN 0 from by decide] <;> rfl) ?_
          refine lv_lstore (lv' := [(4, .long (-lN 0)), (3, .int (nI 0)), (2, .int (nI (t.length - frT t))), (0, .ref a), (1, .int (nI ln))]) hx hb dX6_isWholeWord_45 hl (by decide) rfl (fun ls hl => ?_)
          refine lv_iload_n hx hb dX6_isWholeWord_47 rfl (lv_at hl 1 rfl) ?_
          refine n_if_eq (tgt := 55) hx hb dX6_isWholeWord_48 (by decide) (by omega) (fun c_2 => ?_) (fun c_2 => absurd c_2 (by omega))
          refine lv_iconst (v := nI 0) hx hb dX6_isWholeWord_55 (by decide) ?_
          refine lv_istore (lv' := [(6, .int (nI 0)), (4, .long (-lN 0)), (3, .int (nI 0)), (2, .int (nI (t.length - frT t))), (0, .ref a), (1, .int (nI ln))]) hx hb dX6_isWholeWord_56 hl (by decide) rfl (fun ls hl => ?_)
          refine ct_loop (σ := Nat × Nat) (fun (k, V) ls => lv_has ls 8 [(6, .int (nI k)), (4, .long (-lN V)), (3, .int (nI 0)), (2, .int (nI (t.length - frT t))), (0, .ref a), (1, .int (nI ln))] ∧ (0 ≤ k ∧ k ≤ t.length) ∧ (V = val10 ((t.drop 0).take (k - 0)) ∧ V ≤ 9223372036854775808)) (fun (k, V) => t.length - k) (g := fun (k, V) ls => F0 m 58 ls []) (x0 := (0, 0)) (ls0 := ls) ?_ ⟨lv_sub hl [0, 1, 2, 3, 4, 5] rfl, ⟨by omega, by omega⟩, ⟨rfl, by omega⟩⟩
          clear hl
          intro x9 ls hI ih_3
          obtain ⟨k, V⟩ := x9
          obtain ⟨hl, hk, hV⟩ := hI
          refine W.eq (g2 := F0 m 58 ls []) rfl ?_
          refine lv_iload hx hb dX6_isWholeWord_58 (lv_at hl 0 rfl) ?_
          refine lv_aload_n hx hb dX6_isWholeWord_60 rfl (lv_at hl 4 rfl) ?_
          refine ct_callR (ct_runV (As := []) (rest := [.int (nI k)]) B (met_J4_length l E  _ a t s.heap.size) (lw_V q1189 q466 q467 q58 q468) (n := 0) ⟨by decide, by decide, by decide +kernel⟩ rfl ⟨rfl, rfl, (Nat.le_of_ble_eq_true rfl), (Nat.le_of_ble_eq_true rfl), (Nat.le_of_ble_eq_true rfl), (Nat.le_of_ble_eq_true rfl)⟩ (va_S.rf (A := fun _ => False)) (fun _ h => h.elim) (ct_Srecv B hV0.str) hV0.str hl.1 (Nat.le_of_ble_eq_true rfl) dX6_isWholeWord_61) (fun v hv => ?_)
          subst hv
          refine W.eq (g2 := F0 m 64 ls [.int (nI t.length), .int (nI k)]) rfl ?_
          refine n_icmp_ge (tgt := 115) hx hb dX6_isWholeWord_64 (by decide) (by omega) (by omega) (fun cend => ?_) (fun cend => ?_)
          · have hVt : V = val10 (t.drop 0) := by rw [hV.1, List.take_of_length_le (by rw [hlr]; omega)]
            refine lv_iload_n hx hb dX6_isWholeWord_115 rfl (lv_at hl 2 rfl) ?_
            refine n_if_ne (tgt := 130) hx hb dX6_isWholeWord_116 (by decide) (by omega) (fun c_4 => absurd c_4 (by omega)) (fun c_4 => ?_)
            refine lv_lload hx hb dX6_isWholeWord_119 (lv_at hl 1 rfl) ?_
            refine lv_ldc2 (v := (-9223372036854775808)) hx hb B.2.2.1 (B.2.2.2.1 _ q1197) dX6_isWholeWord_121 ?_
            refine l_if_ne (tgt := 130) hx hb dX6_isWholeWord_124 dX6_isWholeWord_125 (by decide) (fun cmin => ?_) (fun cmin => ?_)
            · refine lv_iload_n hx hb dX6_isWholeWord_130 rfl (lv_at hl 2 rfl) ?_
              refine n_if_eq (tgt := 139) hx hb dX6_isWholeWord_131 (by decide) (by omega) (fun c_5 => ?_) (fun c_5 => absurd c_5 (by omega))
              refine lv_lload hx hb dX6_isWholeWord_139 (lv_at hl 1 rfl) ?_
              refine lv_lneg hx hb dX6_isWholeWord_141 ?_
              refine lv_lstore (lv' := [(6, .long (-(-lN V))), (4, .long (-lN V)), (3, .int (nI 0)), (2, .int (nI (t.length - frT t))), (0, .ref a), (1, .int (nI ln))]) hx hb dX6_isWholeWord_142 hl (by decide) rfl (fun ls hl => ?_)
              refine lv_iload_n hx hb dX6_isWholeWord_144 rfl (lv_at hl 5 rfl) ?_
              refine lv_iconst (v := nI 5) hx hb dX6_isWholeWord_145 (by decide) ?_
              refine n_icmp_eq (tgt := 159) hx hb dX6_isWholeWord_146 (by decide) (by omega) (by omega) (fun c5 => ?_) (fun c5 => ?_)
              · refine lv_iconst (v := nI 1) hx hb dX6_isWholeWord_159 (by decide) ?_
                refine lv_goto (tgt := 164) hx hb dX6_isWholeWord_160 (by decide) ?_
                exact ct_iretR (ty := .boolean) (v := (nI 1)) B rfl rfl (by rw [if_pos ⟨by rw [hfr]; exact hdg, by rw [hfr]; rcases (wl_5 (decide ((0 : Nat) = 1)) (t.drop 0)).mpr ⟨by rw [hlr]; omega, by rw [← hVt]; exact Or.inl (by have := (not_congr (w_min hV.2)).mp cmin; have := hV.2; omega)⟩ with y9 | y9; exact Or.inl y9; exact Or.inr ⟨c5, y9⟩⟩] <;> rfl) dX6_isWholeWord_164
              · refine lv_lload hx hb dX6_isWholeWord_149 (lv_at hl 0 rfl) ?_
                refine lv_lload hx hb dX6_isWholeWord_151 (lv_at hl 0 rfl) ?_
                refine lv_l2i (v := (-(-lN V)).toInt32) hx hb dX6_isWholeWord_153 rfl ?_
                refine lv_i2l (v := ((-(-lN V)).toInt32).toInt64) hx hb dX6_isWholeWord_154 rfl ?_
                refine l_if_ne (tgt := 163) hx hb dX6_isWholeWord_155 dX6_isWholeWord_156 (by decide) (fun c32 => ?_) (fun c32 => ?_)
                · refine lv_iconst (v := nI 0) hx hb dX6_isWholeWord_163 (by decide) ?_
                  exact ct_iretR (ty := .boolean) (v := (nI 0)) B rfl rfl (by rw [if_neg (fun z9 => by rcases z9.2 with y9 | y9; have h5 := ((wl_4 _ _).mp y9).2; rw [hfr, ← hVt, if_neg (by decide)] at h5; exact c32 ((wi_p (by have := (not_congr (w_min hV.2)).mp cmin; have := hV.2; omega)).mpr h5); exact c5 y9.1)] <;> rfl) dX6_isWholeWord_164
                · refine lv_iconst (v := nI 1) hx hb dX6_isWholeWord_159 (by decide) ?_
                  refine lv_goto (tgt := 164) hx hb dX6_isWholeWord_160 (by decide) ?_
                  exact ct_iretR (ty := .boolean) (v := (nI 1)) B rfl rfl (by rw [if_pos ⟨by rw [hfr]; exact hdg, by rw [hfr]; exact Or.inl ((wl_4 _ _).mpr ⟨by rw [hlr]; omega, by rw [← hVt, if_neg (by decide)]; exact (wi_p (by have := (not_congr (w_min hV.2)).mp cmin; have := hV.2; omega)).mp c32⟩)⟩] <;> rfl) dX6_isWholeWord_164
            · refine lv_iconst (v := nI 0) hx hb dX6_isWholeWord_128 (by decide) ?_
              exact ct_iretR (ty := .boolean) (v := (nI 0)) B rfl rfl (by rw [if_neg (fun z9 => by have h5 := ((wl_5 _ _).mp (by rcases z9.2 with y9 | y9; exact Or.inl y9; exact Or.inr y9.2)).2; rw [hfr, ← hVt] at h5; have h6 := (w_min hV.2).mp cmin; rcases h5 with y9 | y9; omega; exact absurd y9.1 (show ¬ (decide ((0 : Nat) = 1) = true) by decide))] <;> rfl) dX6_isWholeWord_129
          · have hdk : isD (t.getD k 0) := hall _ (by rw [List.getD_eq_getElem?_getD, List.getElem?_eq_getElem (show k < t.length by omega)]; exact List.mem_iff_getElem.mpr ⟨k - 0, by rw [hlr]; omega, by rw [List.getElem_drop]; congr 1; omega⟩)
            obtain ⟨hd1, hd2⟩ := hdk
            refine lv_aload_n hx hb dX6_isWholeWord_67 rfl (lv_at hl 4 rfl) ?_
            refine lv_iload hx hb dX6_isWholeWord_68 (lv_at hl 0 rfl) ?_
            refine ct_callR (ct_runV (As := [.int (nI k)]) (rest := []) B (met_J4_charAt l E  _ a k t s.heap.size (by omega)) (lw_V q1190 q476 q477 q58 q478) (n := 1) ⟨by decide, by decide, by decide +kernel⟩ rfl ⟨rfl, rfl, (Nat.le_of_ble_eq_true rfl), (Nat.le_of_ble_eq_true rfl), (Nat.le_of_ble_eq_true rfl), (Nat.le_of_ble_eq_true rfl)⟩ (va_S.rf (A := fun _ => False)) (fun _ h => h.elim) (ct_Srecv B hV0.str) hV0.str hl.1 (Nat.le_of_ble_eq_true rfl) dX6_isWholeWord_70) (fun v hv => ?_)
            subst hv
            refine W.eq (g2 := F0 m 73 ls [.int (nI (t.getD k 0))]) rfl ?_
            refine lv_bipush (v := nI 48) hx hb dX6_isWholeWord_73 (by decide) ?_
            refine n_isub hx hb (by omega) dX6_isWholeWord_75 ?_
            refine lv_istore (lv' := [(7, .int (nI (t.getD k 0 - 48))), (6, .int (nI k)), (4, .long (-lN V)), (3, .int (nI 0)), (2, .int (nI (t.length - frT t))), (0, .ref a), (1, .int (nI ln))]) hx hb dX6_isWholeWord_76 hl (by decide) rfl (fun ls hl => ?_)
            refine lv_lload hx hb dX6_isWholeWord_78 (lv_at hl 2 rfl) ?_
            refine lv_ldc2 (v := (-9223372036854775808)) hx hb B.2.2.1 (B.2.2.2.1 _ q1197) dX6_isWholeWord_80 ?_
            refine lv_iload hx hb dX6_isWholeWord_83 (lv_at hl 0 rfl) ?_
            refine lv_i2l (v := (nI (t.getD k 0 - 48)).toInt64) hx hb dX6_isWholeWord_85 rfl ?_
            refine lv_ladd hx hb dX6_isWholeWord_86 ?_
            refine lv_ldc2 (v := (10)) hx hb B.2.2.1 (B.2.2.2.1 _ q1198) dX6_isWholeWord_87 ?_
            refine lv_ldiv hx hb dX6_isWholeWord_90 (by decide) ?_
            refine l_if_ge (tgt := 97) hx hb dX6_isWholeWord_91 dX6_isWholeWord_92 (by decide) (fun cw => ?_) (fun cw => ?_)
            · have hcw : ¬ 9223372036854775808 < 10 * V + (t.getD k 0 - 48) := (not_congr (wq hV.2 (by omega))).mp (Int64.not_lt.mpr cw)
              refine lv_ldc2 (v := (10)) hx hb B.2.2.1 (B.2.2.2.1 _ q1198) dX6_isWholeWord_97 ?_
              refine lv_lload hx hb dX6_isWholeWord_100 (lv_at hl 2 rfl) ?_
              refine lv_lmul hx hb dX6_isWholeWord_102 ?_
              refine lv_iload hx hb dX6_isWholeWord_103 (lv_at hl 0 rfl) ?_
              refine lv_i2l (v := (nI (t.getD k 0 - 48)).toInt64) hx hb dX6_isWholeWord_105 rfl ?_
              refine lv_lsub hx hb dX6_isWholeWord_106 ?_
              refine W.eq (g2 := F0 m 107 ls [.long (-lN (10 * V + (t.getD k 0 - 48)))]) (by rw [(lneg_S2 (by omega))]) ?_
              refine lv_lstore (lv' := [(4, .long (-lN (10 * V + (t.getD k 0 - 48)))), (7, .int (nI (t.getD k 0 - 48))), (6, .int (nI k)), (3, .int (nI 0)), (2, .int (nI (t.length - frT t))), (0, .ref a), (1, .int (nI ln))]) hx hb dX6_isWholeWord_107 hl (by decide) rfl (fun ls hl => ?_)
              refine n_iinc (n := 1) (lv' := [(6, .int (nI (k + 1))), (4, .long (-lN (10 * V + (t.getD k 0 - 48)))), (7, .int (nI (t.getD k 0 - 48))), (3, .int (nI 0)), (2, .int (nI (t.length - frT t))), (0, .ref a), (1, .int (nI ln))]) hx hb dX6_isWholeWord_109 hl (k := 2) rfl rfl (by decide) (by decide) rfl (fun ls hl => ?_)
              refine lv_goto (tgt := 58) hx hb dX6_isWholeWord_112 (by decide) ?_
              exact ih_3 ((k + 1), (10 * V + (t.getD k 0 - 48))) ls (by dsimp only; omega) ⟨lv_sub hl [0, 1, 3, 4, 5, 6] rfl, ⟨by omega, by omega⟩, ⟨by rw [v10_S hk.1 (by omega), ← hV.1], by omega⟩⟩
            · refine lv_iconst (v := nI 0) hx hb dX6_isWholeWord_95 (by decide) ?_
              exact ct_iretR (ty := .boolean) (v := (nI 0)) B rfl rfl (by rw [if_neg (fun z9 => by have h5 := ((wl_5 _ _).mp (by rcases z9.2 with y9 | y9; exact Or.inl y9; exact Or.inr y9.2)).2; rw [hfr] at h5; have h6 := val10_le (t := t.drop 0) (k := k + 1 - 0) (by rw [hlr]; omega); rw [v10_S hk.1 (by omega), ← hV.1] at h6; have h7 := (wq hV.2 (by omega)).mp cw; omega)] <;> rfl) dX6_isWholeWord_96
        · refine lv_iconst (v := nI 1) hx hb dX6_isWholeWord_38 (by decide) ?_
          refine lv_goto (tgt := 43) hx hb dX6_isWholeWord_39 (by decide) ?_
          have hfr : frT t = 1 := by unfold frT; rw [if_pos c45]
          rw [hfr] at hall hdg hfb clen
          have hlr : (t.drop 1).length = t.length - 1 := List.length_drop
          refine lv_istore_n (lv' := [(3, .int (nI 1)), (2, .int (nI (t.length - frT t))), (0, .ref a), (1, .int (nI ln))]) hx hb dX6_isWholeWord_43 rfl hl (by decide) rfl (fun ls hl => ?_)
          refine lv_lconst (v := 0) hx hb dX6_isWholeWord_44 (by decide) ?_
          refine W.eq (g2 := F0 m 45 ls [.long (-lN 0)]) (by rw [show (0 : Int64) = -lN 0 from by decide] <;> rfl) ?_
          refine lv_lstore (lv' := [(4, .long (-lN 0)), (3, .int (nI 1)), (2, .int (nI (t.length - frT t))), (0, .ref a), (1, .int (nI ln))]) hx hb dX6_isWholeWord_45 hl (by decide) rfl (fun ls hl => ?_)
          refine lv_iload_n hx hb dX6_isWholeWord_47 rfl (lv_at hl 1 rfl) ?_
          refine n_if_eq (tgt := 55) hx hb dX6_isWholeWord_48 (by decide) (by omega) (fun c_6 => absurd c_6 (by omega)) (fun c_6 => ?_)
          refine lv_iconst (v := nI 1) hx hb dX6_isWholeWord_51 (by decide) ?_
          refine lv_goto (tgt := 56) hx hb dX6_isWholeWord_52 (by decide) ?_
          refine lv_istore (lv' := [(6, .int (nI 1)), (4, .long (-lN 0)), (3, .int (nI 1)), (2, .int (nI (t.length - frT t))), (0, .ref a), (1, .int (nI ln))]) hx hb dX6_isWholeWord_56 hl (by decide) rfl (fun ls hl => ?_)
          refine ct_loop (σ := Nat × Nat) (fun (k, V) ls => lv_has ls 8 [(6, .int (nI k)), (4, .long (-lN V)), (3, .int (nI 1)), (2, .int (nI (t.length - frT t))), (0, .ref a), (1, .int (nI ln))] ∧ (1 ≤ k ∧ k ≤ t.length) ∧ (V = val10 ((t.drop 1).take (k - 1)) ∧ V ≤ 9223372036854775808)) (fun (k, V) => t.length - k) (g := fun (k, V) ls => F0 m 58 ls []) (x0 := (1, 0)) (ls0 := ls) ?_ ⟨lv_sub hl [0, 1, 2, 3, 4, 5] rfl, ⟨by omega, by omega⟩, ⟨rfl, by omega⟩⟩
          clear hl
          intro x9 ls hI ih_7
          obtain ⟨k, V⟩ := x9
          obtain ⟨hl, hk, hV⟩ := hI
          refine W.eq (g2 := F0 m 58 ls []) rfl ?_
          refine lv_iload hx hb dX6_isWholeWord_58 (lv_at hl 0 rfl) ?_
          refine lv_aload_n hx hb dX6_isWholeWord_60 rfl (lv_at hl 4 rfl) ?_
          refine ct_callR (ct_runV (As := []) (rest := [.int (nI k)]) B (met_J4_length l E  _ a t s.heap.size) (lw_V q1189 q466 q467 q58 q468) (n := 0) ⟨by decide, by decide, by decide +kernel⟩ rfl ⟨rfl, rfl, (Nat.le_of_ble_eq_true rfl), (Nat.le_of_ble_eq_true rfl), (Nat.le_of_ble_eq_true rfl), (Nat.le_of_ble_eq_true rfl)⟩ (va_S.rf (A := fun _ => False)) (fun _ h => h.elim) (ct_Srecv B hV0.str) hV0.str hl.1 (Nat.le_of_ble_eq_true rfl) dX6_isWholeWord_61) (fun v hv => ?_)
          subst hv
          refine W.eq (g2 := F0 m 64 ls [.int (nI t.length), .int (nI k)]) rfl ?_
          refine n_icmp_ge (tgt := 115) hx hb dX6_isWholeWord_64 (by decide) (by omega) (by omega) (fun cend => ?_) (fun cend => ?_)
          · have hVt : V = val10 (t.drop 1) := by rw [hV.1, List.take_of_length_le (by rw [hlr]; omega)]
            refine lv_iload_n hx hb dX6_isWholeWord_115 rfl (lv_at hl 2 rfl) ?_
            refine n_if_ne (tgt := 130) hx hb dX6_isWholeWord_116 (by decide) (by omega) (fun c_8 => ?_) (fun c_8 => absurd c_8 (by omega))
            refine lv_iload_n hx hb dX6_isWholeWord_130 rfl (lv_at hl 2 rfl) ?_
            refine n_if_eq (tgt := 139) hx hb dX6_isWholeWord_131 (by decide) (by omega) (fun c_9 => absurd c_9 (by omega)) (fun c_9 => ?_)
            refine lv_lload hx hb dX6_isWholeWord_134 (lv_at hl 1 rfl) ?_
            refine lv_goto (tgt := 142) hx hb dX6_isWholeWord_136 (by decide) ?_
            refine lv_lstore (lv' := [(6, .long (-lN V)), (4, .long (-lN V)), (3, .int (nI 1)), (2, .int (nI (t.length - frT t))), (0, .ref a), (1, .int (nI ln))]) hx hb dX6_isWholeWord_142 hl (by decide) rfl (fun ls hl => ?_)
            refine lv_iload_n hx hb dX6_isWholeWord_144 rfl (lv_at hl 5 rfl) ?_
            refine lv_iconst (v := nI 5) hx hb dX6_isWholeWord_145 (by decide) ?_
            refine n_icmp_eq (tgt := 159) hx hb dX6_isWholeWord_146 (by decide) (by omega) (by omega) (fun c5 => ?_) (fun c5 => ?_)
            · refine lv_iconst (v := nI 1) hx hb dX6_isWholeWord_159 (by decide) ?_
              refine lv_goto (tgt := 164) hx hb dX6_isWholeWord_160 (by decide) ?_
              exact ct_iretR (ty := .boolean) (v := (nI 1)) B rfl rfl (by rw [if_pos ⟨by rw [hfr]; exact hdg, by rw [hfr]; rcases (wl_5 (decide ((1 : Nat) = 1)) (t.drop 1)).mpr ⟨by rw [hlr]; omega, by rw [← hVt]; rcases Nat.lt_or_eq_of_le hV.2 with y9 | y9; exact Or.inl y9; exact Or.inr ⟨rfl, y9⟩⟩ with y9 | y9; exact Or.inl y9; exact Or.inr ⟨c5, y9⟩⟩] <;> rfl) dX6_isWholeWord_164
            · refine lv_lload hx hb dX6_isWholeWord_149 (lv_at hl 0 rfl) ?_
              refine lv_lload hx hb dX6_isWholeWord_151 (lv_at hl 0 rfl) ?_
              refine lv_l2i (v := (-lN V).toInt32) hx hb dX6_isWholeWord_153 rfl ?_
              refine lv_i2l (v := ((-lN V).toInt32).toInt64) hx hb dX6_isWholeWord_154 rfl ?_
              refine l_if_ne (tgt := 163) hx hb dX6_isWholeWord_155 dX6_isWholeWord_156 (by decide) (fun c32 => ?_) (fun c32 => ?_)
              · refine lv_iconst (v := nI 0) hx hb dX6_isWholeWord_163 (by decide) ?_
                exact ct_iretR (ty := .boolean) (v := (nI 0)) B rfl rfl (by rw [if_neg (fun z9 => by rcases z9.2 with y9 | y9; have h5 := ((wl_4 _ _).mp y9).2; rw [hfr, ← hVt, if_pos (by decide)] at h5; exact c32 ((wi_m hV.2).mpr h5); exact c5 y9.1)] <;> rfl) dX6_isWholeWord_164
              · refine lv_iconst (v := nI 1) hx hb dX6_isWholeWord_159 (by decide) ?_
                refine lv_goto (tgt := 164) hx hb dX6_isWholeWord_160 (by decide) ?_
                exact ct_iretR (ty := .boolean) (v := (nI 1)) B rfl rfl (by rw [if_pos ⟨by rw [hfr]; exact hdg, by rw [hfr]; exact Or.inl ((wl_4 _ _).mpr ⟨by rw [hlr]; omega, by rw [← hVt, if_pos (by decide)]; exact (wi_m hV.2).mp c32⟩)⟩] <;> rfl) dX6_isWholeWord_164
          · have hdk : isD (t.getD k 0) := hall _ (by rw [List.getD_eq_getElem?_getD, List.getElem?_eq_getElem (show k < t.length by omega)]; exact List.mem_iff_getElem.mpr ⟨k - 1, by rw [hlr]; omega, by rw [List.getElem_drop]; congr 1; omega⟩)
            obtain ⟨hd1, hd2⟩ := hdk
            refine lv_aload_n hx hb dX6_isWholeWord_67 rfl (lv_at hl 4 rfl) ?_
            refine lv_iload hx hb dX6_isWholeWord_68 (lv_at hl 0 rfl) ?_
            refine ct_callR (ct_runV (As := [.int (nI k)]) (rest := []) B (met_J4_charAt l E  _ a k t s.heap.size (by omega)) (lw_V q1190 q476 q477 q58 q478) (n := 1) ⟨by decide, by decide, by decide +kernel⟩ rfl ⟨rfl, rfl, (Nat.le_of_ble_eq_true rfl), (Nat.le_of_ble_eq_true rfl), (Nat.le_of_ble_eq_true rfl), (Nat.le_of_ble_eq_true rfl)⟩ (va_S.rf (A := fun _ => False)) (fun _ h => h.elim) (ct_Srecv B hV0.str) hV0.str hl.1 (Nat.le_of_ble_eq_true rfl) dX6_isWholeWord_70) (fun v hv => ?_)
            subst hv
            refine W.eq (g2 := F0 m 73 ls [.int (nI (t.getD k 0))]) rfl ?_
            refine lv_bipush (v := nI 48) hx hb dX6_isWholeWord_73 (by decide) ?_
            refine n_isub hx hb (by omega) dX6_isWholeWord_75 ?_
            refine lv_istore (lv' := [(7, .int (nI (t.getD k 0 - 48))), (6, .int (nI k)), (4, .long (-lN V)), (3, .int (nI 1)), (2, .int (nI (t.length - frT t))), (0, .ref a), (1, .int (nI ln))]) hx hb dX6_isWholeWord_76 hl (by decide) rfl (fun ls hl => ?_)
            refine lv_lload hx hb dX6_isWholeWord_78 (lv_at hl 2 rfl) ?_
            refine lv_ldc2 (v := (-9223372036854775808)) hx hb B.2.2.1 (B.2.2.2.1 _ q1197) dX6_isWholeWord_80 ?_
            refine lv_iload hx hb dX6_isWholeWord_83 (lv_at hl 0 rfl) ?_
            refine lv_i2l (v := (nI (t.getD k 0 - 48)).toInt64) hx hb dX6_isWholeWord_85 rfl ?_
            refine lv_ladd hx hb dX6_isWholeWord_86 ?_
            refine lv_ldc2 (v := (10)) hx hb B.2.2.1 (B.2.2.2.1 _ q1198) dX6_isWholeWord_87 ?_
            refine lv_ldiv hx hb dX6_isWholeWord_90 (by decide) ?_
            refine l_if_ge (tgt := 97) hx hb dX6_isWholeWord_91 dX6_isWholeWord_92 (by decide) (fun cw => ?_) (fun cw => ?_)
            · have hcw : ¬ 9223372036854775808 < 10 * V + (t.getD k 0 - 48) := (not_congr (wq hV.2 (by omega))).mp (Int64.not_lt.mpr cw)
              refine lv_ldc2 (v := (10)) hx hb B.2.2.1 (B.2.2.2.1 _ q1198) dX6_isWholeWord_97 ?_
              refine lv_lload hx hb dX6_isWholeWord_100 (lv_at hl 2 rfl) ?_
              refine lv_lmul hx hb dX6_isWholeWord_102 ?_
              refine lv_iload hx hb dX6_isWholeWord_103 (lv_at hl 0 rfl) ?_
              refine lv_i2l (v := (nI (t.getD k 0 - 48)).toInt64) hx hb dX6_isWholeWord_105 rfl ?_
              refine lv_lsub hx hb dX6_isWholeWord_106 ?_
              refine W.eq (g2 := F0 m 107 ls [.long (-lN (10 * V + (t.getD k 0 - 48)))]) (by rw [(lneg_S2 (by omega))]) ?_
              refine lv_lstore (lv' := [(4, .long (-lN (10 * V + (t.getD k 0 - 48)))), (7, .int (nI (t.getD k 0 - 48))), (6, .int (nI k)), (3, .int (nI 1)), (2, .int (nI (t.length - frT t))), (0, .ref a), (1, .int (nI ln))]) hx hb dX6_isWholeWord_107 hl (by decide) rfl (fun ls hl => ?_)
              refine n_iinc (n := 1) (lv' := [(6, .int (nI (k + 1))), (4, .long (-lN (10 * V + (t.getD k 0 - 48)))), (7, .int (nI (t.getD k 0 - 48))), (3, .int (nI 1)), (2, .int (nI (t.length - frT t))), (0, .ref a), (1, .int (nI ln))]) hx hb dX6_isWholeWord_109 hl (k := 2) rfl rfl (by decide) (by decide) rfl (fun ls hl => ?_)
              refine lv_goto (tgt := 58) hx hb dX6_isWholeWord_112 (by decide) ?_
              exact ih_7 ((k + 1), (10 * V + (t.getD k 0 - 48))) ls (by dsimp only; omega) ⟨lv_sub hl [0, 1, 3, 4, 5, 6] rfl, ⟨by omega, by omega⟩, ⟨by rw [v10_S hk.1 (by omega), ← hV.1], by omega⟩⟩
            · refine lv_iconst (v := nI 0) hx hb dX6_isWholeWord_95 (by decide) ?_
              exact ct_iretR (ty := .boolean) (v := (nI 0)) B rfl rfl (by rw [if_neg (fun z9 => by have h5 := ((wl_5 _ _).mp (by rcases z9.2 with y9 | y9; exact Or.inl y9; exact Or.inr y9.2)).2; rw [hfr] at h5; have h6 := val10_le (t := t.drop 1) (k := k + 1 - 1) (by rw [hlr]; omega); rw [v10_S hk.1 (by omega), ← hV.1] at h6; have h7 := (wq hV.2 (by omega)).mp cw; omega)] <;> rfl) dX6_isWholeWord_96
      · refine lv_iconst (v := nI 0) hx hb dX6_isWholeWord_26 (by decide) ?_
        exact ct_iretR (ty := .boolean) (v := (nI 0)) B rfl rfl (by rw [if_neg (fun z9 => by rcases z9.2 with y9 | ⟨y8, y9⟩; have := ((wl_4 _ _).mp y9).1; rw [List.length_drop] at this; omega; have := ((wl_5 _ _).mp (Or.inr y9)).1; rw [List.length_drop] at this; omega)] <;> rfl) dX6_isWholeWord_27
    · refine lv_bipush (v := nI 10) hx hb dX6_isWholeWord_16 (by decide) ?_
      refine lv_goto (tgt := 23) hx hb dX6_isWholeWord_18 (by decide) ?_
      refine n_icmp_le (tgt := 28) hx hb dX6_isWholeWord_23 (by decide) (by omega) (by omega) (fun clen => ?_) (fun clen => ?_)
      · refine lv_aload_n hx hb dX6_isWholeWord_28 rfl (lv_at hl 1 rfl) ?_
        refine lv_iconst (v := nI 0) hx hb dX6_isWholeWord_29 (by decide) ?_
        refine ct_callR (ct_runV (As := [.int (nI 0)]) (rest := []) B (met_J4_charAt l E  _ a 0 t s.heap.size (by omega)) (lw_V q1190 q476 q477 q58 q478) (n := 1) ⟨by decide, by decide, by decide +kernel⟩ rfl ⟨rfl, rfl, (Nat.le_of_ble_eq_true rfl), (Nat.le_of_ble_eq_true rfl), (Nat.le_of_ble_eq_true rfl), (Nat.le_of_ble_eq_true rfl)⟩ (va_S.rf (A := fun _ => False)) (fun _ h => h.elim) (ct_Srecv B hV0.str) hV0.str hl.1 (Nat.le_of_ble_eq_true rfl) dX6_isWholeWord_30) (fun v hv => ?_)
        subst hv
        refine W.eq (g2 := F0 m 33 ls [.int (nI (t.getD 0 0))]) rfl ?_
        refine lv_bipush (v := nI 45) hx hb dX6_isWholeWord_33 (by decide) ?_
        refine n_icmp_ne (tgt := 42) hx hb dX6_isWholeWord_35 (by decide) (by have := tx_lt hs0.2 0; omega) (by omega) (fun c45 => ?_) (fun c45 => ?_)
        · refine lv_iconst (v := nI 0) hx hb dX6_isWholeWord_42 (by decide) ?_
          have hfr : frT t = 0 := by unfold frT; rw [if_neg c45]
          rw [hfr] at hall hdg hfb clen
          have hlr : (t.drop 0).length = t.length - 0 := List.length_drop
          refine lv_istore_n (lv' := [(3, .int (nI 0)), (2, .int (nI (t.length - frT t))), (0, .ref a), (1, .int (nI ln))]) hx hb dX6_isWholeWord_43 rfl hl (by decide) rfl (fun ls hl => ?_)
          refine lv_lconst (v := 0) hx hb dX6_isWholeWord_44 (by decide) ?_
          refine W.eq (g2 := F0 m 45 ls [.long (-lN 0)]) (by rw [show (0 : Int64) = -lN 0 from by decide] <;> rfl) ?_
          refine lv_lstore (lv' := [(4, .long (-lN 0)), (3, .int (nI 0)), (2, .int (nI (t.length - frT t))), (0, .ref a), (1, .int (nI ln))]) hx hb dX6_isWholeWord_45 hl (by decide) rfl (fun ls hl => ?_)
          refine lv_iload_n hx hb dX6_isWholeWord_47 rfl (lv_at hl 1 rfl) ?_
          refine n_if_eq (tgt := 55) hx hb dX6_isWholeWord_48 (by decide) (by omega) (fun c_10 => ?_) (fun c_10 => absurd c_10 (by omega))
          refine lv_iconst (v := nI 0) hx hb dX6_isWholeWord_55 (by decide) ?_
          refine lv_istore (lv' := [(6, .int (nI 0)), (4, .long (-lN 0)), (3, .int (nI 0)), (2, .int (nI (t.length - frT t))), (0, .ref a), (1, .int (nI ln))]) hx hb dX6_isWholeWord_56 hl (by decide) rfl (fun ls hl => ?_)
          refine ct_loop (σ := Nat × Nat) (fun (k, V) ls => lv_has ls 8 [(6, .int (nI k)), (4, .long (-lN V)), (3, .int (nI 0)), (2, .int (nI (t.length - frT t))), (0, .ref a), (1, .int (nI ln))] ∧ (0 ≤ k ∧ k ≤ t.length) ∧ (V = val10 ((t.drop 0).take (k - 0)) ∧ V ≤ 9223372036854775808)) (fun (k, V) => t.length - k) (g := fun (k, V) ls => F0 m 58 ls []) (x0 := (0, 0)) (ls0 := ls) ?_ ⟨lv_sub hl [0, 1, 2, 3, 4, 5] rfl, ⟨by omega, by omega⟩, ⟨rfl, by omega⟩⟩
          clear hl
          intro x9 ls hI ih_11
          obtain ⟨k, V⟩ := x9
          obtain ⟨hl, hk, hV⟩ := hI
          refine W.eq (g2 := F0 m 58 ls []) rfl ?_
          refine lv_iload hx hb dX6_isWholeWord_58 (lv_at hl 0 rfl) ?_
          refine lv_aload_n hx hb dX6_isWholeWord_60 rfl (lv_at hl 4 rfl) ?_
          refine ct_callR (ct_runV (As := []) (rest := [.int (nI k)]) B (met_J4_length l E  _ a t s.heap.size) (lw_V q1189 q466 q467 q58 q468) (n := 0) ⟨by decide, by decide, by decide +kernel⟩ rfl ⟨rfl, rfl, (Nat.le_of_ble_eq_true rfl), (Nat.le_of_ble_eq_true rfl), (Nat.le_of_ble_eq_true rfl), (Nat.le_of_ble_eq_true rfl)⟩ (va_S.rf (A := fun _ => False)) (fun _ h => h.elim) (ct_Srecv B hV0.str) hV0.str hl.1 (Nat.le_of_ble_eq_true rfl) dX6_isWholeWord_61) (fun v hv => ?_)
          subst hv
          refine W.eq (g2 := F0 m 64 ls [.int (nI t.length), .int (nI k)]) rfl ?_
          refine n_icmp_ge (tgt := 115) hx hb dX6_isWholeWord_64 (by decide) (by omega) (by omega) (fun cend => ?_) (fun cend => ?_)
          · have hVt : V = val10 (t.drop 0) := by rw [hV.1, List.take_of_length_le (by rw [hlr]; omega)]
            refine lv_iload_n hx hb dX6_isWholeWord_115 rfl (lv_at hl 2 rfl) ?_
            refine n_if_ne (tgt := 130) hx hb dX6_isWholeWord_116 (by decide) (by omega) (fun c_12 => absurd c_12 (by omega)) (fun c_12 => ?_)
            refine lv_lload hx hb dX6_isWholeWord_119 (lv_at hl 1 rfl) ?_
            refine lv_ldc2 (v := (-9223372036854775808)) hx hb B.2.2.1 (B.2.2.2.1 _ q1197) dX6_isWholeWord_121 ?_
            refine l_if_ne (tgt := 130) hx hb dX6_isWholeWord_124 dX6_isWholeWord_125 (by decide) (fun cmin => ?_) (fun cmin => ?_)
            · refine lv_iload_n hx hb dX6_isWholeWord_130 rfl (lv_at hl 2 rfl) ?_
              refine n_if_eq (tgt := 139) hx hb dX6_isWholeWord_131 (by decide) (by omega) (fun c_13 => ?_) (fun c_13 => absurd c_13 (by omega))
              refine lv_lload hx hb dX6_isWholeWord_139 (lv_at hl 1 rfl) ?_
              refine lv_lneg hx hb dX6_isWholeWord_141 ?_
              refine lv_lstore (lv' := [(6, .long (-(-lN V))), (4, .long (-lN V)), (3, .int (nI 0)), (2, .int (nI (t.length - frT t))), (0, .ref a), (1, .int (nI ln))]) hx hb dX6_isWholeWord_142 hl (by decide) rfl (fun ls hl => ?_)
              refine lv_iload_n hx hb dX6_isWholeWord_144 rfl (lv_at hl 5 rfl) ?_
              refine lv_iconst (v := nI 5) hx hb dX6_isWholeWord_145 (by decide) ?_
              refine n_icmp_eq (tgt := 159) hx hb dX6_isWholeWord_146 (by decide) (by omega) (by omega) (fun c5 => ?_) (fun c5 => ?_)
              · refine lv_iconst (v := nI 1) hx hb dX6_isWholeWord_159 (by decide) ?_
                refine lv_goto (tgt := 164) hx hb dX6_isWholeWord_160 (by decide) ?_
                exact ct_iretR (ty := .boolean) (v := (nI 1)) B rfl rfl (by rw [if_pos ⟨by rw [hfr]; exact hdg, by rw [hfr]; rcases (wl_5 (decide ((0 : Nat) = 1)) (t.drop 0)).mpr ⟨by rw [hlr]; omega, by rw [← hVt]; exact Or.inl (by have := (not_congr (w_min hV.2)).mp cmin; have := hV.2; omega)⟩ with y9 | y9; exact Or.inl y9; exact Or.inr ⟨c5, y9⟩⟩] <;> rfl) dX6_isWholeWord_164
              · refine lv_lload hx hb dX6_isWholeWord_149 (lv_at hl 0 rfl) ?_
                refine lv_lload hx hb dX6_isWholeWord_151 (lv_at hl 0 rfl) ?_
                refine lv_l2i (v := (-(-lN V)).toInt32) hx hb dX6_isWholeWord_153 rfl ?_
                refine lv_i2l (v := ((-(-lN V)).toInt32).toInt64) hx hb dX6_isWholeWord_154 rfl ?_
                refine l_if_ne (tgt := 163) hx hb dX6_isWholeWord_155 dX6_isWholeWord_156 (by decide) (fun c32 => ?_) (fun c32 => ?_)
                · refine lv_iconst (v := nI 0) hx hb dX6_isWholeWord_163 (by decide) ?_
                  exact ct_iretR (ty := .boolean) (v := (nI 0)) B rfl rfl (by rw [if_neg (fun z9 => by rcases z9.2 with y9 | y9; have h5 := ((wl_4 _ _).mp y9).2; rw [hfr, ← hVt, if_neg (by decide)] at h5; exact c32 ((wi_p (by have := (not_congr (w_min hV.2)).mp cmin; have := hV.2; omega)).mpr h5); exact c5 y9.1)] <;> rfl) dX6_isWholeWord_164
                · refine lv_iconst (v := nI 1) hx hb dX6_isWholeWord_159 (by decide) ?_
                  refine lv_goto (tgt := 164) hx hb dX6_isWholeWord_160 (by decide) ?_
                  exact ct_iretR (ty := .boolean) (v := (nI 1)) B rfl rfl (by rw [if_pos ⟨by rw [hfr]; exact hdg, by rw [hfr]; exact Or.inl ((wl_4 _ _).mpr ⟨by rw [hlr]; omega, by rw [← hVt, if_neg (by decide)]; exact (wi_p (by have := (not_congr (w_min hV.2)).mp cmin; have := hV.2; omega)).mp c32⟩)⟩] <;> rfl) dX6_isWholeWord_164
            · refine lv_iconst (v := nI 0) hx hb dX6_isWholeWord_128 (by decide) ?_
              exact ct_iretR (ty := .boolean) (v := (nI 0)) B rfl rfl (by rw [if_neg (fun z9 => by have h5 := ((wl_5 _ _).mp (by rcases z9.2 with y9 | y9; exact Or.inl y9; exact Or.inr y9.2)).2; rw [hfr, ← hVt] at h5; have h6 := (w_min hV.2).mp cmin; rcases h5 with y9 | y9; omega; exact absurd y9.1 (show ¬ (decide ((0 : Nat) = 1) = true) by decide))] <;> rfl) dX6_isWholeWord_129
          · have hdk : isD (t.getD k 0) := hall _ (by rw [List.getD_eq_getElem?_getD, List.getElem?_eq_getElem (show k < t.length by omega)]; exact List.mem_iff_getElem.mpr ⟨k - 0, by rw [hlr]; omega, by rw [List.getElem_drop]; congr 1; omega⟩)
            obtain ⟨hd1, hd2⟩ := hdk
            refine lv_aload_n hx hb dX6_isWholeWord_67 rfl (lv_at hl 4 rfl) ?_
            refine lv_iload hx hb dX6_isWholeWord_68 (lv_at hl 0 rfl) ?_
            refine ct_callR (ct_runV (As := [.int (nI k)]) (rest := []) B (met_J4_charAt l E  _ a k t s.heap.size (by omega)) (lw_V q1190 q476 q477 q58 q478) (n := 1) ⟨by decide, by decide, by decide +kernel⟩ rfl ⟨rfl, rfl, (Nat.le_of_ble_eq_true rfl), (Nat.le_of_ble_eq_true rfl), (Nat.le_of_ble_eq_true rfl), (Nat.le_of_ble_eq_true rfl)⟩ (va_S.rf (A := fun _ => False)) (fun _ h => h.elim) (ct_Srecv B hV0.str) hV0.str hl.1 (Nat.le_of_ble_eq_true rfl) dX6_isWholeWord_70) (fun v hv => ?_)
            subst hv
            refine W.eq (g2 := F0 m 73 ls [.int (nI (t.getD k 0))]) rfl ?_
            refine lv_bipush (v := nI 48) hx hb dX6_isWholeWord_73 (by decide) ?_
            refine n_isub hx hb (by omega) dX6_isWholeWord_75 ?_
            refine lv_istore (lv' := [(7, .int (nI (t.getD k 0 - 48))), (6, .int (nI k)), (4, .long (-lN V)), (3, .int (nI 0)), (2, .int (nI (t.length - frT t))), (0, .ref a), (1, .int (nI ln))]) hx hb dX6_isWholeWord_76 hl (by decide) rfl (fun ls hl => ?_)
            refine lv_lload hx hb dX6_isWholeWord_78 (lv_at hl 2 rfl) ?_
            refine lv_ldc2 (v := (-9223372036854775808)) hx hb B.2.2.1 (B.2.2.2.1 _ q1197) dX6_isWholeWord_80 ?_
            refine lv_iload hx hb dX6_isWholeWord_83 (lv_at hl 0 rfl) ?_
            refine lv_i2l (v := (nI (t.getD k 0 - 48)).toInt64) hx hb dX6_isWholeWord_85 rfl ?_
            refine lv_ladd hx hb dX6_isWholeWord_86 ?_
            refine lv_ldc2 (v := (10)) hx hb B.2.2.1 (B.2.2.2.1 _ q1198) dX6_isWholeWord_87 ?_
            refine lv_ldiv hx hb dX6_isWholeWord_90 (by decide) ?_
            refine l_if_ge (tgt := 97) hx hb dX6_isWholeWord_91 dX6_isWholeWord_92 (by decide) (fun cw => ?_) (fun cw => ?_)
            · have hcw : ¬ 9223372036854775808 < 10 * V + (t.getD k 0 - 48) := (not_congr (wq hV.2 (by omega))).mp (Int64.not_lt.mpr cw)
              refine lv_ldc2 (v := (10)) hx hb B.2.2.1 (B.2.2.2.1 _ q1198) dX6_isWholeWord_97 ?_
              refine lv_lload hx hb dX6_isWholeWord_100 (lv_at hl 2 rfl) ?_
              refine lv_lmul hx hb dX6_isWholeWord_102 ?_
              refine lv_iload hx hb dX6_isWholeWord_103 (lv_at hl 0 rfl) ?_
              refine lv_i2l (v := (nI (t.getD k 0 - 48)).toInt64) hx hb dX6_isWholeWord_105 rfl ?_
              refine lv_lsub hx hb dX6_isWholeWord_106 ?_
              refine W.eq (g2 := F0 m 107 ls [.long (-lN (10 * V + (t.getD k 0 - 48)))]) (by rw [(lneg_S2 (by omega))]) ?_
              refine lv_lstore (lv' := [(4, .long (-lN (10 * V + (t.getD k 0 - 48)))), (7, .int (nI (t.getD k 0 - 48))), (6, .int (nI k)), (3, .int (nI 0)), (2, .int (nI (t.length - frT t))), (0, .ref a), (1, .int (nI ln))]) hx hb dX6_isWholeWord_107 hl (by decide) rfl (fun ls hl => ?_)
              refine n_iinc (n := 1) (lv' := [(6, .int (nI (k + 1))), (4, .long (-lN (10 * V + (t.getD k 0 - 48)))), (7, .int (nI (t.getD k 0 - 48))), (3, .int (nI 0)), (2, .int (nI (t.length - frT t))), (0, .ref a), (1, .int (nI ln))]) hx hb dX6_isWholeWord_109 hl (k := 2) rfl rfl (by decide) (by decide) rfl (fun ls hl => ?_)
              refine lv_goto (tgt := 58) hx hb dX6_isWholeWord_112 (by decide) ?_
              exact ih_11 ((k + 1), (10 * V + (t.getD k 0 - 48))) ls (by dsimp only; omega) ⟨lv_sub hl [0, 1, 3, 4, 5, 6] rfl, ⟨by omega, by omega⟩, ⟨by rw [v10_S hk.1 (by omega), ← hV.1], by omega⟩⟩
            · refine lv_iconst (v := nI 0) hx hb dX6_isWholeWord_95 (by decide) ?_
              exact ct_iretR (ty := .boolean) (v := (nI 0)) B rfl rfl (by rw [if_neg (fun z9 => by have h5 := ((wl_5 _ _).mp (by rcases z9.2 with y9 | y9; exact Or.inl y9; exact Or.inr y9.2)).2; rw [hfr] at h5; have h6 := val10_le (t := t.drop 0) (k := k + 1 - 0) (by rw [hlr]; omega); rw [v10_S hk.1 (by omega), ← hV.1] at h6; have h7 := (wq hV.2 (by omega)).mp cw; omega)] <;> rfl) dX6_isWholeWord_96
        · refine lv_iconst (v := nI 1) hx hb dX6_isWholeWord_38 (by decide) ?_
          refine lv_goto (tgt := 43) hx hb dX6_isWholeWord_39 (by decide) ?_
          have hfr : frT t = 1 := by unfold frT; rw [if_pos c45]
          rw [hfr] at hall hdg hfb clen
          have hlr : (t.drop 1).length = t.length - 1 := List.length_drop
          refine lv_istore_n (lv' := [(3, .int (nI 1)), (2, .int (nI (t.length - frT t))), (0, .ref a), (1, .int (nI ln))]) hx hb dX6_isWholeWord_43 rfl hl (by decide) rfl (fun ls hl => ?_)
          refine lv_lconst (v := 0) hx hb dX6_isWholeWord_44 (by decide) ?_
          refine W.eq (g2 := F0 m 45 ls [.long (-lN 0)]) (by rw [show (0 : Int64) = -lN 0 from by decide] <;> rfl) ?_
          refine lv_lstore (lv' := [(4, .long (-lN 0)), (3, .int (nI 1)), (2, .int (nI (t.length - frT t))), (0, .ref a), (1, .int (nI ln))]) hx hb dX6_isWholeWord_45 hl (by decide) rfl (fun ls hl => ?_)
          refine lv_iload_n hx hb dX6_isWholeWord_47 rfl (lv_at hl 1 rfl) ?_
          refine n_if_eq (tgt := 55) hx hb dX6_isWholeWord_48 (by decide) (by omega) (fun c_14 => absurd c_14 (by omega)) (fun c_14 => ?_)
          refine lv_iconst (v := nI 1) hx hb dX6_isWholeWord_51 (by decide) ?_
          refine lv_goto (tgt := 56) hx hb dX6_isWholeWord_52 (by decide) ?_
          refine lv_istore (lv' := [(6, .int (nI 1)), (4, .long (-lN 0)), (3, .int (nI 1)), (2, .int (nI (t.length - frT t))), (0, .ref a), (1, .int (nI ln))]) hx hb dX6_isWholeWord_56 hl (by decide) rfl (fun ls hl => ?_)
          refine ct_loop (σ := Nat × Nat) (fun (k, V) ls => lv_has ls 8 [(6, .int (nI k)), (4, .long (-lN V)), (3, .int (nI 1)), (2, .int (nI (t.length - frT t))), (0, .ref a), (1, .int (nI ln))] ∧ (1 ≤ k ∧ k ≤ t.length) ∧ (V = val10 ((t.drop 1).take (k - 1)) ∧ V ≤ 9223372036854775808)) (fun (k, V) => t.length - k) (g := fun (k, V) ls => F0 m 58 ls []) (x0 := (1, 0)) (ls0 := ls) ?_ ⟨lv_sub hl [0, 1, 2, 3, 4, 5] rfl, ⟨by omega, by omega⟩, ⟨rfl, by omega⟩⟩
          clear hl
          intro x9 ls hI ih_15
          obtain ⟨k, V⟩ := x9
          obtain ⟨hl, hk, hV⟩ := hI
          refine W.eq (g2 := F0 m 58 ls []) rfl ?_
          refine lv_iload hx hb dX6_isWholeWord_58 (lv_at hl 0 rfl) ?_
          refine lv_aload_n hx hb dX6_isWholeWord_60 rfl (lv_at hl 4 rfl) ?_
          refine ct_callR (ct_runV (As := []) (rest := [.int (nI k)]) B (met_J4_length l E  _ a t s.heap.size) (lw_V q1189 q466 q467 q58 q468) (n := 0) ⟨by decide, by decide, by decide +kernel⟩ rfl ⟨rfl, rfl, (Nat.le_of_ble_eq_true rfl), (Nat.le_of_ble_eq_true rfl), (Nat.le_of_ble_eq_true rfl), (Nat.le_of_ble_eq_true rfl)⟩ (va_S.rf (A := fun _ => False)) (fun _ h => h.elim) (ct_Srecv B hV0.str) hV0.str hl.1 (Nat.le_of_ble_eq_true rfl) dX6_isWholeWord_61) (fun v hv => ?_)
          subst hv
          refine W.eq (g2 := F0 m 64 ls [.int (nI t.length), .int (nI k)]) rfl ?_
          refine n_icmp_ge (tgt := 115) hx hb dX6_isWholeWord_64 (by decide) (by omega) (by omega) (fun cend => ?_) (fun cend => ?_)
          · have hVt : V = val10 (t.drop 1) := by rw [hV.1, List.take_of_length_le (by rw [hlr]; omega)]
            refine lv_iload_n hx hb dX6_isWholeWord_115 rfl (lv_at hl 2 rfl) ?_
            refine n_if_ne (tgt := 130) hx hb dX6_isWholeWord_116 (by decide) (by omega) (fun c_16 => ?_) (fun c_16 => absurd c_16 (by omega))
            refine lv_iload_n hx hb dX6_isWholeWord_130 rfl (lv_at hl 2 rfl) ?_
            refine n_if_eq (tgt := 139) hx hb dX6_isWholeWord_131 (by decide) (by omega) (fun c_17 => absurd c_17 (by omega)) (fun c_17 => ?_)
            refine lv_lload hx hb dX6_isWholeWord_134 (lv_at hl 1 rfl) ?_
            refine lv_goto (tgt := 142) hx hb dX6_isWholeWord_136 (by decide) ?_
            refine lv_lstore (lv' := [(6, .long (-lN V)), (4, .long (-lN V)), (3, .int (nI 1)), (2, .int (nI (t.length - frT t))), (0, .ref a), (1, .int (nI ln))]) hx hb dX6_isWholeWord_142 hl (by decide) rfl (fun ls hl => ?_)
            refine lv_iload_n hx hb dX6_isWholeWord_144 rfl (lv_at hl 5 rfl) ?_
            refine lv_iconst (v := nI 5) hx hb dX6_isWholeWord_145 (by decide) ?_
            refine n_icmp_eq (tgt := 159) hx hb dX6_isWholeWord_146 (by decide) (by omega) (by omega) (fun c5 => ?_) (fun c5 => ?_)
            · refine lv_iconst (v := nI 1) hx hb dX6_isWholeWord_159 (by decide) ?_
              refine lv_goto (tgt := 164) hx hb dX6_isWholeWord_160 (by decide) ?_
              exact ct_iretR (ty := .boolean) (v := (nI 1)) B rfl rfl (by rw [if_pos ⟨by rw [hfr]; exact hdg, by rw [hfr]; rcases (wl_5 (decide ((1 : Nat) = 1)) (t.drop 1)).mpr ⟨by rw [hlr]; omega, by rw [← hVt]; rcases Nat.lt_or_eq_of_le hV.2 with y9 | y9; exact Or.inl y9; exact Or.inr ⟨rfl, y9⟩⟩ with y9 | y9; exact Or.inl y9; exact Or.inr ⟨c5, y9⟩⟩] <;> rfl) dX6_isWholeWord_164
            · refine lv_lload hx hb dX6_isWholeWord_149 (lv_at hl 0 rfl) ?_
              refine lv_lload hx hb dX6_isWholeWord_151 (lv_at hl 0 rfl) ?_
              refine lv_l2i (v := (-lN V).toInt32) hx hb dX6_isWholeWord_153 rfl ?_
              refine lv_i2l (v := ((-lN V).toInt32).toInt64) hx hb dX6_isWholeWord_154 rfl ?_
              refine l_if_ne (tgt := 163) hx hb dX6_isWholeWord_155 dX6_isWholeWord_156 (by decide) (fun c32 => ?_) (fun c32 => ?_)
              · refine lv_iconst (v := nI 0) hx hb dX6_isWholeWord_163 (by decide) ?_
                exact ct_iretR (ty := .boolean) (v := (nI 0)) B rfl rfl (by rw [if_neg (fun z9 => by rcases z9.2 with y9 | y9; have h5 := ((wl_4 _ _).mp y9).2; rw [hfr, ← hVt, if_pos (by decide)] at h5; exact c32 ((wi_m hV.2).mpr h5); exact c5 y9.1)] <;> rfl) dX6_isWholeWord_164
              · refine lv_iconst (v := nI 1) hx hb dX6_isWholeWord_159 (by decide) ?_
                refine lv_goto (tgt := 164) hx hb dX6_isWholeWord_160 (by decide) ?_
                exact ct_iretR (ty := .boolean) (v := (nI 1)) B rfl rfl (by rw [if_pos ⟨by rw [hfr]; exact hdg, by rw [hfr]; exact Or.inl ((wl_4 _ _).mpr ⟨by rw [hlr]; omega, by rw [← hVt, if_pos (by decide)]; exact (wi_m hV.2).mp c32⟩)⟩] <;> rfl) dX6_isWholeWord_164
          · have hdk : isD (t.getD k 0) := hall _ (by rw [List.getD_eq_getElem?_getD, List.getElem?_eq_getElem (show k < t.length by omega)]; exact List.mem_iff_getElem.mpr ⟨k - 1, by rw [hlr]; omega, by rw [List.getElem_drop]; congr 1; omega⟩)
            obtain ⟨hd1, hd2⟩ := hdk
            refine lv_aload_n hx hb dX6_isWholeWord_67 rfl (lv_at hl 4 rfl) ?_
            refine lv_iload hx hb dX6_isWholeWord_68 (lv_at hl 0 rfl) ?_
            refine ct_callR (ct_runV (As := [.int (nI k)]) (rest := []) B (met_J4_charAt l E  _ a k t s.heap.size (by omega)) (lw_V q1190 q476 q477 q58 q478) (n := 1) ⟨by decide, by decide, by decide +kernel⟩ rfl ⟨rfl, rfl, (Nat.le_of_ble_eq_true rfl), (Nat.le_of_ble_eq_true rfl), (Nat.le_of_ble_eq_true rfl), (Nat.le_of_ble_eq_true rfl)⟩ (va_S.rf (A := fun _ => False)) (fun _ h => h.elim) (ct_Srecv B hV0.str) hV0.str hl.1 (Nat.le_of_ble_eq_true rfl) dX6_isWholeWord_70) (fun v hv => ?_)
            subst hv
            refine W.eq (g2 := F0 m 73 ls [.int (nI (t.getD k 0))]) rfl ?_
            refine lv_bipush (v := nI 48) hx hb dX6_isWholeWord_73 (by decide) ?_
            refine n_isub hx hb (by omega) dX6_isWholeWord_75 ?_
            refine lv_istore (lv' := [(7, .int (nI (t.getD k 0 - 48))), (6, .int (nI k)), (4, .long (-lN V)), (3, .int (nI 1)), (2, .int (nI (t.length - frT t))), (0, .ref a), (1, .int (nI ln))]) hx hb dX6_isWholeWord_76 hl (by decide) rfl (fun ls hl => ?_)
            refine lv_lload hx hb dX6_isWholeWord_78 (lv_at hl 2 rfl) ?_
            refine lv_ldc2 (v := (-9223372036854775808)) hx hb B.2.2.1 (B.2.2.2.1 _ q1197) dX6_isWholeWord_80 ?_
            refine lv_iload hx hb dX6_isWholeWord_83 (lv_at hl 0 rfl) ?_
            refine lv_i2l (v := (nI (t.getD k 0 - 48)).toInt64) hx hb dX6_isWholeWord_85 rfl ?_
            refine lv_ladd hx hb dX6_isWholeWord_86 ?_
            refine lv_ldc2 (v := (10)) hx hb B.2.2.1 (B.2.2.2.1 _ q1198) dX6_isWholeWord_87 ?_
            refine lv_ldiv hx hb dX6_isWholeWord_90 (by decide) ?_
            refine l_if_ge (tgt := 97) hx hb dX6_isWholeWord_91 dX6_isWholeWord_92 (by decide) (fun cw => ?_) (fun cw => ?_)
            · have hcw : ¬ 9223372036854775808 < 10 * V + (t.getD k 0 - 48) := (not_congr (wq hV.2 (by omega))).mp (Int64.not_lt.mpr cw)
              refine lv_ldc2 (v := (10)) hx hb B.2.2.1 (B.2.2.2.1 _ q1198) dX6_isWholeWord_97 ?_
              refine lv_lload hx hb dX6_isWholeWord_100 (lv_at hl 2 rfl) ?_
              refine lv_lmul hx hb dX6_isWholeWord_102 ?_
              refine lv_iload hx hb dX6_isWholeWord_103 (lv_at hl 0 rfl) ?_
              refine lv_i2l (v := (nI (t.getD k 0 - 48)).toInt64) hx hb dX6_isWholeWord_105 rfl ?_
              refine lv_lsub hx hb dX6_isWholeWord_106 ?_
              refine W.eq (g2 := F0 m 107 ls [.long (-lN (10 * V + (t.getD k 0 - 48)))]) (by rw [(lneg_S2 (by omega))]) ?_
              refine lv_lstore (lv' := [(4, .long (-lN (10 * V + (t.getD k 0 - 48)))), (7, .int (nI (t.getD k 0 - 48))), (6, .int (nI k)), (3, .int (nI 1)), (2, .int (nI (t.length - frT t))), (0, .ref a), (1, .int (nI ln))]) hx hb dX6_isWholeWord_107 hl (by decide) rfl (fun ls hl => ?_)
              refine n_iinc (n := 1) (lv' := [(6, .int (nI (k + 1))), (4, .long (-lN (10 * V + (t.getD k 0 - 48)))), (7, .int (nI (t.getD k 0 - 48))), (3, .int (nI 1)), (2, .int (nI (t.length - frT t))), (0, .ref a), (1, .int (nI ln))]) hx hb dX6_isWholeWord_109 hl (k := 2) rfl rfl (by decide) (by decide) rfl (fun ls hl => ?_)
              refine lv_goto (tgt := 58) hx hb dX6_isWholeWord_112 (by decide) ?_
              exact ih_15 ((k + 1), (10 * V + (t.getD k 0 - 48))) ls (by dsimp only; omega) ⟨lv_sub hl [0, 1, 3, 4, 5, 6] rfl, ⟨by omega, by omega⟩, ⟨by rw [v10_S hk.1 (by omega), ← hV.1], by omega⟩⟩
            · refine lv_iconst (v := nI 0) hx hb dX6_isWholeWord_95 (by decide) ?_
              exact ct_iretR (ty := .boolean) (v := (nI 0)) B rfl rfl (by rw [if_neg (fun z9 => by have h5 := ((wl_5 _ _).mp (by rcases z9.2 with y9 | y9; exact Or.inl y9; exact Or.inr y9.2)).2; rw [hfr] at h5; have h6 := val10_le (t := t.drop 1) (k := k + 1 - 1) (by rw [hlr]; omega); rw [v10_S hk.1 (by omega), ← hV.1] at h6; have h7 := (wq hV.2 (by omega)).mp cw; omega)] <;> rfl) dX6_isWholeWord_96
      · refine lv_iconst (v := nI 0) hx hb dX6_isWholeWord_26 (by decide) ?_
        exact ct_iretR (ty := .boolean) (v := (nI 0)) B rfl rfl (by rw [if_neg (fun z9 => by rcases z9.2 with y9 | ⟨y8, y9⟩; have := ((wl_4 _ _).mp y9).1; rw [List.length_drop] at this; omega; have := ((wl_5 _ _).mp (Or.inr y9)).1; rw [List.length_drop] at this; omega)] <;> rfl) dX6_isWholeWord_27
  · refine W.eq (g2 := F0 m 5 ls [.int (-1)]) (by rw [dgF_n hdg]) ?_
    refine lv_istore_n (lv' := [(2, .int (-1)), (0, .ref a), (1, .int (nI ln))]) hx hb dX6_isWholeWord_5 rfl hl (by decide) rfl (fun ls hl => ?_)
    refine lv_iload_n hx hb dX6_isWholeWord_6 rfl (lv_at hl 0 rfl) ?_
    refine lv_if_lt (tgt := 26) hx hb dX6_isWholeWord_7 (by decide) (fun c_18 => ?_) (fun c_18 => absurd c_18 (by decide))
    refine lv_iconst (v := nI 0) hx hb dX6_isWholeWord_26 (by decide) ?_
    exact ct_iretR (ty := .boolean) (v := (nI 0)) B rfl rfl (by rw [if_neg (fun z9 => hdg z9.1)] <;> rfl) dX6_isWholeWord_27
