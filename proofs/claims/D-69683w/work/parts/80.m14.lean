set_option maxHeartbeats 4000000 in
set_option maxRecDepth 100000 in
theorem met_X6_laneOfColumn (l : Launch) (E : CE) (im : va_W) (t9 n9 c9 : Nat) (ln : Option Nat) (tb : Tab) (k9 : Nat) (sz : Nat) (hT : tL E im n9 c9 tb) (hok : tabOK tb) (hk9 : k9 < tCols tb) : Met l yX6_laneOfColumn (ws_ yX6_laneOfColumn cX6_laneOfColumn 7 (some .int)) { frames := 7, cells := 0, slots := 0, locals := 158 } (ctP E [.ref t9, .int (nI k9)] sz (fun H => va_P E.1 ct_cl [(t9, .inr (11, [.ref n9, .ref c9, va_rf ln]))] H ∧ va_P E.1 ct_cl im H)) (ctR (fun v => v = some (.int (nI (laneT (tCols tb) (tRows tb) (cellW tb) k9))))) 0 0 (fun _ => False) := by
  refine ct_start (by decide) (Nat.le_of_ble_eq_true rfl) ?_
  intro p e s m below meth c ls B hsz hH hl
  obtain ⟨hC, hI⟩ := hH
  have hx := B.1
  have hb := B.2.1
  have hl : lv_has ls 7 [(0, .ref t9), (1, .int (nI k9))] := hl
  obtain ⟨hcs, hrs, htl, hn20, hc40⟩ := id hok
  refine lv_iconst (v := nI 0) hx hb dX6_laneOfColumn_0 (by decide) ?_
  refine lv_istore_n (lv' := [(2, .int (nI 0)), (0, .ref t9), (1, .int (nI k9))]) hx hb dX6_laneOfColumn_1 rfl hl (by decide) rfl (fun ls hl => ?_)
  refine lv_iconst (v := nI 0) hx hb dX6_laneOfColumn_2 (by decide) ?_
  refine lv_istore_n (lv' := [(3, .int (nI 0)), (2, .int (nI 0)), (0, .ref t9), (1, .int (nI k9))]) hx hb dX6_laneOfColumn_3 rfl hl (by decide) rfl (fun ls hl => ?_)
  refine ct_loop (σ := Nat × Nat) (fun (r_, b_) ls => lv_has ls 7 [(3, .int (nI r_)), (2, .int (nI b_)), (0, .ref t9), (1, .int (nI k9))] ∧ (r_ ≤ tRows tb) ∧ ((b_ = 0 ∧ ∀ j, j < r_ → missW (cellW tb (tCols tb * j + k9))) ∨ (b_ = 1 ∧ colAny (tCols tb) (tRows tb) (cellW tb) k9))) (fun (r_, b_) => tRows tb - r_) (g := fun (r_, b_) ls => F0 m 4 ls []) (x0 := (0, 0)) (ls0 := ls) ?_ ⟨lv_sub hl [0, 1, 2, 3] rfl, Nat.zero_le _, Or.inl ⟨rfl, fun j hj => absurd hj (Nat.not_lt_zero j)⟩⟩
  clear hl
  intro x9 ls hI ih_1
  obtain ⟨r_, b_⟩ := x9
  obtain ⟨hl, hr_, hb_⟩ := hI
  refine W.eq (g2 := F0 m 4 ls []) rfl ?_
  refine lv_iload_n hx hb dX6_laneOfColumn_4 rfl (lv_at hl 0 rfl) ?_
  refine lv_aload_n hx hb dX6_laneOfColumn_5 rfl (lv_at hl 2 rfl) ?_
  refine ct_callR (ct_runV (As := []) (rest := [.int (nI r_)]) B (met_X11_rows l E im t9 n9 c9 ln tb s.heap.size hT hok) (lw_V q1158 q1159 q1160 q63 q1161) (n := 0) ⟨by decide, by decide, by decide +kernel⟩ rfl ⟨rfl, rfl, (Nat.le_of_ble_eq_true rfl), (Nat.le_of_ble_eq_true rfl), (Nat.le_of_ble_eq_true rfl), (Nat.le_of_ble_eq_true rfl)⟩ (va_S.rf (A := fun _ => False)) (fun _ h => h.elim) (ct_recv B hC kX11 0 rfl) ⟨(hC.sub [0] rfl), hI⟩ hl.1 (Nat.le_of_ble_eq_true rfl) dX6_laneOfColumn_6) (fun v hv => ?_)
  subst hv
  refine W.eq (g2 := F0 m 9 ls [.int (nI (tRows tb)), .int (nI r_)]) rfl ?_
  refine n_icmp_ge (tgt := 40) hx hb dX6_laneOfColumn_9 (by decide) (by omega) (by omega) (fun c_2 => ?_) (fun c_2 => ?_)
  · rcases hb_ with ⟨rfl, hms2⟩ | ⟨rfl, hany⟩
    · have hnany : ¬ colAny (tCols tb) (tRows tb) (cellW tb) k9 := by rintro ⟨j9, y1, y2⟩; exact y2 (hms2 j9 (by omega))
      refine lv_iconst (v := nI 0) hx hb dX6_laneOfColumn_40 (by decide) ?_
      refine lv_istore_n (lv' := [(3, .int (nI 0)), (2, .int (nI 0)), (0, .ref t9), (1, .int (nI k9))]) hx hb dX6_laneOfColumn_41 rfl hl (by decide) rfl (fun ls hl => ?_)
      refine lv_iload_n hx hb dX6_laneOfColumn_42 rfl (lv_at hl 0 rfl) ?_
      refine lv_iconst (v := nI 4) hx hb dX6_laneOfColumn_43 (by decide) ?_
      refine n_icmp_ge (tgt := 135) hx hb dX6_laneOfColumn_44 (by decide) (by omega) (by omega) (fun c4 => absurd c4 (by omega)) (fun c4 => ?_)
      refine lv_iload_n hx hb dX6_laneOfColumn_47 rfl (lv_at hl 1 rfl) ?_
      refine n_if_eq (tgt := 135) hx hb dX6_laneOfColumn_48 (by decide) (by omega) (fun c_3 => ?_) (fun c_3 => absurd c_3 (by omega))
      refine lv_bipush (v := nI 8) hx hb dX6_laneOfColumn_135 (by decide) ?_
      exact ct_iretR (ty := .int) (v := (nI 8)) B rfl rfl (by unfold laneT; rw [if_neg hnany]) dX6_laneOfColumn_137
    · refine lv_iconst (v := nI 0) hx hb dX6_laneOfColumn_40 (by decide) ?_
      refine lv_istore_n (lv' := [(3, .int (nI 0)), (2, .int (nI 1)), (0, .ref t9), (1, .int (nI k9))]) hx hb dX6_laneOfColumn_41 rfl hl (by decide) rfl (fun ls hl => ?_)
      refine ct_loop (σ := Nat) (fun q_ ls => lv_has ls 7 [(3, .int (nI q_)), (2, .int (nI 1)), (0, .ref t9), (1, .int (nI k9))] ∧ (q_ ≤ 4) ∧ ((1 ≤ q_ → ¬ colAll 0 (tCols tb) (tRows tb) (cellW tb) k9) ∧ (2 ≤ q_ → ¬ colAll 4 (tCols tb) (tRows tb) (cellW tb) k9) ∧ (3 ≤ q_ → ¬ colAll 5 (tCols tb) (tRows tb) (cellW tb) k9) ∧ (4 ≤ q_ → ¬ colAll 7 (tCols tb) (tRows tb) (cellW tb) k9))) (fun q_ => 4 - q_) (g := fun q_ ls => F0 m 42 ls []) (x0 := 0) (ls0 := ls) ?_ ⟨lv_sub hl [0, 1, 2, 3] rfl, Nat.zero_le _, ⟨fun h => by omega, fun h => by omega, fun h => by omega, fun h => by omega⟩⟩
      clear hl
      intro q_ ls hI ih_4
      obtain ⟨hl, hq_, hn_⟩ := hI
      refine W.eq (g2 := F0 m 42 ls []) rfl ?_
      refine lv_iload_n hx hb dX6_laneOfColumn_42 rfl (lv_at hl 0 rfl) ?_
      refine lv_iconst (v := nI 4) hx hb dX6_laneOfColumn_43 (by decide) ?_
      refine n_icmp_ge (tgt := 135) hx hb dX6_laneOfColumn_44 (by decide) (by omega) (by omega) (fun c4 => ?_) (fun c4 => ?_)
      · refine lv_bipush (v := nI 8) hx hb dX6_laneOfColumn_135 (by decide) ?_
        exact ct_iretR (ty := .int) (v := (nI 8)) B rfl rfl (by unfold laneT; rw [if_pos hany, if_neg (hn_.1 (by omega)), if_neg (hn_.2.1 (by omega)), if_neg (hn_.2.2.1 (by omega)), if_neg (hn_.2.2.2 (by omega))]) dX6_laneOfColumn_137
      · refine lv_iload_n hx hb dX6_laneOfColumn_47 rfl (lv_at hl 1 rfl) ?_
        refine n_if_eq (tgt := 135) hx hb dX6_laneOfColumn_48 (by decide) (by omega) (fun c_5 => absurd c_5 (by omega)) (fun c_5 => ?_)
        refine lv_iload_n hx hb dX6_laneOfColumn_51 rfl (lv_at hl 0 rfl) ?_
        refine n_if_ne (tgt := 59) hx hb dX6_laneOfColumn_52 (by decide) (by omega) (fun cq0 => ?_) (fun cq0 => ?_)
        · refine lv_iload_n hx hb dX6_laneOfColumn_59 rfl (lv_at hl 0 rfl) ?_
          refine lv_iconst (v := nI 1) hx hb dX6_laneOfColumn_60 (by decide) ?_
          refine n_icmp_ne (tgt := 68) hx hb dX6_laneOfColumn_61 (by decide) (by omega) (by omega) (fun cq1 => ?_) (fun cq1 => ?_)
          · refine lv_iload_n hx hb dX6_laneOfColumn_68 rfl (lv_at hl 0 rfl) ?_
            refine lv_iconst (v := nI 2) hx hb dX6_laneOfColumn_69 (by decide) ?_
            refine n_icmp_ne (tgt := 77) hx hb dX6_laneOfColumn_70 (by decide) (by omega) (by omega) (fun cq2 => ?_) (fun cq2 => ?_)
            · refine lv_bipush (v := nI 7) hx hb dX6_laneOfColumn_77 (by decide) ?_
              refine lv_istore (lv' := [(4, .int (nI 7)), (3, .int (nI q_)), (2, .int (nI 1)), (0, .ref t9), (1, .int (nI k9))]) hx hb dX6_laneOfColumn_79 hl (by decide) rfl (fun ls hl => ?_)
              refine lv_iconst (v := nI 1) hx hb dX6_laneOfColumn_81 (by decide) ?_
              refine lv_istore (lv' := [(5, .int (nI 1)), (4, .int (nI 7)), (3, .int (nI q_)), (2, .int (nI 1)), (0, .ref t9), (1, .int (nI k9))]) hx hb dX6_laneOfColumn_82 hl (by decide) rfl (fun ls hl => ?_)
              refine lv_iconst (v := nI 0) hx hb dX6_laneOfColumn_84 (by decide) ?_
              refine lv_istore (lv' := [(6, .int (nI 0)), (5, .int (nI 1)), (4, .int (nI 7)), (3, .int (nI q_)), (2, .int (nI 1)), (0, .ref t9), (1, .int (nI k9))]) hx hb dX6_laneOfColumn_85 hl (by decide) rfl (fun ls hl => ?_)
              refine ct_loop (σ := Nat × Nat) (fun (u_, al) ls => lv_has ls 7 [(6, .int (nI u_)), (5, .int (nI al)), (4, .int (nI 7)), (3, .int (nI q_)), (2, .int (nI 1)), (0, .ref t9), (1, .int (nI k9))] ∧ (u_ ≤ tRows tb) ∧ ((al = 1 ∧ ∀ j, j < u_ → missW (cellW tb (tCols tb * j + k9)) ∨ takesW 7 (cellW tb (tCols tb * j + k9))) ∨ (al = 0 ∧ ¬ colAll 7 (tCols tb) (tRows tb) (cellW tb) k9))) (fun (u_, al) => tRows tb - u_) (g := fun (u_, al) ls => F0 m 87 ls []) (x0 := (0, 1)) (ls0 := ls) ?_ ⟨lv_sub hl [0, 1, 2, 3, 4, 5, 6] rfl, Nat.zero_le _, Or.inl ⟨rfl, fun j hj => absurd hj (Nat.not_lt_zero j)⟩⟩
              clear hl
              intro x9 ls hI ih_6
              obtain ⟨u_, al⟩ := x9
              obtain ⟨hl, hu_, hal⟩ := hI
              refine W.eq (g2 := F0 m 87 ls []) rfl ?_
              refine lv_iload hx hb dX6_laneOfColumn_87 (lv_at hl 0 rfl) ?_
              refine lv_aload_n hx hb dX6_laneOfColumn_89 rfl (lv_at hl 5 rfl) ?_
              refine ct_callR (ct_runV (As := []) (rest := [.int (nI u_)]) B (met_X11_rows l E im t9 n9 c9 ln tb s.heap.size hT hok) (lw_V q1158 q1159 q1160 q63 q1161) (n := 0) ⟨by decide, by decide, by decide +kernel⟩ rfl ⟨rfl, rfl, (Nat.le_of_ble_eq_true rfl), (Nat.le_of_ble_eq_true rfl), (Nat.le_of_ble_eq_true rfl), (Nat.le_of_ble_eq_true rfl)⟩ (va_S.rf (A := fun _ => False)) (fun _ h => h.elim) (ct_recv B hC kX11 0 rfl) ⟨(hC.sub [0] rfl), hI⟩ hl.1 (Nat.le_of_ble_eq_true rfl) dX6_laneOfColumn_90) (fun v hv => ?_)
              subst hv
              refine W.eq (g2 := F0 m 93 ls [.int (nI (tRows tb)), .int (nI u_)]) rfl ?_
              refine n_icmp_ge (tgt := 121) hx hb dX6_laneOfColumn_93 (by decide) (by omega) (by omega) (fun c_7 => ?_) (fun c_7 => ?_)
              · refine lv_iload hx hb dX6_laneOfColumn_121 (lv_at hl 1 rfl) ?_
                refine n_if_eq (tgt := 129) hx hb dX6_laneOfColumn_123 (by decide) (by first | omega | (rcases hal with z9 | z9 <;> omega)) (fun cal2 => ?_) (fun cal2 => ?_)
                · have hnal : ¬ colAll 7 (tCols tb) (tRows tb) (cellW tb) k9 := by rcases hal with z9 | z9; exact absurd z9.1 (by omega); exact z9.2
                  refine n_iinc (n := 1) (lv' := [(3, .int (nI (q_ + 1))), (6, .int (nI u_)), (5, .int (nI al)), (4, .int (nI 7)), (2, .int (nI 1)), (0, .ref t9), (1, .int (nI k9))]) hx hb dX6_laneOfColumn_129 hl (k := 3) rfl rfl (by decide) (by decide) rfl (fun ls hl => ?_)
                  refine lv_goto (tgt := 42) hx hb dX6_laneOfColumn_132 (by decide) ?_
                  exact ih_4 (q_ + 1) ls (by omega) ⟨lv_sub hl [0, 4, 5, 6] rfl, by omega, ⟨fun h9 => hn_.1 (by omega), fun h9 => hn_.2.1 (by omega), fun h9 => hn_.2.2.1 (by omega), fun h9 => hnal⟩⟩
                · have hyes : colAll 7 (tCols tb) (tRows tb) (cellW tb) k9 := by rcases hal with z9 | z9; exact fun j9 h9 => z9.2 j9 (by omega); exact absurd z9.1 (by omega)
                  refine lv_iload hx hb dX6_laneOfColumn_126 (lv_at hl 2 rfl) ?_
                  exact ct_iretR (ty := .int) (v := (nI 7)) B rfl rfl (by unfold laneT; rw [if_pos hany, if_neg (hn_.1 (by omega)), if_neg (hn_.2.1 (by omega)), if_neg (hn_.2.2.1 (by omega)), if_pos hyes]) dX6_laneOfColumn_128
              · refine lv_iload hx hb dX6_laneOfColumn_96 (lv_at hl 1 rfl) ?_
                refine n_if_eq (tgt := 121) hx hb dX6_laneOfColumn_98 (by decide) (by first | omega | (rcases hal with z9 | z9 <;> omega)) (fun cal => ?_) (fun cal => ?_)
                · refine lv_iload hx hb dX6_laneOfColumn_121 (lv_at hl 1 rfl) ?_
                  refine n_if_eq (tgt := 129) hx hb dX6_laneOfColumn_123 (by decide) (by first | omega | (rcases hal with z9 | z9 <;> omega)) (fun cal2 => ?_) (fun cal2 => ?_)
                  · have hnal : ¬ colAll 7 (tCols tb) (tRows tb) (cellW tb) k9 := by rcases hal with z9 | z9; exact absurd z9.1 (by omega); exact z9.2
                    refine n_iinc (n := 1) (lv' := [(3, .int (nI (q_ + 1))), (6, .int (nI u_)), (5, .int (nI al)), (4, .int (nI 7)), (2, .int (nI 1)), (0, .ref t9), (1, .int (nI k9))]) hx hb dX6_laneOfColumn_129 hl (k := 3) rfl rfl (by decide) (by decide) rfl (fun ls hl => ?_)
                    refine lv_goto (tgt := 42) hx hb dX6_laneOfColumn_132 (by decide) ?_
                    exact ih_4 (q_ + 1) ls (by omega) ⟨lv_sub hl [0, 4, 5, 6] rfl, by omega, ⟨fun h9 => hn_.1 (by omega), fun h9 => hn_.2.1 (by omega), fun h9 => hn_.2.2.1 (by omega), fun h9 => hnal⟩⟩
                  · have hyes : colAll 7 (tCols tb) (tRows tb) (cellW tb) k9 := by rcases hal with z9 | z9; exact fun j9 h9 => z9.2 j9 (by omega); exact absurd z9.1 (by omega)
                    refine lv_iload hx hb dX6_laneOfColumn_126 (lv_at hl 2 rfl) ?_
                    exact ct_iretR (ty := .int) (v := (nI 7)) B rfl rfl (by unfold laneT; rw [if_pos hany, if_neg (hn_.1 (by omega)), if_neg (hn_.2.1 (by omega)), if_neg (hn_.2.2.1 (by omega)), if_pos hyes]) dX6_laneOfColumn_128
                · have hok9 : ∀ j, j < u_ → missW (cellW tb (tCols tb * j + k9)) ∨ takesW 7 (cellW tb (tCols tb * j + k9)) := by rcases hal with z9 | z9; exact z9.2; exact absurd z9.1 (by omega)
                  refine lv_aload_n hx hb dX6_laneOfColumn_101 rfl (lv_at hl 5 rfl) ?_
                  refine lv_iload hx hb dX6_laneOfColumn_102 (lv_at hl 0 rfl) ?_
                  refine lv_iload_n hx hb dX6_laneOfColumn_104 rfl (lv_at hl 6 rfl) ?_
                  refine ct_callR (ct_runV (As := [.int (nI u_), .int (nI k9)]) (rest := []) B (met_X11_at l E im t9 n9 c9 ln tb u_ k9 s.heap.size hT hok (by omega) (by omega)) (lw_V q1163 q1164 q1165 q63 q1166) (n := 2) ⟨by decide, by decide, by decide +kernel⟩ rfl ⟨rfl, rfl, (Nat.le_of_ble_eq_true rfl), (Nat.le_of_ble_eq_true rfl), (Nat.le_of_ble_eq_true rfl), (Nat.le_of_ble_eq_true rfl)⟩ (va_S.rf (A := fun _ => False)) (fun _ h => h.elim) (ct_recv B hC kX11 0 rfl) ⟨(hC.sub [0] rfl), hI⟩ hl.1 (Nat.le_of_ble_eq_true rfl) dX6_laneOfColumn_105) (fun v hv => ?_)
                  obtain ⟨x9, rfl, hcx9⟩ := hv
                  refine W.eq (g2 := F0 m 108 ls [.ref x9]) rfl ?_
                  refine lv_iload hx hb dX6_laneOfColumn_108 (lv_at hl 2 rfl) ?_
                  refine ct_callR (ct_runS (As := [.ref x9, .int (nI 7)]) (rest := []) B (met_X6_isOfLane l E im x9 7 (cellW tb (tCols tb * u_ + k9)) s.heap.size hcx9 (by omega)) (lw_S q1174 q1175 q54 q1176) (n := 2) ⟨by decide, by decide, by decide +kernel⟩ rfl ⟨rfl, rfl, (Nat.le_of_ble_eq_true rfl), (Nat.le_of_ble_eq_true rfl), (Nat.le_of_ble_eq_true rfl), (Nat.le_of_ble_eq_true rfl)⟩ (va_S.rf (A := fun _ => False)) (fun _ h => h.elim) hI hl.1 (Nat.le_of_ble_eq_true rfl) dX6_laneOfColumn_110) (fun v hv => ?_)
                  subst hv
                  refine W.eq (g2 := F0 m 113 ls [.int (if missW (cellW tb (tCols tb * u_ + k9)) ∨ takesW 7 (cellW tb (tCols tb * u_ + k9)) then 1 else 0)]) rfl ?_
                  by_cases col : missW (cellW tb (tCols tb * u_ + k9)) ∨ takesW 7 (cellW tb (tCols tb * u_ + k9))
                  · refine W.eq (g2 := F0 m 113 ls [.int (nI 1)]) (by rw [if_pos col] <;> rfl) ?_
                    refine lv_istore (lv' := [(5, .int (nI 1)), (6, .int (nI u_)), (4, .int (nI 7)), (3, .int (nI q_)), (2, .int (nI 1)), (0, .ref t9), (1, .int (nI k9))]) hx hb dX6_laneOfColumn_113 hl (by decide) rfl (fun ls hl => ?_)
                    refine n_iinc (n := 1) (lv' := [(6, .int (nI (u_ + 1))), (5, .int (nI 1)), (4, .int (nI 7)), (3, .int (nI q_)), (2, .int (nI 1)), (0, .ref t9), (1, .int (nI k9))]) hx hb dX6_laneOfColumn_115 hl (k := 1) rfl rfl (by decide) (by decide) rfl (fun ls hl => ?_)
                    refine lv_goto (tgt := 87) hx hb dX6_laneOfColumn_118 (by decide) ?_
                    exact ih_6 ((u_ + 1), 1) ls (by dsimp only; omega) ⟨lv_sub hl [0, 1, 2, 3, 4, 5, 6] rfl, by omega, Or.inl ⟨rfl, fun j hj => by rcases Nat.lt_succ_iff_lt_or_eq.mp hj with q9 | q9; exact hok9 j q9; rw [q9]; exact col⟩⟩
                  · refine W.eq (g2 := F0 m 113 ls [.int (nI 0)]) (by rw [if_neg col] <;> rfl) ?_
                    refine lv_istore (lv' := [(5, .int (nI 0)), (6, .int (nI u_)), (4, .int (nI 7)), (3, .int (nI q_)), (2, .int (nI 1)), (0, .ref t9), (1, .int (nI k9))]) hx hb dX6_laneOfColumn_113 hl (by decide) rfl (fun ls hl => ?_)
                    refine n_iinc (n := 1) (lv' := [(6, .int (nI (u_ + 1))), (5, .int (nI 0)), (4, .int (nI 7)), (3, .int (nI q_)), (2, .int (nI 1)), (0, .ref t9), (1, .int (nI k9))]) hx hb dX6_laneOfColumn_115 hl (k := 1) rfl rfl (by decide) (by decide) rfl (fun ls hl => ?_)
                    refine lv_goto (tgt := 87) hx hb dX6_laneOfColumn_118 (by decide) ?_
                    exact ih_6 ((u_ + 1), 0) ls (by dsimp only; omega) ⟨lv_sub hl [0, 1, 2, 3, 4, 5, 6] rfl, by omega, Or.inr ⟨rfl, fun z9 => col (z9 u_ (by omega))⟩⟩
            · refine lv_iconst (v := nI 5) hx hb dX6_laneOfColumn_73 (by decide) ?_
              refine lv_goto (tgt := 79) hx hb dX6_laneOfColumn_74 (by decide) ?_
              refine lv_istore (lv' := [(4, .int (nI 5)), (3, .int (nI q_)), (2, .int (nI 1)), (0, .ref t9), (1, .int (nI k9))]) hx hb dX6_laneOfColumn_79 hl (by decide) rfl (fun ls hl => ?_)
              refine lv_iconst (v := nI 1) hx hb dX6_laneOfColumn_81 (by decide) ?_
              refine lv_istore (lv' := [(5, .int (nI 1)), (4, .int (nI 5)), (3, .int (nI q_)), (2, .int (nI 1)), (0, .ref t9), (1, .int (nI k9))]) hx hb dX6_laneOfColumn_82 hl (by decide) rfl (fun ls hl => ?_)
              refine lv_iconst (v := nI 0) hx hb dX6_laneOfColumn_84 (by decide) ?_
              refine lv_istore (lv' := [(6, .int (nI 0)), (5, .int (nI 1)), (4, .int (nI 5)), (3, .int (nI q_)), (2, .int (nI 1)), (0, .ref t9), (1, .int (nI k9))]) hx hb dX6_laneOfColumn_85 hl (by decide) rfl (fun ls hl => ?_)
              refine ct_loop (σ := Nat × Nat) (fun (u_, al) ls => lv_has ls 7 [(6, .int (nI u_)), (5, .int (nI al)), (4, .int (nI 5)), (3, .int (nI q_)), (2, .int (nI 1)), (0, .ref t9), (1, .int (nI k9))] ∧ (u_ ≤ tRows tb) ∧ ((al = 1 ∧ ∀ j, j < u_ → missW (cellW tb (tCols tb * j + k9)) ∨ takesW 5 (cellW tb (tCols tb * j + k9))) ∨ (al = 0 ∧ ¬ colAll 5 (tCols tb) (tRows tb) (cellW tb) k9))) (fun (u_, al) => tRows tb - u_) (g := fun (u_, al) ls => F0 m 87 ls []) (x0 := (0, 1)) (ls0 := ls) ?_ ⟨lv_sub hl [0, 1, 2, 3, 4, 5, 6] rfl, Nat.zero_le _, Or.inl ⟨rfl, fun j hj => absurd hj (Nat.not_lt_zero j)⟩⟩
              clear hl
              intro x9 ls hI ih_8
              obtain ⟨u_, al⟩ := x9
              obtain ⟨hl, hu_, hal⟩ := hI
              refine W.eq (g2 := F0 m 87 ls []) rfl ?_
              refine lv_iload hx hb dX6_laneOfColumn_87 (lv_at hl 0 rfl) ?_
              refine lv_aload_n hx hb dX6_laneOfColumn_89 rfl (lv_at hl 5 rfl) ?_
              refine ct_callR (ct_runV (As := []) (rest := [.int (nI u_)]) B (met_X11_rows l E im t9 n9 c9 ln tb s.heap.size hT hok) (lw_V q1158 q1159 q1160 q63 q1161) (n := 0) ⟨by decide, by decide, by decide +kernel⟩ rfl ⟨rfl, rfl, (Nat.le_of_ble_eq_true rfl), (Nat.le_of_ble_eq_true rfl), (Nat.le_of_ble_eq_true rfl), (Nat.le_of_ble_eq_true rfl)⟩ (va_S.rf (A := fun _ => False)) (fun _ h => h.elim) (ct_recv B hC kX11 0 rfl) ⟨(hC.sub [0] rfl), hI⟩ hl.1 (Nat.le_of_ble_eq_true rfl) dX6_laneOfColumn_90) (fun v hv => ?_)
              subst hv
              refine W.eq (g2 := F0 m 93 ls [.int (nI (tRows tb)), .int (nI u_)]) rfl ?_
              refine n_icmp_ge (tgt := 121) hx hb dX6_laneOfColumn_93 (by decide) (by omega) (by omega) (fun c_9 => ?_) (fun c_9 => ?_)
              · refine lv_iload hx hb dX6_laneOfColumn_121 (lv_at hl 1 rfl) ?_
                refine n_if_eq (tgt := 129) hx hb dX6_laneOfColumn_123 (by decide) (by first | omega | (rcases hal with z9 | z9 <;> omega)) (fun cal2 => ?_) (fun cal2 => ?_)
                · have hnal : ¬ colAll 5 (tCols tb) (tRows tb) (cellW tb) k9 := by rcases hal with z9 | z9; exact absurd z9.1 (by omega); exact z9.2
                  refine n_iinc (n := 1) (lv' := [(3, .int (nI (q_ + 1))), (6, .int (nI u_)), (5, .int (nI al)), (4, .int (nI 5)), (2, .int (nI 1)), (0, .ref t9), (1, .int (nI k9))]) hx hb dX6_laneOfColumn_129 hl (k := 3) rfl rfl (by decide) (by decide) rfl (fun ls hl => ?_)
                  refine lv_goto (tgt := 42) hx hb dX6_laneOfColumn_132 (by decide) ?_
                  exact ih_4 (q_ + 1) ls (by omega) ⟨lv_sub hl [0, 4, 5, 6] rfl, by omega, ⟨fun h9 => hn_.1 (by omega), fun h9 => hn_.2.1 (by omega), fun h9 => hnal, fun h9 => by omega⟩⟩
                · have hyes : colAll 5 (tCols tb) (tRows tb) (cellW tb) k9 := by rcases hal with z9 | z9; exact fun j9 h9 => z9.2 j9 (by omega); exact absurd z9.1 (by omega)
                  refine lv_iload hx hb dX6_laneOfColumn_126 (lv_at hl 2 rfl) ?_
                  exact ct_iretR (ty := .int) (v := (nI 5)) B rfl rfl (by unfold laneT; rw [if_pos hany, if_neg (hn_.1 (by omega)), if_neg (hn_.2.1 (by omega)), if_pos hyes]) dX6_laneOfColumn_128
              · refine lv_iload hx hb dX6_laneOfColumn_96 (lv_at hl 1 rfl) ?_
                refine n_if_eq (tgt := 121) hx hb dX6_laneOfColumn_98 (by decide) (by first | omega | (rcases hal with z9 | z9 <;> omega)) (fun cal => ?_) (fun cal => ?_)
                · refine lv_iload hx hb dX6_laneOfColumn_121 (lv_at hl 1 rfl) ?_
                  refine n_if_eq (tgt := 129) hx hb dX6_laneOfColumn_123 (by decide) (by first | omega | (rcases hal with z9 | z9 <;> omega)) (fun cal2 => ?_) (fun cal2 => ?_)
                  · have hnal : ¬ colAll 5 (tCols tb) (tRows tb) (cellW tb) k9 := by rcases hal with z9 | z9; exact absurd z9.1 (by omega); exact z9.2
                    refine n_iinc (n := 1) (lv' := [(3, .int (nI (q_ + 1))), (6, .int (nI u_)), (5, .int (nI al)), (4, .int (nI 5)), (2, .int (nI 1)), (0, .ref t9), (1, .int (nI k9))]) hx hb dX6_laneOfColumn_129 hl (k := 3) rfl rfl (by decide) (by decide) rfl (fun ls hl => ?_)
                    refine lv_goto (tgt := 42) hx hb dX6_laneOfColumn_132 (by decide) ?_
                    exact ih_4 (q_ + 1) ls (by omega) ⟨lv_sub hl [0, 4, 5, 6] rfl, by omega, ⟨fun h9 => hn_.1 (by omega), fun h9 => hn_.2.1 (by omega), fun h9 => hnal, fun h9 => by omega⟩⟩
                  · have hyes : colAll 5 (tCols tb) (tRows tb) (cellW tb) k9 := by rcases hal with z9 | z9; exact fun j9 h9 => z9.2 j9 (by omega); exact absurd z9.1 (by omega)
                    refine lv_iload hx hb dX6_laneOfColumn_126 (lv_at hl 2 rfl) ?_
                    exact ct_iretR (ty := .int) (v := (nI 5)) B rfl rfl (by unfold laneT; rw [if_pos hany, if_neg (hn_.1 (by omega)), if_neg (hn_.2.1 (by omega)), if_pos hyes]) dX6_laneOfColumn_128
                · have hok9 : ∀ j, j < u_ → missW (cellW tb (tCols tb * j + k9)) ∨ takesW 5 (cellW tb (tCols tb * j + k9)) := by rcases hal with z9 | z9; exact z9.2; exact absurd z9.1 (by omega)
                  refine lv_aload_n hx hb dX6_laneOfColumn_101 rfl (lv_at hl 5 rfl) ?_
                  refine lv_iload hx hb dX6_laneOfColumn_102 (lv_at hl 0 rfl) ?_
                  refine lv_iload_n hx hb dX6_laneOfColumn_104 rfl (lv_at hl 6 rfl) ?_
                  refine ct_callR (ct_runV (As := [.int (nI u_), .int (nI k9)]) (rest := []) B (met_X11_at l E im t9 n9 c9 ln tb u_ k9 s.heap.size hT hok (by omega) (by omega)) (lw_V q1163 q1164 q1165 q63 q1166) (n := 2) ⟨by decide, by decide, by decide +kernel⟩ rfl ⟨rfl, rfl, (Nat.le_of_ble_eq_true rfl), (Nat.le_of_ble_eq_true rfl), (Nat.le_of_ble_eq_true rfl), (Nat.le_of_ble_eq_true rfl)⟩ (va_S.rf (A := fun _ => False)) (fun _ h => h.elim) (ct_recv B hC kX11 0 rfl) ⟨(hC.sub [0] rfl), hI⟩ hl.1 (Nat.le_of_ble_eq_true rfl) dX6_laneOfColumn_105) (fun v hv => ?_)
                  obtain ⟨x9, rfl, hcx9⟩ := hv
                  refine W.eq (g2 := F0 m 108 ls [.ref x9]) rfl ?_
                  refine lv_iload hx hb dX6_laneOfColumn_108 (lv_at hl 2 rfl) ?_
                  refine ct_callR (ct_runS (As := [.ref x9, .int (nI 5)]) (rest := []) B (met_X6_isOfLane l E im x9 5 (cellW tb (tCols tb * u_ + k9)) s.heap.size hcx9 (by omega)) (lw_S q1174 q1175 q54 q1176) (n := 2) ⟨by decide, by decide, by decide +kernel⟩ rfl ⟨rfl, rfl, (Nat.le_of_ble_eq_true rfl), (Nat.le_of_ble_eq_true rfl), (Nat.le_of_ble_eq_true rfl), (Nat.le_of_ble_eq_true rfl)⟩ (va_S.rf (A := fun _ => False)) (fun _ h => h.elim) hI hl.1 (Nat.le_of_ble_eq_true rfl) dX6_laneOfColumn_110) (fun v hv => ?_)
                  subst hv
                  refine W.eq (g2 := F0 m 113 ls [.int (if missW (cellW tb (tCols tb * u_ + k9)) ∨ takesW 5 (cellW tb (tCols tb * u_ + k9)) then 1 else 0)]) rfl ?_
                  by_cases col : missW (cellW tb (tCols tb * u_ + k9)) ∨ takesW 5 (cellW tb (tCols tb * u_ + k9))
                  · refine W.eq (g2 := F0 m 113 ls [.int (nI 1)]) (by rw [if_pos col] <;> rfl) ?_
                    refine lv_istore (lv' := [(5, .int (nI 1)), (6, .int (nI u_)), (4, .int (nI 5)), (3, .int (nI q_)), (2, .int (nI 1)), (0, .ref t9), (1, .int (nI k9))]) hx hb dX6_laneOfColumn_113 hl (by decide) rfl (fun ls hl => ?_)
                    refine n_iinc (n := 1) (lv' := [(6, .int (nI (u_ + 1))), (5, .int (nI 1)), (4, .int (nI 5)), (3, .int (nI q_)), (2, .int (nI 1)), (0, .ref t9), (1, .int (nI k9))]) hx hb dX6_laneOfColumn_115 hl (k := 1) rfl rfl (by decide) (by decide) rfl (fun ls hl => ?_)
                    refine lv_goto (tgt := 87) hx hb dX6_laneOfColumn_118 (by decide) ?_
                    exact ih_8 ((u_ + 1), 1) ls (by dsimp only; omega) ⟨lv_sub hl [0, 1, 2, 3, 4, 5, 6] rfl, by omega, Or.inl ⟨rfl, fun j hj => by rcases Nat.lt_succ_iff_lt_or_eq.mp hj with q9 | q9; exact hok9 j q9; rw [q9]; exact col⟩⟩
                  · refine W.eq (g2 := F0 m 113 ls [.int (nI 0)]) (by rw [if_neg col] <;> rfl) ?_
                    refine lv_istore (lv' := [(5, .int (nI 0)), (6, .int (nI u_)), (4, .int (nI 5)), (3, .int (nI q_)), (2, .int (nI 1)), (0, .ref t9), (1, .int (nI k9))]) hx hb dX6_laneOfColumn_113 hl (by decide) rfl (fun ls hl => ?_)
                    refine n_iinc (n := 1) (lv' := [(6, .int (nI (u_ + 1))), (5, .int (nI 0)), (4, .int (nI 5)), (3, .int (nI q_)), (2, .int (nI 1)), (0, .ref t9), (1, .int (nI k9))]) hx hb dX6_laneOfColumn_115 hl (k := 1) rfl rfl (by decide) (by decide) rfl (fun ls hl => ?_)
                    refine lv_goto (tgt := 87) hx hb dX6_laneOfColumn_118 (by decide) ?_
                    exact ih_8 ((u_ + 1), 0) ls (by dsimp only; omega) ⟨lv_sub hl [0, 1, 2, 3, 4, 5, 6] rfl, by omega, Or.inr ⟨rfl, fun z9 => col (z9 u_ (by omega))⟩⟩
          · refine lv_iconst (v := nI 4) hx hb dX6_laneOfColumn_64 (by decide) ?_
            refine lv_goto (tgt := 79) hx hb dX6_laneOfColumn_65 (by decide) ?_
            refine lv_istore (lv' := [(4, .int (nI 4)), (3, .int (nI q_)), (2, .int (nI 1)), (0, .ref t9), (1, .int (nI k9))]) hx hb dX6_laneOfColumn_79 hl (by decide) rfl (fun ls hl => ?_)
            refine lv_iconst (v := nI 1) hx hb dX6_laneOfColumn_81 (by decide) ?_
            refine lv_istore (lv' := [(5, .int (nI 1)), (4, .int (nI 4)), (3, .int (nI q_)), (2, .int (nI 1)), (0, .ref t9), (1, .int (nI k9))]) hx hb dX6_laneOfColumn_82 hl (by decide) rfl (fun ls hl => ?_)
            refine lv_iconst (v := nI 0) hx hb dX6_laneOfColumn_84 (by decide) ?_
            refine lv_istore (lv' := [(6, .int (nI 0)), (5, .int (nI 1)), (4, .int (nI 4)), (3, .int (nI q_)), (2, .int (nI 1)), (0, .ref t9), (1, .int (nI k9))]) hx hb dX6_laneOfColumn_85 hl (by decide) rfl (fun ls hl => ?_)
            refine ct_loop (σ := Nat × Nat) (fun (u_, al) ls => lv_has ls 7 [(6, .int (nI u_)), (5, .int (nI al)), (4, .int (nI 4)), (3, .int (nI q_)), (2, .int (nI 1)), (0, .ref t9), (1, .int (nI k9))] ∧ (u_ ≤ tRows tb) ∧ ((al = 1 ∧ ∀ j, j < u_ → missW (cellW tb (tCols tb * j + k9)) ∨ takesW 4 (cellW tb (tCols tb * j + k9))) ∨ (al = 0 ∧ ¬ colAll 4 (tCols tb) (tRows tb) (cellW tb) k9))) (fun (u_, al) => tRows tb - u_) (g := fun (u_, al) ls => F0 m 87 ls []) (x0 := (0, 1)) (ls0 := ls) ?_ ⟨lv_sub hl [0, 1, 2, 3, 4, 5, 6] rfl, Nat.zero_le _, Or.inl ⟨rfl, fun j hj => absurd hj (Nat.not_lt_zero j)⟩⟩
            clear hl
            intro x9 ls hI ih_10
            obtain ⟨u_, al⟩ := x9
            obtain ⟨hl, hu_, hal⟩ := hI
            refine W.eq (g2 := F0 m 87 ls []) rfl ?_
            refine lv_iload hx hb dX6_laneOfColumn_87 (lv_at hl 0 rfl) ?_
            refine lv_aload_n hx hb dX6_laneOfColumn_89 rfl (lv_at hl 5 rfl) ?_
            refine ct_callR (ct_runV (As := []) (rest := [.int (nI u_)]) B (met_X11_rows l E im t9 n9 c9 ln tb s.heap.size hT hok) (lw_V q1158 q1159 q1160 q63 q1161) (n := 0) ⟨by decide, by decide, by decide +kernel⟩ rfl ⟨rfl, rfl, (Nat.le_of_ble_eq_true rfl), (Nat.le_of_ble_eq_true rfl), (Nat.le_of_ble_eq_true rfl), (Nat.le_of_ble_eq_true rfl)⟩ (va_S.rf (A := fun _ => False)) (fun _ h => h.elim) (ct_recv B hC kX11 0 rfl) ⟨(hC.sub [0] rfl), hI⟩ hl.1 (Nat.le_of_ble_eq_true rfl) dX6_laneOfColumn_90) (fun v hv => ?_)
            subst hv
            refine W.eq (g2 := F0 m 93 ls [.int (nI (tRows tb)), .int (nI u_)]) rfl ?_
            refine n_icmp_ge (tgt := 121) hx hb dX6_laneOfColumn_93 (by decide) (by omega) (by omega) (fun c_11 => ?_) (fun c_11 => ?_)
            · refine lv_iload hx hb dX6_laneOfColumn_121 (lv_at hl 1 rfl) ?_
              refine n_if_eq (tgt := 129) hx hb dX6_laneOfColumn_123 (by decide) (by first | omega | (rcases hal with z9 | z9 <;> omega)) (fun cal2 => ?_) (fun cal2 => ?_)
              · have hnal : ¬ colAll 4 (tCols tb) (tRows tb) (cellW tb) k9 := by rcases hal with z9 | z9; exact absurd z9.1 (by omega); exact z9.2
                refine n_iinc (n := 1) (lv' := [(3, .int (nI (q_ + 1))), (6, .int (nI u_)), (5, .int (nI al)), (4, .int (nI 4)), (2, .int (nI 1)), (0, .ref t9), (1, .int (nI k9))]) hx hb dX6_laneOfColumn_129 hl (k := 3) rfl rfl (by decide) (by decide) rfl (fun ls hl => ?_)
                refine lv_goto (tgt := 42) hx hb dX6_laneOfColumn_132 (by decide) ?_
                exact ih_4 (q_ + 1) ls (by omega) ⟨lv_sub hl [0, 4, 5, 6] rfl, by omega, ⟨fun h9 => hn_.1 (by omega), fun h9 => hnal, fun h9 => by omega, fun h9 => by omega⟩⟩
              · have hyes : colAll 4 (tCols tb) (tRows tb) (cellW tb) k9 := by rcases hal with z9 | z9; exact fun j9 h9 => z9.2 j9 (by omega); exact absurd z9.1 (by omega)
                refine lv_iload hx hb dX6_laneOfColumn_126 (lv_at hl 2 rfl) ?_
                exact ct_iretR (ty := .int) (v := (nI 4)) B rfl rfl (by unfold laneT; rw [if_pos hany, if_neg (hn_.1 (by omega)), if_pos hyes]) dX6_laneOfColumn_128
            · refine lv_iload hx hb dX6_laneOfColumn_96 (lv_at hl 1 rfl) ?_
              refine n_if_eq (tgt := 121) hx hb dX6_laneOfColumn_98 (by decide) (by first | omega | (rcases hal with z9 | z9 <;> omega)) (fun cal => ?_) (fun cal => ?_)
              · refine lv_iload hx hb dX6_laneOfColumn_121 (lv_at hl 1 rfl) ?_
                refine n_if_eq (tgt := 129) hx hb dX6_laneOfColumn_123 (by decide) (by first | omega | (rcases hal with z9 | z9 <;> omega)) (fun cal2 => ?_) (fun cal2 => ?_)
                · have hnal : ¬ colAll 4 (tCols tb) (tRows tb) (cellW tb) k9 := by rcases hal with z9 | z9; exact absurd z9.1 (by omega); exact z9.2
                  refine n_iinc (n := 1) (lv' := [(3, .int (nI (q_ + 1))), (6, .int (nI u_)), (5, .int (nI al)), (4, .int (nI 4)), (2, .int (nI 1)), (0, .ref t9), (1, .int (nI k9))]) hx hb dX6_laneOfColumn_129 hl (k := 3) rfl rfl (by decide) (by decide) rfl (fun ls hl => ?_)
                  refine lv_goto (tgt := 42) hx hb dX6_laneOfColumn_132 (by decide) ?_
                  exact ih_4 (q_ + 1) ls (by omega) ⟨lv_sub hl [0, 4, 5, 6] rfl, by omega, ⟨fun h9 => hn_.1 (by omega), fun h9 => hnal, fun h9 => by omega, fun h9 => by omega⟩⟩
                · have hyes : colAll 4 (tCols tb) (tRows tb) (cellW tb) k9 := by rcases hal with z9 | z9; exact fun j9 h9 => z9.2 j9 (by omega); exact absurd z9.1 (by omega)
                  refine lv_iload hx hb dX6_laneOfColumn_126 (lv_at hl 2 rfl) ?_
                  exact ct_iretR (ty := .int) (v := (nI 4)) B rfl rfl (by unfold laneT; rw [if_pos hany, if_neg (hn_.1 (by omega)), if_pos hyes]) dX6_laneOfColumn_128
              · have hok9 : ∀ j, j < u_ → missW (cellW tb (tCols tb * j + k9)) ∨ takesW 4 (cellW tb (tCols tb * j + k9)) := by rcases hal with z9 | z9; exact z9.2; exact absurd z9.1 (by omega)
                refine lv_aload_n hx hb dX6_laneOfColumn_101 rfl (lv_at hl 5 rfl) ?_
                refine lv_iload hx hb dX6_laneOfColumn_102 (lv_at hl 0 rfl) ?_
                refine lv_iload_n hx hb dX6_laneOfColumn_104 rfl (lv_at hl 6 rfl) ?_
                refine ct_callR (ct_runV (As := [.int (nI u_), .int (nI k9)]) (rest := []) B (met_X11_at l E im t9 n9 c9 ln tb u_ k9 s.heap.size hT hok (by omega) (by omega)) (lw_V q1163 q1164 q1165 q63 q1166) (n := 2) ⟨by decide, by decide, by decide +kernel⟩ rfl ⟨rfl, rfl, (Nat.le_of_ble_eq_true rfl), (Nat.le_of_ble_eq_true rfl), (Nat.le_of_ble_eq_true rfl), (Nat.le_of_ble_eq_true rfl)⟩ (va_S.rf (A := fun _ => False)) (fun _ h => h.elim) (ct_recv B hC kX11 0 rfl) ⟨(hC.sub [0] rfl), hI⟩ hl.1 (Nat.le_of_ble_eq_true rfl) dX6_laneOfColumn_105) (fun v hv => ?_)
                obtain ⟨x9, rfl, hcx9⟩ := hv
                refine W.eq (g2 := F0 m 108 ls [.ref x9]) rfl ?_
                refine lv_iload hx hb dX6_laneOfColumn_108 (lv_at hl 2 rfl) ?_
                refine ct_callR (ct_runS (As := [.ref x9, .int (nI 4)]) (rest := []) B (met_X6_isOfLane l E im x9 4 (cellW tb (tCols tb * u_ + k9)) s.heap.size hcx9 (by omega)) (lw_S q1174 q1175 q54 q1176) (n := 2) ⟨by decide, by decide, by decide +kernel⟩ rfl ⟨rfl, rfl, (Nat.le_of_ble_eq_true rfl), (Nat.le_of_ble_eq_true rfl), (Nat.le_of_ble_eq_true rfl), (Nat.le_of_ble_eq_true rfl)⟩ (va_S.rf (A := fun _ => False)) (fun _ h => h.elim) hI hl.1 (Nat.le_of_ble_eq_true rfl) dX6_laneOfColumn_110) (fun v hv => ?_)
                subst hv
                refine W.eq (g2 := F0 m 113 ls [.int (if missW (cellW tb (tCols tb * u_ + k9)) ∨ takesW 4 (cellW tb (tCols tb * u_ + k9)) then 1 else 0)]) rfl ?_
                by_cases col : missW (cellW tb (tCols tb * u_ + k9)) ∨ takesW 4 (cellW tb (tCols tb * u_ + k9))
                · refine W.eq (g2 := F0 m 113 ls [.int (nI 1)]) (by rw [if_pos col] <;> rfl) ?_
                  refine lv_istore (lv' := [(5, .int (nI 1)), (6, .int (nI u_)), (4, .int (nI 4)), (3, .int (nI q_)), (2, .int (nI 1)), (0, .ref t9), (1, .int (nI k9))]) hx hb dX6_laneOfColumn_113 hl (by decide) rfl (fun ls hl => ?_)
                  refine n_iinc (n := 1) (lv' := [(6, .int (nI (u_ + 1))), (5, .int (nI 1)), (4, .int (nI 4)), (3, .int (nI q_)), (2, .int (nI 1)), (0, .ref t9), (1, .int (nI k9))]) hx hb dX6_laneOfColumn_115 hl (k := 1) rfl rfl (by decide) (by decide) rfl (fun ls hl => ?_)
                  refine lv_goto (tgt := 87) hx hb dX6_laneOfColumn_118 (by decide) ?_
                  exact ih_10 ((u_ + 1), 1) ls (by dsimp only; omega) ⟨lv_sub hl [0, 1, 2, 3, 4, 5, 6] rfl, by omega, Or.inl ⟨rfl, fun j hj => by rcases Nat.lt_succ_iff_lt_or_eq.mp hj with q9 | q9; exact hok9 j q9; rw [q9]; exact col⟩⟩
                · refine W.eq (g2 := F0 m 113 ls [.int (nI 0)]) (by rw [if_neg col] <;> rfl) ?_
                  refine lv_istore (lv' := [(5, .int (nI 0)), (6, .int (nI u_)), (4, .int (nI 4)), (3, .int (nI q_)), (2, .int (nI 1)), (0, .ref t9), (1, .int (nI k9))]) hx hb dX6_laneOfColumn_113 hl (by decide) rfl (fun ls hl => ?_)
                  refine n_iinc (n := 1) (lv' := [(6, .int (nI (u_ + 1))), (5, .int (nI 0)), (4, .int (nI 4)), (3, .int (nI q_)), (2, .int (nI 1)), (0, .ref t9), (1, .int (nI k9))]) hx hb dX6_laneOfColumn_115 hl (k := 1) rfl rfl (by decide) (by decide) rfl (fun ls hl => ?_)
                  refine lv_goto (tgt := 87) hx hb dX6_laneOfColumn_118 (by decide) ?_
                  exact ih_10 ((u_ + 1), 0) ls (by dsimp only; omega) ⟨lv_sub hl [0, 1, 2, 3, 4, 5, 6] rfl, by omega, Or.inr ⟨rfl, fun z9 => col (z9 u_ (by omega))⟩⟩
        · refine lv_iconst (v := nI 0) hx hb dX6_laneOfColumn_55 (by decide) ?_
          refine lv_goto (tgt := 79) hx hb dX6_laneOfColumn_56 (by decide) ?_
          refine lv_istore (lv' := [(4, .int (nI 0)), (3, .int (nI q_)), (2, .int (nI 1)), (0, .ref t9), (1, .int (nI k9))]) hx hb dX6_laneOfColumn_79 hl (by decide) rfl (fun ls hl => ?_)
          refine lv_iconst (v := nI 1) hx hb dX6_laneOfColumn_81 (by decide) ?_
          refine lv_istore (lv' := [(5, .int (nI 1)), (4, .int (nI 0)), (3, .int (nI q_)), (2, .int (nI 1)), (0, .ref t9), (1, .int (nI k9))]) hx hb dX6_laneOfColumn_82 hl (by decide) rfl (fun ls hl => ?_)
          refine lv_iconst (v := nI 0) hx hb dX6_laneOfColumn_84 (by decide) ?_
          refine lv_istore (lv' := [(6, .int (nI 0)), (5, .int (nI 1)), (4, .int (nI 0)), (3, .int (nI q_)), (2, .int (nI 1)), (0, .ref t9), (1, .int (nI k9))]) hx hb dX6_laneOfColumn_85 hl (by decide) rfl (fun ls hl => ?_)
          refine ct_loop (σ := Nat × Nat) (fun (u_, al) ls => lv_has ls 7 [(6, .int (nI u_)), (5, .int (nI al)), (4, .int (nI 0)), (3, .int (nI q_)), (2, .int (nI 1)), (0, .ref t9), (1, .int (nI k9))] ∧ (u_ ≤ tRows tb) ∧ ((al = 1 ∧ ∀ j, j < u_ → missW (cellW tb (tCols tb * j + k9)) ∨ takesW 0 (cellW tb (tCols tb * j + k9))) ∨ (al = 0 ∧ ¬ colAll 0 (tCols tb) (tRows tb) (cellW tb) k9))) (fun (u_, al) => tRows tb - u_) (g := fun (u_, al) ls => F0 m 87 ls []) (x0 := (0, 1)) (ls0 := ls) ?_ ⟨lv_sub hl [0, 1, 2, 3, 4, 5, 6] rfl, Nat.zero_le _, Or.inl ⟨rfl, fun j hj => absurd hj (Nat.not_lt_zero j)⟩⟩
          clear hl
          intro x9 ls hI ih_12
          obtain ⟨u_, al⟩ := x9
          obtain ⟨hl, hu_, hal⟩ := hI
          refine W.eq (g2 := F0 m 87 ls []) rfl ?_
          refine lv_iload hx hb dX6_laneOfColumn_87 (lv_at hl 0 rfl) ?_
          refine lv_aload_n hx hb dX6_laneOfColumn_89 rfl (lv_at hl 5 rfl) ?_
          refine ct_callR (ct_runV (As := []) (rest := [.int (nI u_)]) B (met_X11_rows l E im t9 n9 c9 ln tb s.heap.size hT hok) (lw_V q1158 q1159 q1160 q63 q1161) (n := 0) ⟨by decide, by decide, by decide +kernel⟩ rfl ⟨rfl, rfl, (Nat.le_of_ble_eq_true rfl), (Nat.le_of_ble_eq_true rfl), (Nat.le_of_ble_eq_true rfl), (Nat.le_of_ble_eq_true rfl)⟩ (va_S.rf (A := fun _ => False)) (fun _ h => h.elim) (ct_recv B hC kX11 0 rfl) ⟨(hC.sub [0] rfl), hI⟩ hl.1 (Nat.le_of_ble_eq_true rfl) dX6_laneOfColumn_90) (fun v hv => ?_)
          subst hv
          refine W.eq (g2 := F0 m 93 ls [.int (nI (tRows tb)), .int (nI u_)]) rfl ?_
          refine n_icmp_ge (tgt := 121) hx hb dX6_laneOfColumn_93 (by decide) (by omega) (by omega) (fun c_13 => ?_) (fun c_13 => ?_)
          · refine lv_iload hx hb dX6_laneOfColumn_121 (lv_at hl 1 rfl) ?_
            refine n_if_eq (tgt := 129) hx hb dX6_laneOfColumn_123 (by decide) (by first | omega | (rcases hal with z9 | z9 <;> omega)) (fun cal2 => ?_) (fun cal2 => ?_)
            · have hnal : ¬ colAll 0 (tCols tb) (tRows tb) (cellW tb) k9 := by rcases hal with z9 | z9; exact absurd z9.1 (by omega); exact z9.2
              refine n_iinc (n := 1) (lv' := [(3, .int (nI (q_ + 1))), (6, .int (nI u_)), (5, .int (nI al)), (4, .int (nI 0)), (2, .int (nI 1)), (0, .ref t9), (1, .int (nI k9))]) hx hb dX6_laneOfColumn_129 hl (k := 3) rfl rfl (by decide) (by decide) rfl (fun ls hl => ?_)
              refine lv_goto (tgt := 42) hx hb dX6_laneOfColumn_132 (by decide) ?_
              exact ih_4 (q_ + 1) ls (by omega) ⟨lv_sub hl [0, 4, 5, 6] rfl, by omega, ⟨fun h9 => hnal, fun h9 => by omega, fun h9 => by omega, fun h9 => by omega⟩⟩
            · have hyes : colAll 0 (tCols tb) (tRows tb) (cellW tb) k9 := by rcases hal with z9 | z9; exact fun j9 h9 => z9.2 j9 (by omega); exact absurd z9.1 (by omega)
              refine lv_iload hx hb dX6_laneOfColumn_126 (lv_at hl 2 rfl) ?_
              exact ct_iretR (ty := .int) (v := (nI 0)) B rfl rfl (by unfold laneT; rw [if_pos hany, if_pos hyes]) dX6_laneOfColumn_128
          · refine lv_iload hx hb dX6_laneOfColumn_96 (lv_at hl 1 rfl) ?_
            refine n_if_eq (tgt := 121) hx hb dX6_laneOfColumn_98 (by decide) (by first | omega | (rcases hal with z9 | z9 <;> omega)) (fun cal => ?_) (fun cal => ?_)
            · refine lv_iload hx hb dX6_laneOfColumn_121 (lv_at hl 1 rfl) ?_
              refine n_if_eq (tgt := 129) hx hb dX6_laneOfColumn_123 (by decide) (by first | omega | (rcases hal with z9 | z9 <;> omega)) (fun cal2 => ?_) (fun cal2 => ?_)
              · have hnal : ¬ colAll 0 (tCols tb) (tRows tb) (cellW tb) k9 := by rcases hal with z9 | z9; exact absurd z9.1 (by omega); exact z9.2
                refine n_iinc (n := 1) (lv' := [(3, .int (nI (q_ + 1))), (6, .int (nI u_)), (5, .int (nI al)), (4, .int (nI 0)), (2, .int (nI 1)), (0, .ref t9), (1, .int (nI k9))]) hx hb dX6_laneOfColumn_129 hl (k := 3) rfl rfl (by decide) (by decide) rfl (fun ls hl => ?_)
                refine lv_goto (tgt := 42) hx hb dX6_laneOfColumn_132 (by decide) ?_
                exact ih_4 (q_ + 1) ls (by omega) ⟨lv_sub hl [0, 4, 5, 6] rfl, by omega, ⟨fun h9 => hnal, fun h9 => by omega, fun h9 => by omega, fun h9 => by omega⟩⟩
              · have hyes : colAll 0 (tCols tb) (tRows tb) (cellW tb) k9 := by rcases hal with z9 | z9; exact fun j9 h9 => z9.2 j9 (by omega); exact absurd z9.1 (by omega)
                refine lv_iload hx hb dX6_laneOfColumn_126 (lv_at hl 2 rfl) ?_
                exact ct_iretR (ty := .int) (v := (nI 0)) B rfl rfl (by unfold laneT; rw [if_pos hany, if_pos hyes]) dX6_laneOfColumn_128
            · have hok9 : ∀ j, j < u_ → missW (cellW tb (tCols tb * j + k9)) ∨ takesW 0 (cellW tb (tCols tb * j + k9)) := by rcases hal with z9 | z9; exact z9.2; exact absurd z9.1 (by omega)
              refine lv_aload_n hx hb dX6_laneOfColumn_101 rfl (lv_at hl 5 rfl) ?_
              refine lv_iload hx hb dX6_laneOfColumn_102 (lv_at hl 0 rfl) ?_
              refine lv_iload_n hx hb dX6_laneOfColumn_104 rfl (lv_at hl 6 rfl) ?_
              refine ct_callR (ct_runV (As := [.int (nI u_), .int (nI k9)]) (rest := []) B (met_X11_at l E im t9 n9 c9 ln tb u_ k9 s.heap.size hT hok (by omega) (by omega)) (lw_V q1163 q1164 q1165 q63 q1166) (n := 2) ⟨by decide, by decide, by decide +kernel⟩ rfl ⟨rfl, rfl, (Nat.le_of_ble_eq_true rfl), (Nat.le_of_ble_eq_true rfl), (Nat.le_of_ble_eq_true rfl), (Nat.le_of_ble_eq_true rfl)⟩ (va_S.rf (A := fun _ => False)) (fun _ h => h.elim) (ct_recv B hC kX11 0 rfl) ⟨(hC.sub [0] rfl), hI⟩ hl.1 (Nat.le_of_ble_eq_true rfl) dX6_laneOfColumn_105) (fun v hv => ?_)
              obtain ⟨x9, rfl, hcx9⟩ := hv
              refine W.eq (g2 := F0 m 108 ls [.ref x9]) rfl ?_
              refine lv_iload hx hb dX6_laneOfColumn_108 (lv_at hl 2 rfl) ?_
              refine ct_callR (ct_runS (As := [.ref x9, .int (nI 0)]) (rest := []) B (met_X6_isOfLane l E im x9 0 (cellW tb (tCols tb * u_ + k9)) s.heap.size hcx9 (by omega)) (lw_S q1174 q1175 q54 q1176) (n := 2) ⟨by decide, by decide, by decide +kernel⟩ rfl ⟨rfl, rfl, (Nat.le_of_ble_eq_true rfl), (Nat.le_of_ble_eq_true rfl), (Nat.le_of_ble_eq_true rfl), (Nat.le_of_ble_eq_true rfl)⟩ (va_S.rf (A := fun _ => False)) (fun _ h => h.elim) hI hl.1 (Nat.le_of_ble_eq_true rfl) dX6_laneOfColumn_110) (fun v hv => ?_)
              subst hv
              refine W.eq (g2 := F0 m 113 ls [.int (if missW (cellW tb (tCols tb * u_ + k9)) ∨ takesW 0 (cellW tb (tCols tb * u_ + k9)) then 1 else 0)]) rfl ?_
              by_cases col : missW (cellW tb (tCols tb * u_ + k9)) ∨ takesW 0 (cellW tb (tCols tb * u_ + k9))
              · refine W.eq (g2 := F0 m 113 ls [.int (nI 1)]) (by rw [if_pos col] <;> rfl) ?_
                refine lv_istore (lv' := [(5, .int (nI 1)), (6, .int (nI u_)), (4, .int (nI 0)), (3, .int (nI q_)), (2, .int (nI 1)), (0, .ref t9), (1, .int (nI k9))]) hx hb dX6_laneOfColumn_113 hl (by decide) rfl (fun ls hl => ?_)
                refine n_iinc (n := 1) (lv' := [(6, .int (nI (u_ + 1))), (5, .int (nI 1)), (4, .int (nI 0)), (3, .int (nI q_)), (2, .int (nI 1)), (0, .ref t9), (1, .int (nI k9))]) hx hb dX6_laneOfColumn_115 hl (k := 1) rfl rfl (by decide) (by decide) rfl (fun ls hl => ?_)
                refine lv_goto (tgt := 87) hx hb dX6_laneOfColumn_118 (by decide) ?_
                exact ih_12 ((u_ + 1), 1) ls (by dsimp only; omega) ⟨lv_sub hl [0, 1, 2, 3, 4, 5, 6] rfl, by omega, Or.inl ⟨rfl, fun j hj => by rcases Nat.lt_succ_iff_lt_or_eq.mp hj with q9 | q9; exact hok9 j q9; rw [q9]; exact col⟩⟩
              · refine W.eq (g2 := F0 m 113 ls [.int (nI 0)]) (by rw [if_neg col] <;> rfl) ?_
                refine lv_istore (lv' := [(5, .int (nI 0)), (6, .int (nI u_)), (4, .int (nI 0)), (3, .int (nI q_)), (2, .int (nI 1)), (0, .ref t9), (1, .int (nI k9))]) hx hb dX6_laneOfColumn_113 hl (by decide) rfl (fun ls hl => ?_)
                refine n_iinc (n := 1) (lv' := [(6, .int (nI (u_ + 1))), (5, .int (nI 0)), (4, .int (nI 0)), (3, .int (nI q_)), (2, .int (nI 1)), (0, .ref t9), (1, .int (nI k9))]) hx hb dX6_laneOfColumn_115 hl (k := 1) rfl rfl (by decide) (by decide) rfl (fun ls hl => ?_)
                refine lv_goto (tgt := 87) hx hb dX6_laneOfColumn_118 (by decide) ?_
                exact ih_12 ((u_ + 1), 0) ls (by dsimp only; omega) ⟨lv_sub hl [0, 1, 2, 3, 4, 5, 6] rfl, by omega, Or.inr ⟨rfl, fun z9 => col (z9 u_ (by omega))⟩⟩
  · refine lv_iload_n hx hb dX6_laneOfColumn_12 rfl (lv_at hl 1 rfl) ?_
    refine n_if_ne (tgt := 40) hx hb dX6_laneOfColumn_13 (by decide) (by first | omega | (rcases hb_ with z9 | z9 <;> omega)) (fun cnb => ?_) (fun cnb => ?_)
    · obtain ⟨rfl, hany⟩ : b_ = 1 ∧ colAny (tCols tb) (tRows tb) (cellW tb) k9 := by rcases hb_ with z9 | z9; exact absurd z9.1 (by omega); exact z9
      refine lv_iconst (v := nI 0) hx hb dX6_laneOfColumn_40 (by decide) ?_
      refine lv_istore_n (lv' := [(3, .int (nI 0)), (2, .int (nI 1)), (0, .ref t9), (1, .int (nI k9))]) hx hb dX6_laneOfColumn_41 rfl hl (by decide) rfl (fun ls hl => ?_)
      refine ct_loop (σ := Nat) (fun q_ ls => lv_has ls 7 [(3, .int (nI q_)), (2, .int (nI 1)), (0, .ref t9), (1, .int (nI k9))] ∧ (q_ ≤ 4) ∧ ((1 ≤ q_ → ¬ colAll 0 (tCols tb) (tRows tb) (cellW tb) k9) ∧ (2 ≤ q_ → ¬ colAll 4 (tCols tb) (tRows tb) (cellW tb) k9) ∧ (3 ≤ q_ → ¬ colAll 5 (tCols tb) (tRows tb) (cellW tb) k9) ∧ (4 ≤ q_ → ¬ colAll 7 (tCols tb) (tRows tb) (cellW tb) k9))) (fun q_ => 4 - q_) (g := fun q_ ls => F0 m 42 ls []) (x0 := 0) (ls0 := ls) ?_ ⟨lv_sub hl [0, 1, 2, 3] rfl, Nat.zero_le _, ⟨fun h => by omega, fun h => by omega, fun h => by omega, fun h => by omega⟩⟩
      clear hl
      intro q_ ls hI ih_14
      obtain ⟨hl, hq_, hn_⟩ := hI
      refine W.eq (g2 := F0 m 42 ls []) rfl ?_
      refine lv_iload_n hx hb dX6_laneOfColumn_42 rfl (lv_at hl 0 rfl) ?_
      refine lv_iconst (v := nI 4) hx hb dX6_laneOfColumn_43 (by decide) ?_
      refine n_icmp_ge (tgt := 135) hx hb dX6_laneOfColumn_44 (by decide) (by omega) (by omega) (fun c4 => ?_) (fun c4 => ?_)
      · refine lv_bipush (v := nI 8) hx hb dX6_laneOfColumn_135 (by decide) ?_
        exact ct_iretR (ty := .int) (v := (nI 8)) B rfl rfl (by unfold laneT; rw [if_pos hany, if_neg (hn_.1 (by omega)), if_neg (hn_.2.1 (by omega)), if_neg (hn_.2.2.1 (by omega)), if_neg (hn_.2.2.2 (by omega))]) dX6_laneOfColumn_137
      · refine lv_iload_n hx hb dX6_laneOfColumn_47 rfl (lv_at hl 1 rfl) ?_
        refine n_if_eq (tgt := 135) hx hb dX6_laneOfColumn_48 (by decide) (by omega) (fun c_15 => absurd c_15 (by omega)) (fun c_15 => ?_)
        refine lv_iload_n hx hb dX6_laneOfColumn_51 rfl (lv_at hl 0 rfl) ?_
        refine n_if_ne (tgt := 59) hx hb dX6_laneOfColumn_52 (by decide) (by omega) (fun cq0 => ?_) (fun cq0 => ?_)
        · refine lv_iload_n hx hb dX6_laneOfColumn_59 rfl (lv_at hl 0 rfl) ?_
          refine lv_iconst (v := nI 1) hx hb dX6_laneOfColumn_60 (by decide) ?_
          refine n_icmp_ne (tgt := 68) hx hb dX6_laneOfColumn_61 (by decide) (by omega) (by omega) (fun cq1 => ?_) (fun cq1 => ?_)
          · refine lv_iload_n hx hb dX6_laneOfColumn_68 rfl (lv_at hl 0 rfl) ?_
            refine lv_iconst (v := nI 2) hx hb dX6_laneOfColumn_69 (by decide) ?_
            refine n_icmp_ne (tgt := 77) hx hb dX6_laneOfColumn_70 (by decide) (by omega) (by omega) (fun cq2 => ?_) (fun cq2 => ?_)
            · refine lv_bipush (v := nI 7) hx hb dX6_laneOfColumn_77 (by decide) ?_
              refine lv_istore (lv' := [(4, .int (nI 7)), (3, .int (nI q_)), (2, .int (nI 1)), (0, .ref t9), (1, .int (nI k9))]) hx hb dX6_laneOfColumn_79 hl (by decide) rfl (fun ls hl => ?_)
              refine lv_iconst (v := nI 1) hx hb dX6_laneOfColumn_81 (by decide) ?_
              refine lv_istore (lv' := [(5, .int (nI 1)), (4, .int (nI 7)), (3, .int (nI q_)), (2, .int (nI 1)), (0, .ref t9), (1, .int (nI k9))]) hx hb dX6_laneOfColumn_82 hl (by decide) rfl (fun ls hl => ?_)
              refine lv_iconst (v := nI 0) hx hb dX6_laneOfColumn_84 (by decide) ?_
              refine lv_istore (lv' := [(6, .int (nI 0)), (5, .int (nI 1)), (4, .int (nI 7)), (3, .int (nI q_)), (2, .int (nI 1)), (0, .ref t9), (1, .int (nI k9))]) hx hb dX6_laneOfColumn_85 hl (by decide) rfl (fun ls hl => ?_)
              refine ct_loop (σ := Nat × Nat) (fun (u_, al) ls => lv_has ls 7 [(6, .int (nI u_)), (5, .int (nI al)), (4, .int (nI 7)), (3, .int (nI q_)), (2, .int (nI 1)), (0, .ref t9), (1, .int (nI k9))] ∧ (u_ ≤ tRows tb) ∧ ((al = 1 ∧ ∀ j, j < u_ → missW (cellW tb (tCols tb * j + k9)) ∨ takesW 7 (cellW tb (tCols tb * j + k9))) ∨ (al = 0 ∧ ¬ colAll 7 (tCols tb) (tRows tb) (cellW tb) k9))) (fun (u_, al) => tRows tb - u_) (g := fun (u_, al) ls => F0 m 87 ls []) (x0 := (0, 1)) (ls0 := ls) ?_ ⟨lv_sub hl [0, 1, 2, 3, 4, 5, 6] rfl, Nat.zero_le _, Or.inl ⟨rfl, fun j hj => absurd hj (Nat.not_lt_zero j)⟩⟩
              clear hl
              intro x9 ls hI ih_16
              obtain ⟨u_, al⟩ := x9
              obtain ⟨hl, hu_, hal⟩ := hI
              refine W.eq (g2 := F0 m 87 ls []) rfl ?_
              refine lv_iload hx hb dX6_laneOfColumn_87 (lv_at hl 0 rfl) ?_
              refine lv_aload_n hx hb dX6_laneOfColumn_89 rfl (lv_at hl 5 rfl) ?_
              refine ct_callR (ct_runV (As := []) (rest := [.int (nI u_)]) B (met_X11_rows l E im t9 n9 c9 ln tb s.heap.size hT hok) (lw_V q1158 q1159 q1160 q63 q1161) (n := 0) ⟨by decide, by decide, by decide +kernel⟩ rfl ⟨rfl, rfl, (Nat.le_of_ble_eq_true rfl), (Nat.le_of_ble_eq_true rfl), (Nat.le_of_ble_eq_true rfl), (Nat.le_of_ble_eq_true rfl)⟩ (va_S.rf (A := fun _ => False)) (fun _ h => h.elim) (ct_recv B hC kX11 0 rfl) ⟨(hC.sub [0] rfl), hI⟩ hl.1 (Nat.le_of_ble_eq_true rfl) dX6_laneOfColumn_90) (fun v hv => ?_)
              subst hv
              refine W.eq (g2 := F0 m 93 ls [.int (nI (tRows tb)), .int (nI u_)]) rfl ?_
              refine n_icmp_ge (tgt := 121) hx hb dX6_laneOfColumn_93 (by decide) (by omega) (by omega) (fun c_17 => ?_) (fun c_17 => ?_)
              · refine lv_iload hx hb dX6_laneOfColumn_121 (lv_at hl 1 rfl) ?_
                refine n_if_eq (tgt := 129) hx hb dX6_laneOfColumn_123 (by decide) (by first | omega | (rcases hal with z9 | z9 <;> omega)) (fun cal2 => ?_) (fun cal2 => ?_)
                · have hnal : ¬ colAll 7 (tCols tb) (tRows tb) (cellW tb) k9 := by rcases hal with z9 | z9; exact absurd z9.1 (by omega); exact z9.2
                  refine n_iinc (n := 1) (lv' := [(3, .int (nI (q_ + 1))), (6, .int (nI u_)), (5, .int (nI al)), (4, .int (nI 7)), (2, .int (nI 1)), (0, .ref t9), (1, .int (nI k9))]) hx hb dX6_laneOfColumn_129 hl (k := 3) rfl rfl (by decide) (by decide) rfl (fun ls hl => ?_)
                  refine lv_goto (tgt := 42) hx hb dX6_laneOfColumn_132 (by decide) ?_
                  exact ih_14 (q_ + 1) ls (by omega) ⟨lv_sub hl [0, 4, 5, 6] rfl, by omega, ⟨fun h9 => hn_.1 (by omega), fun h9 => hn_.2.1 (by omega), fun h9 => hn_.2.2.1 (by omega), fun h9 => hnal⟩⟩
                · have hyes : colAll 7 (tCols tb) (tRows tb) (cellW tb) k9 := by rcases hal with z9 | z9; exact fun j9 h9 => z9.2 j9 (by omega); exact absurd z9.1 (by omega)
                  refine lv_iload hx hb dX6_laneOfColumn_126 (lv_at hl 2 rfl) ?_
                  exact ct_iretR (ty := .int) (v := (nI 7)) B rfl rfl (by unfold laneT; rw [if_pos hany, if_neg (hn_.1 (by omega)), if_neg (hn_.2.1 (by omega)), if_neg (hn_.2.2.1 (by omega)), if_pos hyes]) dX6_laneOfColumn_128
              · refine lv_iload hx hb dX6_laneOfColumn_96 (lv_at hl 1 rfl) ?_
                refine n_if_eq (tgt := 121) hx hb dX6_laneOfColumn_98 (by decide) (by first | omega | (rcases hal with z9 | z9 <;> omega)) (fun cal => ?_) (fun cal => ?_)
                · refine lv_iload hx hb dX6_laneOfColumn_121 (lv_at hl 1 rfl) ?_
                  refine n_if_eq (tgt := 129) hx hb dX6_laneOfColumn_123 (by decide) (by first | omega | (rcases hal with z9 | z9 <;> omega)) (fun cal2 => ?_) (fun cal2 => ?_)
                  · have hnal : ¬ colAll 7 (tCols tb) (tRows tb) (cellW tb) k9 := by rcases hal with z9 | z9; exact absurd z9.1 (by omega); exact z9.2
                    refine n_iinc (n := 1) (lv' := [(3, .int (nI (q_ + 1))), (6, .int (nI u_)), (5, .int (nI al)), (4, .int (nI 7)), (2, .int (nI 1)), (0, .ref t9), (1, .int (nI k9))]) hx hb dX6_laneOfColumn_129 hl (k := 3) rfl rfl (by decide) (by decide) rfl (fun ls hl => ?_)
                    refine lv_goto (tgt := 42) hx hb dX6_laneOfColumn_132 (by decide) ?_
                    exact ih_14 (q_ + 1) ls (by omega) ⟨lv_sub hl [0, 4, 5, 6] rfl, by omega, ⟨fun h9 => hn_.1 (by omega), fun h9 => hn_.2.1 (by omega), fun h9 => hn_.2.2.1 (by omega), fun h9 => hnal⟩⟩
                  · have hyes : colAll 7 (tCols tb) (tRows tb) (cellW tb) k9 := by rcases hal with z9 | z9; exact fun j9 h9 => z9.2 j9 (by omega); exact absurd z9.1 (by omega)
                    refine lv_iload hx hb dX6_laneOfColumn_126 (lv_at hl 2 rfl) ?_
                    exact ct_iretR (ty := .int) (v := (nI 7)) B rfl rfl (by unfold laneT; rw [if_pos hany, if_neg (hn_.1 (by omega)), if_neg (hn_.2.1 (by omega)), if_neg (hn_.2.2.1 (by omega)), if_pos hyes]) dX6_laneOfColumn_128
                · have hok9 : ∀ j, j < u_ → missW (cellW tb (tCols tb * j + k9)) ∨ takesW 7 (cellW tb (tCols tb * j + k9)) := by rcases hal with z9 | z9; exact z9.2; exact absurd z9.1 (by omega)
                  refine lv_aload_n hx hb dX6_laneOfColumn_101 rfl (lv_at hl 5 rfl) ?_
                  refine lv_iload hx hb dX6_laneOfColumn_102 (lv_at hl 0 rfl) ?_
                  refine lv_iload_n hx hb dX6_laneOfColumn_104 rfl (lv_at hl 6 rfl) ?_
                  refine ct_callR (ct_runV (As := [.int (nI u_), .int (nI k9)]) (rest := []) B (met_X11_at l E im t9 n9 c9 ln tb u_ k9 s.heap.size hT hok (by omega) (by omega)) (lw_V q1163 q1164 q1165 q63 q1166) (n := 2) ⟨by decide, by decide, by decide +kernel⟩ rfl ⟨rfl, rfl, (Nat.le_of_ble_eq_true rfl), (Nat.le_of_ble_eq_true rfl), (Nat.le_of_ble_eq_true rfl), (Nat.le_of_ble_eq_true rfl)⟩ (va_S.rf (A := fun _ => False)) (fun _ h => h.elim) (ct_recv B hC kX11 0 rfl) ⟨(hC.sub [0] rfl), hI⟩ hl.1 (Nat.le_of_ble_eq_true rfl) dX6_laneOfColumn_105) (fun v hv => ?_)
                  obtain ⟨x9, rfl, hcx9⟩ := hv
                  refine W.eq (g2 := F0 m 108 ls [.ref x9]) rfl ?_
                  refine lv_iload hx hb dX6_laneOfColumn_108 (lv_at hl 2 rfl) ?_
                  refine ct_callR (ct_runS (As := [.ref x9, .int (nI 7)]) (rest := []) B (met_X6_isOfLane l E im x9 7 (cellW tb (tCols tb * u_ + k9)) s.heap.size hcx9 (by omega)) (lw_S q1174 q1175 q54 q1176) (n := 2) ⟨by decide, by decide, by decide +kernel⟩ rfl ⟨rfl, rfl, (Nat.le_of_ble_eq_true rfl), (Nat.le_of_ble_eq_true rfl), (Nat.le_of_ble_eq_true rfl), (Nat.le_of_ble_eq_true rfl)⟩ (va_S.rf (A := fun _ => False)) (fun _ h => h.elim) hI hl.1 (Nat.le_of_ble_eq_true rfl) dX6_laneOfColumn_110) (fun v hv => ?_)
                  subst hv
                  refine W.eq (g2 := F0 m 113 ls [.int (if missW (cellW tb (tCols tb * u_ + k9)) ∨ takesW 7 (cellW tb (tCols tb * u_ + k9)) then 1 else 0)]) rfl ?_
                  by_cases col : missW (cellW tb (tCols tb * u_ + k9)) ∨ takesW 7 (cellW tb (tCols tb * u_ + k9))
                  · refine W.eq (g2 := F0 m 113 ls [.int (nI 1)]) (by rw [if_pos col] <;> rfl) ?_
                    refine lv_istore (lv' := [(5, .int (nI 1)), (6, .int (nI u_)), (4, .int (nI 7)), (3, .int (nI q_)), (2, .int (nI 1)), (0, .ref t9), (1, .int (nI k9))]) hx hb dX6_laneOfColumn_113 hl (by decide) rfl (fun ls hl => ?_)
                    refine n_iinc (n := 1) (lv' := [(6, .int (nI (u_ + 1))), (5, .int (nI 1)), (4, .int (nI 7)), (3, .int (nI q_)), (2, .int (nI 1)), (0, .ref t9), (1, .int (nI k9))]) hx hb dX6_laneOfColumn_115 hl (k := 1) rfl rfl (by decide) (by decide) rfl (fun ls hl => ?_)
                    refine lv_goto (tgt := 87) hx hb dX6_laneOfColumn_118 (by decide) ?_
                    exact ih_16 ((u_ + 1), 1) ls (by dsimp only; omega) ⟨lv_sub hl [0, 1, 2, 3, 4, 5, 6] rfl, by omega, Or.inl ⟨rfl, fun j hj => by rcases Nat.lt_succ_iff_lt_or_eq.mp hj with q9 | q9; exact hok9 j q9; rw [q9]; exact col⟩⟩
                  · refine W.eq (g2 := F0 m 113 ls [.int (nI 0)]) (by rw [if_neg col] <;> rfl) ?_
                    refine lv_istore (lv' := [(5, .int (nI 0)), (6, .int (nI u_)), (4, .int (nI 7)), (3, .int (nI q_)), (2, .int (nI 1)), (0, .ref t9), (1, .int (nI k9))]) hx hb dX6_laneOfColumn_113 hl (by decide) rfl (fun ls hl => ?_)
                    refine n_iinc (n := 1) (lv' := [(6, .int (nI (u_ + 1))), (5, .int (nI 0)), (4, .int (nI 7)), (3, .int (nI q_)), (2, .int (nI 1)), (0, .ref t9), (1, .int (nI k9))]) hx hb dX6_laneOfColumn_115 hl (k := 1) rfl rfl (by decide) (by decide) rfl (fun ls hl => ?_)
                    refine lv_goto (tgt := 87) hx hb dX6_laneOfColumn_118 (by decide) ?_
                    exact ih_16 ((u_ + 1), 0) ls (by dsimp only; omega) ⟨lv_sub hl [0, 1, 2, 3, 4, 5, 6] rfl, by omega, Or.inr ⟨rfl, fun z9 => col (z9 u_ (by omega))⟩⟩
            · refine lv_iconst (v := nI 5) hx hb dX6_laneOfColumn_73 (by decide) ?_
              refine lv_goto (tgt := 79) hx hb dX6_laneOfColumn_74 (by decide) ?_
              refine lv_istore (lv' := [(4, .int (nI 5)), (3, .int (nI q_)), (2, .int (nI 1)), (0, .ref t9), (1, .int (nI k9))]) hx hb dX6_laneOfColumn_79 hl (by decide) rfl (fun ls hl => ?_)
              refine lv_iconst (v := nI 1) hx hb dX6_laneOfColumn_81 (by decide) ?_
              refine lv_istore (lv' := [(5, .int (nI 1)), (4, .int (nI 5)), (3, .int (nI q_)), (2, .int (nI 1)), (0, .ref t9), (1, .int (nI k9))]) hx hb dX6_laneOfColumn_82 hl (by decide) rfl (fun ls hl => ?_)
              refine lv_iconst (v := nI 0) hx hb dX6_laneOfColumn_84 (by decide) ?_
              refine lv_istore (lv' := [(6, .int (nI 0)), (5, .int (nI 1)), (4, .int (nI 5)), (3, .int (nI q_)), (2, .int (nI 1)), (0, .ref t9), (1, .int (nI k9))]) hx hb dX6_laneOfColumn_85 hl (by decide) rfl (fun ls hl => ?_)
              refine ct_loop (σ := Nat × Nat) (fun (u_, al) ls => lv_has ls 7 [(6, .int (nI u_)), (5, .int (nI al)), (4, .int (nI 5)), (3, .int (nI q_)), (2, .int (nI 1)), (0, .ref t9), (1, .int (nI k9))] ∧ (u_ ≤ tRows tb) ∧ ((al = 1 ∧ ∀ j, j < u_ → missW (cellW tb (tCols tb * j + k9)) ∨ takesW 5 (cellW tb (tCols tb * j + k9))) ∨ (al = 0 ∧ ¬ colAll 5 (tCols tb) (tRows tb) (cellW tb) k9))) (fun (u_, al) => tRows tb - u_) (g := fun (u_, al) ls => F0 m 87 ls []) (x0 := (0, 1)) (ls0 := ls) ?_ ⟨lv_sub hl [0, 1, 2, 3, 4, 5, 6] rfl, Nat.zero_le _, Or.inl ⟨rfl, fun j hj => absurd hj (Nat.not_lt_zero j)⟩⟩
              clear hl
              intro x9 ls hI ih_18
              obtain ⟨u_, al⟩ := x9
              obtain ⟨hl, hu_, hal⟩ := hI
              refine W.eq (g2 := F0 m 87 ls []) rfl ?_
              refine lv_iload hx hb dX6_laneOfColumn_87 (lv_at hl 0 rfl) ?_
              refine lv_aload_n hx hb dX6_laneOfColumn_89 rfl (lv_at hl 5 rfl) ?_
              refine ct_callR (ct_runV (As := []) (rest := [.int (nI u_)]) B (met_X11_rows l E im t9 n9 c9 ln tb s.heap.size hT hok) (lw_V q1158 q1159 q1160 q63 q1161) (n := 0) ⟨by decide, by decide, by decide +kernel⟩ rfl ⟨rfl, rfl, (Nat.le_of_ble_eq_true rfl), (Nat.le_of_ble_eq_true rfl), (Nat.le_of_ble_eq_true rfl), (Nat.le_of_ble_eq_true rfl)⟩ (va_S.rf (A := fun _ => False)) (fun _ h => h.elim) (ct_recv B hC kX11 0 rfl) ⟨(hC.sub [0] rfl), hI⟩ hl.1 (Nat.le_of_ble_eq_true rfl) dX6_laneOfColumn_90) (fun v hv => ?_)
              subst hv
              refine W.eq (g2 := F0 m 93 ls [.int (nI (tRows tb)), .int (nI u_)]) rfl ?_
              refine n_icmp_ge (tgt := 121) hx hb dX6_laneOfColumn_93 (by decide) (by omega) (by omega) (fun c_19 => ?_) (fun c_19 => ?_)
              · refine lv_iload hx hb dX6_laneOfColumn_121 (lv_at hl 1 rfl) ?_
                refine n_if_eq (tgt := 129) hx hb dX6_laneOfColumn_123 (by decide) (by first | omega | (rcases hal with z9 | z9 <;> omega)) (fun cal2 => ?_) (fun cal2 => ?_)
                · have hnal : ¬ colAll 5 (tCols tb) (tRows tb) (cellW tb) k9 := by rcases hal with z9 | z9; exact absurd z9.1 (by omega); exact z9.2
                  refine n_iinc (n := 1) (lv' := [(3, .int (nI (q_ + 1))), (6, .int (nI u_)), (5, .int (nI al)), (4, .int (nI 5)), (2, .int (nI 1)), (0, .ref t9), (1, .int (nI k9))]) hx hb dX6_laneOfColumn_129 hl (k := 3) rfl rfl (by decide) (by decide) rfl (fun ls hl => ?_)
                  refine lv_goto (tgt := 42) hx hb dX6_laneOfColumn_132 (by decide) ?_
                  exact ih_14 (q_ + 1) ls (by omega) ⟨lv_sub hl [0, 4, 5, 6] rfl, by omega, ⟨fun h9 => hn_.1 (by omega), fun h9 => hn_.2.1 (by omega), fun h9 => hnal, fun h9 => by omega⟩⟩
                · have hyes : colAll 5 (tCols tb) (tRows tb) (cellW tb) k9 := by rcases hal with z9 | z9; exact fun j9 h9 => z9.2 j9 (by omega); exact absurd z9.1 (by omega)
                  refine lv_iload hx hb dX6_laneOfColumn_126 (lv_at hl 2 rfl) ?_
                  exact ct_iretR (ty := .int) (v := (nI 5)) B rfl rfl (by unfold laneT; rw [if_pos hany, if_neg (hn_.1 (by omega)), if_neg (hn_.2.1 (by omega)), if_pos hyes]) dX6_laneOfColumn_128
              · refine lv_iload hx hb dX6_laneOfColumn_96 (lv_at hl 1 rfl) ?_
                refine n_if_eq (tgt := 121) hx hb dX6_laneOfColumn_98 (by decide) (by first | omega | (rcases hal with z9 | z9 <;> omega)) (fun cal => ?_) (fun cal => ?_)
                · refine lv_iload hx hb dX6_laneOfColumn_121 (lv_at hl 1 rfl) ?_
                  refine n_if_eq (tgt := 129) hx hb dX6_laneOfColumn_123 (by decide) (by first | omega | (rcases hal with z9 | z9 <;> omega)) (fun cal2 => ?_) (fun cal2 => ?_)
                  · have hnal : ¬ colAll 5 (tCols tb) (tRows tb) (cellW tb) k9 := by rcases hal with z9 | z9; exact absurd z9.1 (by omega); exact z9.2
                    refine n_iinc (n := 1) (lv' := [(3, .int (nI (q_ + 1))), (6, .int (nI u_)), (5, .int (nI al)), (4, .int (nI 5)), (2, .int (nI 1)), (0, .ref t9), (1, .int (nI k9))]) hx hb dX6_laneOfColumn_129 hl (k := 3) rfl rfl (by decide) (by decide) rfl (fun ls hl => ?_)
                    refine lv_goto (tgt := 42) hx hb dX6_laneOfColumn_132 (by decide) ?_
                    exact ih_14 (q_ + 1) ls (by omega) ⟨lv_sub hl [0, 4, 5, 6] rfl, by omega, ⟨fun h9 => hn_.1 (by omega), fun h9 => hn_.2.1 (by omega), fun h9 => hnal, fun h9 => by omega⟩⟩
                  · have hyes : colAll 5 (tCols tb) (tRows tb) (cellW tb) k9 := by rcases hal with z9 | z9; exact fun j9 h9 => z9.2 j9 (by omega); exact absurd z9.1 (by omega)
                    refine lv_iload hx hb dX6_laneOfColumn_126 (lv_at hl 2 rfl) ?_
                    exact ct_iretR (ty := .int) (v := (nI 5)) B rfl rfl (by unfold laneT; rw [if_pos hany, if_neg (hn_.1 (by omega)), if_neg (hn_.2.1 (by omega)), if_pos hyes]) dX6_laneOfColumn_128
                · have hok9 : ∀ j, j < u_ → missW (cellW tb (tCols tb * j + k9)) ∨ takesW 5 (cellW tb (tCols tb * j + k9)) := by rcases hal with z9 | z9; exact z9.2; exact absurd z9.1 (by omega)
                  refine lv_aload_n hx hb dX6_laneOfColumn_101 rfl (lv_at hl 5 rfl) ?_
                  refine lv_iload hx hb dX6_laneOfColumn_102 (lv_at hl 0 rfl) ?_
                  refine lv_iload_n hx hb dX6_laneOfColumn_104 rfl (lv_at hl 6 rfl) ?_
                  refine ct_callR (ct_runV (As := [.int (nI u_), .int (nI k9)]) (rest := []) B (met_X11_at l E im t9 n9 c9 ln tb u_ k9 s.heap.size hT hok (by omega) (by omega)) (lw_V q1163 q1164 q1165 q63 q1166) (n := 2) ⟨by decide, by decide, by decide +kernel⟩ rfl ⟨rfl, rfl, (Nat.le_of_ble_eq_true rfl), (Nat.le_of_ble_eq_true rfl), (Nat.le_of_ble_eq_true rfl), (Nat.le_of_ble_eq_true rfl)⟩ (va_S.rf (A := fun _ => False)) (fun _ h => h.elim) (ct_recv B hC kX11 0 rfl) ⟨(hC.sub [0] rfl), hI⟩ hl.1 (Nat.le_of_ble_eq_true rfl) dX6_laneOfColumn_105) (fun v hv => ?_)
                  obtain ⟨x9, rfl, hcx9⟩ := hv
                  refine W.eq (g2 := F0 m 108 ls [.ref x9]) rfl ?_
                  refine lv_iload hx hb dX6_laneOfColumn_108 (lv_at hl 2 rfl) ?_
                  refine ct_callR (ct_runS (As := [.ref x9, .int (nI 5)]) (rest := []) B (met_X6_isOfLane l E im x9 5 (cellW tb (tCols tb * u_ + k9)) s.heap.size hcx9 (by omega)) (lw_S q1174 q1175 q54 q1176) (n := 2) ⟨by decide, by decide, by decide +kernel⟩ rfl ⟨rfl, rfl, (Nat.le_of_ble_eq_true rfl), (Nat.le_of_ble_eq_true rfl), (Nat.le_of_ble_eq_true rfl), (Nat.le_of_ble_eq_true rfl)⟩ (va_S.rf (A := fun _ => False)) (fun _ h => h.elim) hI hl.1 (Nat.le_of_ble_eq_true rfl) dX6_laneOfColumn_110) (fun v hv => ?_)
                  subst hv
                  refine W.eq (g2 := F0 m 113 ls [.int (if missW (cellW tb (tCols tb * u_ + k9)) ∨ takesW 5 (cellW tb (tCols tb * u_ + k9)) then 1 else 0)]) rfl ?_
                  by_cases col : missW (cellW tb (tCols tb * u_ + k9)) ∨ takesW 5 (cellW tb (tCols tb * u_ + k9))
                  · refine W.eq (g2 := F0 m 113 ls [.int (nI 1)]) (by rw [if_pos col] <;> rfl) ?_
                    refine lv_istore (lv' := [(5, .int (nI 1)), (6, .int (nI u_)), (4, .int (nI 5)), (3, .int (nI q_)), (2, .int (nI 1)), (0, .ref t9), (1, .int (nI k9))]) hx hb dX6_laneOfColumn_113 hl (by decide) rfl (fun ls hl => ?_)
                    refine n_iinc (n := 1) (lv' := [(6, .int (nI (u_ + 1))), (5, .int (nI 1)), (4, .int (nI 5)), (3, .int (nI q_)), (2, .int (nI 1)), (0, .ref t9), (1, .int (nI k9))]) hx hb dX6_laneOfColumn_115 hl (k := 1) rfl rfl (by decide) (by decide) rfl (fun ls hl => ?_)
                    refine lv_goto (tgt := 87) hx hb dX6_laneOfColumn_118 (by decide) ?_
                    exact ih_18 ((u_ + 1), 1) ls (by dsimp only; omega) ⟨lv_sub hl [0, 1, 2, 3, 4, 5, 6] rfl, by omega, Or.inl ⟨rfl, fun j hj => by rcases Nat.lt_succ_iff_lt_or_eq.mp hj with q9 | q9; exact hok9 j q9; rw [q9]; exact col⟩⟩
                  · refine W.eq (g2 := F0 m 113 ls [.int (nI 0)]) (by rw [if_neg col] <;> rfl) ?_
                    refine lv_istore (lv' := [(5, .int (nI 0)), (6, .int (nI u_)), (4, .int (nI 5)), (3, .int (nI q_)), (2, .int (nI 1)), (0, .ref t9), (1, .int (nI k9))]) hx hb dX6_laneOfColumn_113 hl (by decide) rfl (fun ls hl => ?_)
                    refine n_iinc (n := 1) (lv' := [(6, .int (nI (u_ + 1))), (5, .int (nI 0)), (4, .int (nI 5)), (3, .int (nI q_)), (2, .int (nI 1)), (0, .ref t9), (1, .int (nI k9))]) hx hb dX6_laneOfColumn_115 hl (k := 1) rfl rfl (by decide) (by decide) rfl (fun ls hl => ?_)
                    refine lv_goto (tgt := 87) hx hb dX6_laneOfColumn_118 (by decide) ?_
                    exact ih_18 ((u_ + 1), 0) ls (by dsimp only; omega) ⟨lv_sub hl [0, 1, 2, 3, 4, 5, 6] rfl, by omega, Or.inr ⟨rfl, fun z9 => col (z9 u_ (by omega))⟩⟩
          · refine lv_iconst (v := nI 4) hx hb dX6_laneOfColumn_64 (by decide) ?_
            refine lv_goto (tgt := 79) hx hb dX6_laneOfColumn_65 (by decide) ?_
            refine lv_istore (lv' := [(4, .int (nI 4)), (3, .int (nI q_)), (2, .int (nI 1)), (0, .ref t9), (1, .int (nI k9))]) hx hb dX6_laneOfColumn_79 hl (by decide) rfl (fun ls hl => ?_)
            refine lv_iconst (v := nI 1) hx hb dX6_laneOfColumn_81 (by decide) ?_
            refine lv_istore (lv' := [(5, .int (nI 1)), (4, .int (nI 4)), (3, .int (nI q_)), (2, .int (nI 1)), (0, .ref t9), (1, .int (nI k9))]) hx hb dX6_laneOfColumn_82 hl (by decide) rfl (fun ls hl => ?_)
            refine lv_iconst (v := nI 0) hx hb dX6_laneOfColumn_84 (by decide) ?_
            refine lv_istore (lv' := [(6, .int (nI 0)), (5, .int (nI 1)), (4, .int (nI 4)), (3, .int (nI q_)), (2, .int (nI 1)), (0, .ref t9), (1, .int (nI k9))]) hx hb dX6_laneOfColumn_85 hl (by decide) rfl (fun ls hl => ?_)
            refine ct_loop (σ := Nat × Nat) (fun (u_, al) ls => lv_has ls 7 [(6, .int (nI u_)), (5, .int (nI al)), (4, .int (nI 4)), (3, .int (nI q_)), (2, .int (nI 1)), (0, .ref t9), (1, .int (nI k9))] ∧ (u_ ≤ tRows tb) ∧ ((al = 1 ∧ ∀ j, j < u_ → missW (cellW tb (tCols tb * j + k9)) ∨ takesW 4 (cellW tb (tCols tb * j + k9))) ∨ (al = 0 ∧ ¬ colAll 4 (tCols tb) (tRows tb) (cellW tb) k9))) (fun (u_, al) => tRows tb - u_) (g := fun (u_, al) ls => F0 m 87 ls []) (x0 := (0, 1)) (ls0 := ls) ?_ ⟨lv_sub hl [0, 1, 2, 3, 4, 5, 6] rfl, Nat.zero_le _, Or.inl ⟨rfl, fun j hj => absurd hj (Nat.not_lt_zero j)⟩⟩
            clear hl
            intro x9 ls hI ih_20
            obtain ⟨u_, al⟩ := x9
            obtain ⟨hl, hu_, hal⟩ := hI
            refine W.eq (g2 := F0 m 87 ls []) rfl ?_
            refine lv_iload hx hb dX6_laneOfColumn_87 (lv_at hl 0 rfl) ?_
            refine lv_aload_n hx hb dX6_laneOfColumn_89 rfl (lv_at hl 5 rfl) ?_
            refine ct_callR (ct_runV (As := []) (rest := [.int (nI u_)]) B (met_X11_rows l E im t9 n9 c9 ln tb s.heap.size hT hok) (lw_V q1158 q1159 q1160 q63 q1161) (n := 0) ⟨by decide, by decide, by decide +kernel⟩ rfl ⟨rfl, rfl, (Nat.le_of_ble_eq_true rfl), (Nat.le_of_ble_eq_true rfl), (Nat.le_of_ble_eq_true rfl), (Nat.le_of_ble_eq_true rfl)⟩ (va_S.rf (A := fun _ => False)) (fun _ h => h.elim) (ct_recv B hC kX11 0 rfl) ⟨(hC.sub [0] rfl), hI⟩ hl.1 (Nat.le_of_ble_eq_true rfl) dX6_laneOfColumn_90) (fun v hv => ?_)
            subst hv
            refine W.eq (g2 := F0 m 93 ls [.int (nI (tRows tb)), .int (nI u_)]) rfl ?_
            refine n_icmp_ge (tgt := 121) hx hb dX6_laneOfColumn_93 (by decide) (by omega) (by omega) (fun c_21 => ?_) (fun c_21 => ?_)
            · refine lv_iload hx hb dX6_laneOfColumn_121 (lv_at hl 1 rfl) ?_
              refine n_if_eq (tgt := 129) hx hb dX6_laneOfColumn_123 (by decide) (by first | omega | (rcases hal with z9 | z9 <;> omega)) (fun cal2 => ?_) (fun cal2 => ?_)
              · have hnal : ¬ colAll 4 (tCols tb) (tRows tb) (cellW tb) k9 := by rcases hal with z9 | z9; exact absurd z9.1 (by omega); exact z9.2
                refine n_iinc (n := 1) (lv' := [(3, .int (nI (q_ + 1))), (6, .int (nI u_)), (5, .int (nI al)), (4, .int (nI 4)), (2, .int (nI 1)), (0, .ref t9), (1, .int (nI k9))]) hx hb dX6_laneOfColumn_129 hl (k := 3) rfl rfl (by decide) (by decide) rfl (fun ls hl => ?_)
                refine lv_goto (tgt := 42) hx hb dX6_laneOfColumn_132 (by decide) ?_
                exact ih_14 (q_ + 1) ls (by omega) ⟨lv_sub hl [0, 4, 5, 6] rfl, by omega, ⟨fun h9 => hn_.1 (by omega), fun h9 => hnal, fun h9 => by omega, fun h9 => by omega⟩⟩
              · have hyes : colAll 4 (tCols tb) (tRows tb) (cellW tb) k9 := by rcases hal with z9 | z9; exact fun j9 h9 => z9.2 j9 (by omega); exact absurd z9.1 (by omega)
                refine lv_iload hx hb dX6_laneOfColumn_126 (lv_at hl 2 rfl) ?_
                exact ct_iretR (ty := .int) (v := (nI 4)) B rfl rfl (by unfold laneT; rw [if_pos hany, if_neg (hn_.1 (by omega)), if_pos hyes]) dX6_laneOfColumn_128
            · refine lv_iload hx hb dX6_laneOfColumn_96 (lv_at hl 1 rfl) ?_
              refine n_if_eq (tgt := 121) hx hb dX6_laneOfColumn_98 (by decide) (by first | omega | (rcases hal with z9 | z9 <;> omega)) (fun cal => ?_) (fun cal => ?_)
              · refine lv_iload hx hb dX6_laneOfColumn_121 (lv_at hl 1 rfl) ?_
                refine n_if_eq (tgt := 129) hx hb dX6_laneOfColumn_123 (by decide) (by first | omega | (rcases hal with z9 | z9 <;> omega)) (fun cal2 => ?_) (fun cal2 => ?_)
                · have hnal : ¬ colAll 4 (tCols tb) (tRows tb) (cellW tb) k9 := by rcases hal with z9 | z9; exact absurd z9.1 (by omega); exact z9.2
                  refine n_iinc (n := 1) (lv' := [(3, .int (nI (q_ + 1))), (6, .int (nI u_)), (5, .int (nI al)), (4, .int (nI 4)), (2, .int (nI 1)), (0, .ref t9), (1, .int (nI k9))]) hx hb dX6_laneOfColumn_129 hl (k := 3) rfl rfl (by decide) (by decide) rfl (fun ls hl => ?_)
                  refine lv_goto (tgt := 42) hx hb dX6_laneOfColumn_132 (by decide) ?_
                  exact ih_14 (q_ + 1) ls (by omega) ⟨lv_sub hl [0, 4, 5, 6] rfl, by omega, ⟨fun h9 => hn_.1 (by omega), fun h9 => hnal, fun h9 => by omega, fun h9 => by omega⟩⟩
                · have hyes : colAll 4 (tCols tb) (tRows tb) (cellW tb) k9 := by rcases hal with z9 | z9; exact fun j9 h9 => z9.2 j9 (by omega); exact absurd z9.1 (by omega)
                  refine lv_iload hx hb dX6_laneOfColumn_126 (lv_at hl 2 rfl) ?_
                  exact ct_iretR (ty := .int) (v := (nI 4)) B rfl rfl (by unfold laneT; rw [if_pos hany, if_neg (hn_.1 (by omega)), if_pos hyes]) dX6_laneOfColumn_128
              · have hok9 : ∀ j, j < u_ → missW (cellW tb (tCols tb * j + k9)) ∨ takesW 4 (cellW tb (tCols tb * j + k9)) := by rcases hal with z9 | z9; exact z9.2; exact absurd z9.1 (by omega)
                refine lv_aload_n hx hb dX6_laneOfColumn_101 rfl (lv_at hl 5 rfl) ?_
                refine lv_iload hx hb dX6_laneOfColumn_102 (lv_at hl 0 rfl) ?_
                refine lv_iload_n hx hb dX6_laneOfColumn_104 rfl (lv_at hl 6 rfl) ?_
                refine ct_callR (ct_runV (As := [.int (nI u_), .int (nI k9)]) (rest := []) B (met_X11_at l E im t9 n9 c9 ln tb u_ k9 s.heap.size hT hok (by omega) (by omega)) (lw_V q1163 q1164 q1165 q63 q1166) (n := 2) ⟨by decide, by decide, by decide +kernel⟩ rfl ⟨rfl, rfl, (Nat.le_of_ble_eq_true rfl), (Nat.le_of_ble_eq_true rfl), (Nat.le_of_ble_eq_true rfl), (Nat.le_of_ble_eq_true rfl)⟩ (va_S.rf (A := fun _ => False)) (fun _ h => h.elim) (ct_recv B hC kX11 0 rfl) ⟨(hC.sub [0] rfl), hI⟩ hl.1 (Nat.le_of_ble_eq_true rfl) dX6_laneOfColumn_105) (fun v hv => ?_)
                obtain ⟨x9, rfl, hcx9⟩ := hv
                refine W.eq (g2 := F0 m 108 ls [.ref x9]) rfl ?_
                refine lv_iload hx hb dX6_laneOfColumn_108 (lv_at hl 2 rfl) ?_
                refine ct_callR (ct_runS (As := [.ref x9, .int (nI 4)]) (rest := []) B (met_X6_isOfLane l E im x9 4 (cellW tb (tCols tb * u_ + k9)) s.heap.size hcx9 (by omega)) (lw_S q1174 q1175 q54 q1176) (n := 2) ⟨by decide, by decide, by decide +kernel⟩ rfl ⟨rfl, rfl, (Nat.le_of_ble_eq_true rfl), (Nat.le_of_ble_eq_true rfl), (Nat.le_of_ble_eq_true rfl), (Nat.le_of_ble_eq_true rfl)⟩ (va_S.rf (A := fun _ => False)) (fun _ h => h.elim) hI hl.1 (Nat.le_of_ble_eq_true rfl) dX6_laneOfColumn_110) (fun v hv => ?_)
                subst hv
                refine W.eq (g2 := F0 m 113 ls [.int (if missW (cellW tb (tCols tb * u_ + k9)) ∨ takesW 4 (cellW tb (tCols tb * u_ + k9)) then 1 else 0)]) rfl ?_
                by_cases col : missW (cellW tb (tCols tb * u_ + k9)) ∨ takesW 4 (cellW tb (tCols tb * u_ + k9))
                · refine W.eq (g2 := F0 m 113 ls [.int (nI 1)]) (by rw [if_pos col] <;> rfl) ?_
                  refine lv_istore (lv' := [(5, .int (nI 1)), (6, .int (nI u_)), (4, .int (nI 4)), (3, .int (nI q_)), (2, .int (nI 1)), (0, .ref t9), (1, .int (nI k9))]) hx hb dX6_laneOfColumn_113 hl (by decide) rfl (fun ls hl => ?_)
                  refine n_iinc (n := 1) (lv' := [(6, .int (nI (u_ + 1))), (5, .int (nI 1)), (4, .int (nI 4)), (3, .int (nI q_)), (2, .int (nI 1)), (0, .ref t9), (1, .int (nI k9))]) hx hb dX6_laneOfColumn_115 hl (k := 1) rfl rfl (by decide) (by decide) rfl (fun ls hl => ?_)
                  refine lv_goto (tgt := 87) hx hb dX6_laneOfColumn_118 (by decide) ?_
                  exact ih_20 ((u_ + 1), 1) ls (by dsimp only; omega) ⟨lv_sub hl [0, 1, 2, 3, 4, 5, 6] rfl, by omega, Or.inl ⟨rfl, fun j hj => by rcases Nat.lt_succ_iff_lt_or_eq.mp hj with q9 | q9; exact hok9 j q9; rw [q9]; exact col⟩⟩
                · refine W.eq (g2 := F0 m 113 ls [.int (nI 0)]) (by rw [if_neg col] <;> rfl) ?_
                  refine lv_istore (lv' := [(5, .int (nI 0)), (6, .int (nI u_)), (4, .int (nI 4)), (3, .int (nI q_)), (2, .int (nI 1)), (0, .ref t9), (1, .int (nI k9))]) hx hb dX6_laneOfColumn_113 hl (by decide) rfl (fun ls hl => ?_)
                  refine n_iinc (n := 1) (lv' := [(6, .int (nI (u_ + 1))), (5, .int (nI 0)), (4, .int (nI 4)), (3, .int (nI q_)), (2, .int (nI 1)), (0, .ref t9), (1, .int (nI k9))]) hx hb dX6_laneOfColumn_115 hl (k := 1) rfl rfl (by decide) (by decide) rfl (fun ls hl => ?_)
                  refine lv_goto (tgt := 87) hx hb dX6_laneOfColumn_118 (by decide) ?_
                  exact ih_20 ((u_ + 1), 0) ls (by dsimp only; omega) ⟨lv_sub hl [0, 1, 2, 3, 4, 5, 6] rfl, by omega, Or.inr ⟨rfl, fun z9 => col (z9 u_ (by omega))⟩⟩
        · refine lv_iconst (v := nI 0) hx hb dX6_laneOfColumn_55 (by decide) ?_
          refine lv_goto (tgt := 79) hx hb dX6_laneOfColumn_56 (by decide) ?_
          refine lv_istore (lv' := [(4, .int (nI 0)), (3, .int (nI q_)), (2, .int (nI 1)), (0, .ref t9), (1, .int (nI k9))]) hx hb dX6_laneOfColumn_79 hl (by decide) rfl (fun ls hl => ?_)
          refine lv_iconst (v := nI 1) hx hb dX6_laneOfColumn_81 (by decide) ?_
          refine lv_istore (lv' := [(5, .int (nI 1)), (4, .int (nI 0)), (3, .int (nI q_)), (2, .int (nI 1)), (0, .ref t9), (1, .int (nI k9))]) hx hb dX6_laneOfColumn_82 hl (by decide) rfl (fun ls hl => ?_)
          refine lv_iconst (v := nI 0) hx hb dX6_laneOfColumn_84 (by decide) ?_
          refine lv_istore (lv' := [(6, .int (nI 0)), (5, .int (nI 1)), (4, .int (nI 0)), (3, .int (nI q_)), (2, .int (nI 1)), (0, .ref t9), (1, .int (nI k9))]) hx hb dX6_laneOfColumn_85 hl (by decide) rfl (fun ls hl => ?_)
          refine ct_loop (σ := Nat × Nat) (fun (u_, al) ls => lv_has ls 7 [(6, .int (nI u_)), (5, .int (nI al)), (4, .int (nI 0)), (3, .int (nI q_)), (2, .int (nI 1)), (0, .ref t9), (1, .int (nI k9))] ∧ (u_ ≤ tRows tb) ∧ ((al = 1 ∧ ∀ j, j < u_ → missW (cellW tb (tCols tb * j + k9)) ∨ takesW 0 (cellW tb (tCols tb * j + k9))) ∨ (al = 0 ∧ ¬ colAll 0 (tCols tb) (tRows tb) (cellW tb) k9))) (fun (u_, al) => tRows tb - u_) (g := fun (u_, al) ls => F0 m 87 ls []) (x0 := (0, 1)) (ls0 := ls) ?_ ⟨lv_sub hl [0, 1, 2, 3, 4, 5, 6] rfl, Nat.zero_le _, Or.inl ⟨rfl, fun j hj => absurd hj (Nat.not_lt_zero j)⟩⟩
          clear hl
          intro x9 ls hI ih_22
          obtain ⟨u_, al⟩ := x9
          obtain ⟨hl, hu_, hal⟩ := hI
          refine W.eq (g2 := F0 m 87 ls []) rfl ?_
          refine lv_iload hx hb dX6_laneOfColumn_87 (lv_at hl 0 rfl) ?_
          refine lv_aload_n hx hb dX6_laneOfColumn_89 rfl (lv_at hl 5 rfl) ?_
          refine ct_callR (ct_runV (As := []) (rest := [.int (nI u_)]) B (met_X11_rows l E im t9 n9 c9 ln tb s.heap.size hT hok) (lw_V q1158 q1159 q1160 q63 q1161) (n := 0) ⟨by decide, by decide, by decide +kernel⟩ rfl ⟨rfl, rfl, (Nat.le_of_ble_eq_true rfl), (Nat.le_of_ble_eq_true rfl), (Nat.le_of_ble_eq_true rfl), (Nat.le_of_ble_eq_true rfl)⟩ (va_S.rf (A := fun _ => False)) (fun _ h => h.elim) (ct_recv B hC kX11 0 rfl) ⟨(hC.sub [0] rfl), hI⟩ hl.1 (Nat.le_of_ble_eq_true rfl) dX6_laneOfColumn_90) (fun v hv => ?_)
          subst hv
          refine W.eq (g2 := F0 m 93 ls [.int (nI (tRows tb)), .int (nI u_)]) rfl ?_
          refine n_icmp_ge (tgt := 121) hx hb dX6_laneOfColumn_93 (by decide) (by omega) (by omega) (fun c_23 => ?_) (fun c_23 => ?_)
          · refine lv_iload hx hb dX6_laneOfColumn_121 (lv_at hl 1 rfl) ?_
            refine n_if_eq (tgt := 129) hx hb dX6_laneOfColumn_123 (by decide) (by first | omega | (rcases hal with z9 | z9 <;> omega)) (fun cal2 => ?_) (fun cal2 => ?_)
            · have hnal : ¬ colAll 0 (tCols tb) (tRows tb) (cellW tb) k9 := by rcases hal with z9 | z9; exact absurd z9.1 (by omega); exact z9.2
              refine n_iinc (n := 1) (lv' := [(3, .int (nI (q_ + 1))), (6, .int (nI u_)), (5, .int (nI al)), (4, .int (nI 0)), (2, .int (nI 1)), (0, .ref t9), (1, .int (nI k9))]) hx hb dX6_laneOfColumn_129 hl (k := 3) rfl rfl (by decide) (by decide) rfl (fun ls hl => ?_)
              refine lv_goto (tgt := 42) hx hb dX6_laneOfColumn_132 (by decide) ?_
              exact ih_14 (q_ + 1) ls (by omega) ⟨lv_sub hl [0, 4, 5, 6] rfl, by omega, ⟨fun h9 => hnal, fun h9 => by omega, fun h9 => by omega, fun h9 => by omega⟩⟩
            · have hyes : colAll 0 (tCols tb) (tRows tb) (cellW tb) k9 := by rcases hal with z9 | z9; exact fun j9 h9 => z9.2 j9 (by omega); exact absurd z9.1 (by omega)
              refine lv_iload hx hb dX6_laneOfColumn_126 (lv_at hl 2 rfl) ?_
              exact ct_iretR (ty := .int) (v := (nI 0)) B rfl rfl (by unfold laneT; rw [if_pos hany, if_pos hyes]) dX6_laneOfColumn_128
          · refine lv_iload hx hb dX6_laneOfColumn_96 (lv_at hl 1 rfl) ?_
            refine n_if_eq (tgt := 121) hx hb dX6_laneOfColumn_98 (by decide) (by first | omega | (rcases hal with z9 | z9 <;> omega)) (fun cal => ?_) (fun cal => ?_)
            · refine lv_iload hx hb dX6_laneOfColumn_121 (lv_at hl 1 rfl) ?_
              refine n_if_eq (tgt := 129) hx hb dX6_laneOfColumn_123 (by decide) (by first | omega | (rcases hal with z9 | z9 <;> omega)) (fun cal2 => ?_) (fun cal2 => ?_)
              · have hnal : ¬ colAll 0 (tCols tb) (tRows tb) (cellW tb) k9 := by rcases hal with z9 | z9; exact absurd z9.1 (by omega); exact z9.2
                refine n_iinc (n := 1) (lv' := [(3, .int (nI (q_ + 1))), (6, .int (nI u_)), (5, .int (nI al)), (4, .int (nI 0)), (2, .int (nI 1)), (0, .ref t9), (1, .int (nI k9))]) hx hb dX6_laneOfColumn_129 hl (k := 3) rfl rfl (by decide) (by decide) rfl (fun ls hl => ?_)
                refine lv_goto (tgt := 42) hx hb dX6_laneOfColumn_132 (by decide) ?_
                exact ih_14 (q_ + 1) ls (by omega) ⟨lv_sub hl [0, 4, 5, 6] rfl, by omega, ⟨fun h9 => hnal, fun h9 => by omega, fun h9 => by omega, fun h9 => by omega⟩⟩
              · have hyes : colAll 0 (tCols tb) (tRows tb) (cellW tb) k9 := by rcases hal with z9 | z9; exact fun j9 h9 => z9.2 j9 (by omega); exact absurd z9.1 (by omega)
                refine lv_iload hx hb dX6_laneOfColumn_126 (lv_at hl 2 rfl) ?_
                exact ct_iretR (ty := .int) (v := (nI 0)) B rfl rfl (by unfold laneT; rw [if_pos hany, if_pos hyes]) dX6_laneOfColumn_128
            · have hok9 : ∀ j, j < u_ → missW (cellW tb (tCols tb * j + k9)) ∨ takesW 0 (cellW tb (tCols tb * j + k9)) := by rcases hal with z9 | z9; exact z9.2; exact absurd z9.1 (by omega)
              refine lv_aload_n hx hb dX6_laneOfColumn_101 rfl (lv_at hl 5 rfl) ?_
              refine lv_iload hx hb dX6_laneOfColumn_102 (lv_at hl 0 rfl) ?_
              refine lv_iload_n hx hb dX6_laneOfColumn_104 rfl (lv_at hl 6 rfl) ?_
              refine ct_callR (ct_runV (As := [.int (nI u_), .int (nI k9)]) (rest := []) B (met_X11_at l E im t9 n9 c9 ln tb u_ k9 s.heap.size hT hok (by omega) (by omega)) (lw_V q1163 q1164 q1165 q63 q1166) (n := 2) ⟨by decide, by decide, by decide +kernel⟩ rfl ⟨rfl, rfl, (Nat.le_of_ble_eq_true rfl), (Nat.le_of_ble_eq_true rfl), (Nat.le_of_ble_eq_true rfl), (Nat.le_of_ble_eq_true rfl)⟩ (va_S.rf (A := fun _ => False)) (fun _ h => h.elim) (ct_recv B hC kX11 0 rfl) ⟨(hC.sub [0] rfl), hI⟩ hl.1 (Nat.le_of_ble_eq_true rfl) dX6_laneOfColumn_105) (fun v hv => ?_)
              obtain ⟨x9, rfl, hcx9⟩ := hv
              refine W.eq (g2 := F0 m 108 ls [.ref x9]) rfl ?_
              refine lv_iload hx hb dX6_laneOfColumn_108 (lv_at hl 2 rfl) ?_
              refine ct_callR (ct_runS (As := [.ref x9, .int (nI 0)]) (rest := []) B (met_X6_isOfLane l E im x9 0 (cellW tb (tCols tb * u_ + k9)) s.heap.size hcx9 (by omega)) (lw_S q1174 q1175 q54 q1176) (n := 2) ⟨by decide, by decide, by decide +kernel⟩ rfl ⟨rfl, rfl, (Nat.le_of_ble_eq_true rfl), (Nat.le_of_ble_eq_true rfl), (Nat.le_of_ble_eq_true rfl), (Nat.le_of_ble_eq_true rfl)⟩ (va_S.rf (A := fun _ => False)) (fun _ h => h.elim) hI hl.1 (Nat.le_of_ble_eq_true rfl) dX6_laneOfColumn_110) (fun v hv => ?_)
              subst hv
              refine W.eq (g2 := F0 m 113 ls [.int (if missW (cellW tb (tCols tb * u_ + k9)) ∨ takesW 0 (cellW tb (tCols tb * u_ + k9)) then 1 else 0)]) rfl ?_
              by_cases col : missW (cellW tb (tCols tb * u_ + k9)) ∨ takesW 0 (cellW tb (tCols tb * u_ + k9))
              · refine W.eq (g2 := F0 m 113 ls [.int (nI 1)]) (by rw [if_pos col] <;> rfl) ?_
                refine lv_istore (lv' := [(5, .int (nI 1)), (6, .int (nI u_)), (4, .int (nI 0)), (3, .int (nI q_)), (2, .int (nI 1)), (0, .ref t9), (1, .int (nI k9))]) hx hb dX6_laneOfColumn_113 hl (by decide) rfl (fun ls hl => ?_)
                refine n_iinc (n := 1) (lv' := [(6, .int (nI (u_ + 1))), (5, .int (nI 1)), (4, .int (nI 0)), (3, .int (nI q_)), (2, .int (nI 1)), (0, .ref t9), (1, .int (nI k9))]) hx hb dX6_laneOfColumn_115 hl (k := 1) rfl rfl (by decide) (by decide) rfl (fun ls hl => ?_)
                refine lv_goto (tgt := 87) hx hb dX6_laneOfColumn_118 (by decide) ?_
                exact ih_22 ((u_ + 1), 1) ls (by dsimp only; omega) ⟨lv_sub hl [0, 1, 2, 3, 4, 5, 6] rfl, by omega, Or.inl ⟨rfl, fun j hj => by rcases Nat.lt_succ_iff_lt_or_eq.mp hj with q9 | q9; exact hok9 j q9; rw [q9]; exact col⟩⟩
              · refine W.eq (g2 := F0 m 113 ls [.int (nI 0)]) (by rw [if_neg col] <;> rfl) ?_
                refine lv_istore (lv' := [(5, .int (nI 0)), (6, .int (nI u_)), (4, .int (nI 0)), (3, .int (nI q_)), (2, .int (nI 1)), (0, .ref t9), (1, .int (nI k9))]) hx hb dX6_laneOfColumn_113 hl (by decide) rfl (fun ls hl => ?_)
                refine n_iinc (n := 1) (lv' := [(6, .int (nI (u_ + 1))), (5, .int (nI 0)), (4, .int (nI 0)), (3, .int (nI q_)), (2, .int (nI 1)), (0, .ref t9), (1, .int (nI k9))]) hx hb dX6_laneOfColumn_115 hl (k := 1) rfl rfl (by decide) (by decide) rfl (fun ls hl => ?_)
                refine lv_goto (tgt := 87) hx hb dX6_laneOfColumn_118 (by decide) ?_
                exact ih_22 ((u_ + 1), 0) ls (by dsimp only; omega) ⟨lv_sub hl [0, 1, 2, 3, 4, 5, 6] rfl, by omega, Or.inr ⟨rfl, fun z9 => col (z9 u_ (by omega))⟩⟩
    · have hms : ∀ j, j < r_ → missW (cellW tb (tCols tb * j + k9)) := by rcases hb_ with z9 | z9; exact z9.2; exact absurd z9.1 (by omega)
      refine lv_aload_n hx hb dX6_laneOfColumn_16 rfl (lv_at hl 2 rfl) ?_
      refine lv_iload_n hx hb dX6_laneOfColumn_17 rfl (lv_at hl 0 rfl) ?_
      refine lv_iload_n hx hb dX6_laneOfColumn_18 rfl (lv_at hl 3 rfl) ?_
      refine ct_callR (ct_runV (As := [.int (nI r_), .int (nI k9)]) (rest := []) B (met_X11_at l E im t9 n9 c9 ln tb r_ k9 s.heap.size hT hok (by omega) (by omega)) (lw_V q1163 q1164 q1165 q63 q1166) (n := 2) ⟨by decide, by decide, by decide +kernel⟩ rfl ⟨rfl, rfl, (Nat.le_of_ble_eq_true rfl), (Nat.le_of_ble_eq_true rfl), (Nat.le_of_ble_eq_true rfl), (Nat.le_of_ble_eq_true rfl)⟩ (va_S.rf (A := fun _ => False)) (fun _ h => h.elim) (ct_recv B hC kX11 0 rfl) ⟨(hC.sub [0] rfl), hI⟩ hl.1 (Nat.le_of_ble_eq_true rfl) dX6_laneOfColumn_19) (fun v hv => ?_)
      obtain ⟨x9, rfl, hcx9⟩ := hv
      refine W.eq (g2 := F0 m 22 ls [.ref x9]) rfl ?_
      obtain ⟨s9, hx9, hs9⟩ := hcx9
      refine ct_callR (ct_runV (As := []) (rest := []) B (met_X12_isMissing l E _ x9 s9 (if (cellW tb (tCols tb * r_ + k9)).2 = true then 1 else 0) ((cellW tb (tCols tb * r_ + k9)).1) s.heap.size (by split <;> omega)) (lw_V q1169 q1170 q1171 q74 q1172) (n := 0) ⟨by decide, by decide, by decide +kernel⟩ rfl ⟨rfl, rfl, (Nat.le_of_ble_eq_true rfl), (Nat.le_of_ble_eq_true rfl), (Nat.le_of_ble_eq_true rfl), (Nat.le_of_ble_eq_true rfl)⟩ (va_S.rf (A := fun _ => False)) (fun _ h => h.elim) (ct_recv B (ct_sel hI (by intro z9 h9; rw [List.mem_singleton.mp h9]; exact hx9)) kX12 0 rfl) ⟨((ct_sel hI (by intro z9 h9; rw [List.mem_singleton.mp h9]; exact hx9)).sub [0] rfl), (hs9.S hI)⟩ hl.1 (Nat.le_of_ble_eq_true rfl) dX6_laneOfColumn_22) (fun v hv => ?_)
      subst hv
      refine W.eq (g2 := F0 m 25 ls [.int (if (if (cellW tb (tCols tb * r_ + k9)).2 = true then 1 else 0) = 0 ∧ ((cellW tb (tCols tb * r_ + k9)).1).length = 0 then 1 else 0)]) rfl ?_
      refine b_if_ne (tgt := 32) hx hb dX6_laneOfColumn_25 (by decide) (fun cms => ?_) (fun cms => ?_)
      · refine lv_iconst (v := nI 0) hx hb dX6_laneOfColumn_32 (by decide) ?_
        refine lv_istore_n (lv' := [(2, .int (nI 0)), (3, .int (nI r_)), (0, .ref t9), (1, .int (nI k9))]) hx hb dX6_laneOfColumn_33 rfl hl (by decide) rfl (fun ls hl => ?_)
        refine n_iinc (n := 1) (lv' := [(3, .int (nI (r_ + 1))), (2, .int (nI 0)), (0, .ref t9), (1, .int (nI k9))]) hx hb dX6_laneOfColumn_34 hl (k := 1) rfl rfl (by decide) (by decide) rfl (fun ls hl => ?_)
        refine lv_goto (tgt := 4) hx hb dX6_laneOfColumn_37 (by decide) ?_
        exact ih_1 ((r_ + 1), 0) ls (by dsimp only; omega) ⟨lv_sub hl [0, 1, 2, 3] rfl, by omega, Or.inl ⟨rfl, fun j hj => by rcases Nat.lt_succ_iff_lt_or_eq.mp hj with q9 | q9; exact hms j q9; rw [q9]; exact missW_of cms⟩⟩
      · refine lv_iconst (v := nI 1) hx hb dX6_laneOfColumn_28 (by decide) ?_
        refine lv_goto (tgt := 33) hx hb dX6_laneOfColumn_29 (by decide) ?_
        refine lv_istore_n (lv' := [(2, .int (nI 1)), (3, .int (nI r_)), (0, .ref t9), (1, .int (nI k9))]) hx hb dX6_laneOfColumn_33 rfl hl (by decide) rfl (fun ls hl => ?_)
        refine n_iinc (n := 1) (lv' := [(3, .int (nI (r_ + 1))), (2, .int (nI 1)), (0, .ref t9), (1, .int (nI k9))]) hx hb dX6_laneOfColumn_34 hl (k := 1) rfl rfl (by decide) (by decide) rfl (fun ls hl => ?_)
        refine lv_goto (tgt := 4) hx hb dX6_laneOfColumn_37 (by decide) ?_
        exact ih_1 ((r_ + 1), 1) ls (by dsimp only; omega) ⟨lv_sub hl [0, 1, 2, 3] rfl, by omega, Or.inr ⟨rfl, r_, by omega, fun z9 => cms (missW_to z9)⟩⟩
