set_option maxHeartbeats 4000000 in
set_option maxRecDepth 100000 in
theorem met_X2_write (l : Launch) (E : CE) (ad : Nat → Nat) (F : XF) (ob : Nat → Int32) (on : Nat) (db : Nat → Int32) (dn : Nat) (S : XS) (made : Nat) (all : Nat → Option Nat) (wn : Nat) (wb : Nat → Int32) (P : XP) (R : XR) (q : Nat → Nat) (cols rows : Nat) (f : Nat → Nat → Int32) (nw cw : Nat → Wd) (ln : Nat → Nat) (sz : Nat) (hcs : 1 ≤ cols ∧ cols ≤ 16) (hrs : rows ≤ 499) (hnm : ∀ c, c < cols → ¬ missW (nw c)) (hTDn : TD wb wn cols (f 0) (f 1) nw) (hTDc : TD wb wn (cols * rows) (f 2) (f 3) cw) (hl4 : ∀ c, c < cols → f 4 c = nI (ln c) ∧ ln c ≤ 8) (ho : outR db dn []) : Met l yX2_write (ws_ yX2_write cX2_write 7 (some .boolean)) { frames := 2, cells := 0, slots := 0, locals := 47 } (ctP E [.ref (ad 3), .ref (q 0), .ref (ad 18)] sz (fun H => va_P E.1 ct_cl (xw E ad F (ob, on, db, dn) S (made, all, wn, wb) P R) H ∧ va_D (fun q => E.2.2.1 ≤ q) (xw E ad F (ob, on, db, dn) S (made, all, wn, wb) P R) ∧ va_P E.1 ct_cl (tw E q cols rows f) H ∧ apT ad q)) (ctQ (fun v H => ∃ db2 : Nat → Int32, ∃ dn2 : Nat, v = some (.int (if (wrO cols rows nw cw ln).length ≤ 30000 then 1 else 0)) ∧ va_P E.1 ct_cl (xw E ad F (ob, on, db2, dn2) S (made, all, wn, wb) P R) H ∧ ((wrO cols rows nw cw ln).length ≤ 30000 → outR db2 dn2 (wrO cols rows nw cw ln))) (va_A (xw E ad F (ob, on, db, dn) S (made, all, wn, wb) P R) sz)) 0 0 (va_A (xw E ad F (ob, on, db, dn) S (made, all, wn, wb) P R) sz) := by
  refine ct_start (by decide) (Nat.le_of_ble_eq_true rfl) ?_
  intro p e s m below meth c ls B hsz hH hl
  obtain ⟨hP, hD, hT0, hq0⟩ := hH
  obtain ⟨A, hAe, h, hA, hAn⟩ := ct_enter B.2.2.2.2.2.2.2.2 hsz hP hD
  have hN0 := apT_N hT0 hsz hq0 (hAe := hAe)
  rw [hAe]
  refine ct_gen h (fun H locs h => ?_)
  have hx := B.1
  have hb := B.2.1
  have hl : lv_has ls 7 [(0, .ref (ad 3)), (1, .ref (q 0)), (2, .ref (ad 18))] := hl
  have hmul := mul_cs hcs.2 hrs
  have hn : cols * rows < 2147483648 := by omega
  refine lv_iconst (v := nI 1) hx hb dX2_write_0 (by decide) ?_
  refine lv_istore_n (lv' := [(3, .int (nI 1)), (0, .ref (ad 3)), (1, .ref (q 0)), (2, .ref (ad 18))]) hx hb dX2_write_1 rfl hl (by decide) rfl (fun ls hl => ?_)
  refine lv_iconst (v := nI 0) hx hb dX2_write_2 (by decide) ?_
  refine lv_istore (lv' := [(4, .int (nI 0)), (3, .int (nI 1)), (0, .ref (ad 3)), (1, .ref (q 0)), (2, .ref (ad 18))]) hx hb dX2_write_3 hl (by decide) rfl (fun ls hl => ?_)
  refine ct_loopH (σ := Nat × Nat × Nat × (Nat → Int32) × Nat) (fun (c_, gf, on_, d1, n1) H locs ls => lv_has ls 7 [(4, .int (nI c_)), (3, .int (nI gf)), (0, .ref (ad 3)), (1, .ref (q 0)), (2, .ref (ad 18))] ∧ Hs E A s.heap (xw E ad F (ob, on, d1, n1) S (made, all, wn, wb) P R) H locs ∧ (c_ ≤ cols) ∧ (on_ = (hdrO nw c_).length) ∧ (outR d1 n1 (hdrO nw c_)) ∧ ((gf = 1 ∧ on_ ≤ 30000) ∨ (gf = 0 ∧ 30000 < on_))) (fun (c_, gf, on_, d1, n1) => cols - c_) (fun _ => 0) (fun _ => 0) (g := fun (c_, gf, on_, d1, n1) ls => F0 m 5 ls []) (x0 := (0, 1, 0, db, dn)) (ls0 := ls) ?_ ⟨lv_sub hl [0, 1, 2, 3, 4] rfl, h, Nat.zero_le _, rfl, ho, by omega⟩
  clear hl h
  intro x9 H locs ls hI ih_1
  obtain ⟨c_, gf, on_, d1, n1⟩ := x9
  obtain ⟨hl, h, hc_, hon, hor, hfl⟩ := hI
  refine W.eq (g2 := F0 m 5 ls []) rfl ?_
  refine lv_iload hx hb dX2_write_5 (lv_at hl 0 rfl) ?_
  refine lv_aload_n hx hb dX2_write_7 rfl (lv_at hl 3 rfl) ?_
  refine ct_get (v := .int (nI cols)) B (ct_keep hT0 hN0 h.2.2) kX9 0 rfl 0 (Nat.le_of_ble_eq_true rfl) q393 rfl dX2_write_8 ?_
  refine n_icmp_ge (tgt := 96) hx hb dX2_write_11 (by decide) (by omega) (by omega) (fun c_2 => ?_) (fun c_2 => ?_)
  · refine ct_joinH (σ := Nat × Nat × (Nat → Int32) × Nat) (P := fun (gf, on_, d1, n1) H locs ls => lv_has ls 7 [(4, .int (nI c_)), (3, .int (nI gf)), (0, .ref (ad 3)), (1, .ref (q 0)), (2, .ref (ad 18))] ∧ Hs E A s.heap (xw E ad F (ob, on, d1, n1) S (made, all, wn, wb) P R) H locs ∧ (on_ = (hdrO nw cols ++ [10]).length) ∧ (outR d1 n1 (hdrO nw cols ++ [10])) ∧ ((gf = 1 ∧ on_ ≤ 30000) ∨ (gf = 0 ∧ 30000 < on_))) (g := fun (gf, on_, d1, n1) ls => F0 m 115 ls []) (c1 := 0) (s1 := 0) (fun x9 H locs ls hI => ?_) (fun hJ_3 => ?_)
    · obtain ⟨gf, on_, d1, n1⟩ := x9
      obtain ⟨hl, h, hon, hor, hfl⟩ := hI
      refine W.eq (g2 := F0 m 115 ls []) rfl ?_
      refine lv_iconst (v := nI 0) hx hb dX2_write_115 (by decide) ?_
      refine lv_istore (lv' := [(4, .int (nI 0)), (3, .int (nI gf)), (0, .ref (ad 3)), (1, .ref (q 0)), (2, .ref (ad 18))]) hx hb dX2_write_116 hl (by decide) rfl (fun ls hl => ?_)
      refine ct_loopH (σ := Nat × Nat × Nat × (Nat → Int32) × Nat) (fun (r_, gf, on_, d1, n1) H locs ls => lv_has ls 7 [(4, .int (nI r_)), (3, .int (nI gf)), (0, .ref (ad 3)), (1, .ref (q 0)), (2, .ref (ad 18))] ∧ Hs E A s.heap (xw E ad F (ob, on, d1, n1) S (made, all, wn, wb) P R) H locs ∧ (r_ ≤ rows) ∧ (on_ = ((hdrO nw cols ++ [10]) ++ bodyO cols cw ln r_).length) ∧ (outR d1 n1 ((hdrO nw cols ++ [10]) ++ bodyO cols cw ln r_)) ∧ ((gf = 1 ∧ on_ ≤ 30000) ∨ (gf = 0 ∧ 30000 < on_))) (fun (r_, gf, on_, d1, n1) => rows - r_) (fun _ => 0) (fun _ => 0) (g := fun (r_, gf, on_, d1, n1) ls => F0 m 118 ls []) (x0 := (0, gf, on_, d1, n1)) (ls0 := ls) ?_ ⟨lv_sub hl [0, 1, 2, 3, 4] rfl, h, Nat.zero_le _, by rw [show bodyO cols cw ln 0 = [] from rfl, List.append_nil]; exact hon, by rw [show bodyO cols cw ln 0 = [] from rfl, List.append_nil]; exact hor, hfl⟩
      clear hl h
      intro x9 H locs ls hI ih_4
      obtain ⟨r_, gf, on_, d1, n1⟩ := x9
      obtain ⟨hl, h, hr_, hon, hor, hfl⟩ := hI
      refine W.eq (g2 := F0 m 118 ls []) rfl ?_
      refine lv_iload hx hb dX2_write_118 (lv_at hl 0 rfl) ?_
      refine lv_aload_n hx hb dX2_write_120 rfl (lv_at hl 3 rfl) ?_
      refine ct_get (v := .int (nI rows)) B (ct_keep hT0 hN0 h.2.2) kX9 0 rfl 1 (Nat.le_of_ble_eq_true rfl) q396 rfl dX2_write_121 ?_
      refine n_icmp_ge (tgt := 259) hx hb dX2_write_124 (by decide) (by omega) (by omega) (fun crr => ?_) (fun crr => ?_)
      · rcases hfl with ⟨rfl, hfl⟩ | ⟨rfl, hfl⟩
        · refine lv_iload_n hx hb dX2_write_259 rfl (lv_at hl 1 rfl) ?_
          have e5 : ((hdrO nw cols ++ [10]) ++ bodyO cols cw ln r_) = wrO cols rows nw cw ln := by rw [show r_ = rows by omega]; rfl
          rw [e5] at hon hor
          exact ct_iret (ty := .boolean) (v := (nI 1)) B rfl rfl h.2.2 ⟨d1, n1, by rw [if_pos (by omega)] <;> rfl, h.1, fun _ => hor⟩ dX2_write_260
        · refine lv_iload_n hx hb dX2_write_259 rfl (lv_at hl 1 rfl) ?_
          have e5 : ((hdrO nw cols ++ [10]) ++ bodyO cols cw ln r_) = wrO cols rows nw cw ln := by rw [show r_ = rows by omega]; rfl
          rw [e5] at hon hor
          exact ct_iret (ty := .boolean) (v := (nI 0)) B rfl rfl h.2.2 ⟨d1, n1, by rw [if_neg (by omega)] <;> rfl, h.1, fun _ => hor⟩ dX2_write_260
      · refine lv_iload_n hx hb dX2_write_127 rfl (lv_at hl 1 rfl) ?_
        refine n_if_eq (tgt := 259) hx hb dX2_write_128 (by decide) (by omega) (fun cgr => ?_) (fun cgr => ?_)
        · subst cgr
          refine lv_iload_n hx hb dX2_write_259 rfl (lv_at hl 1 rfl) ?_
          have e5 := bodyO_le (cols := cols) (cw := cw) (ln := ln) hr_
          have e6 : (wrO cols rows nw cw ln).length = (hdrO nw cols ++ [10]).length + (bodyO cols cw ln rows).length := List.length_append
          rw [List.length_append] at hon
          have e7 : 30000 < (wrO cols rows nw cw ln).length := by omega
          exact ct_iret (ty := .boolean) (v := (nI 0)) B rfl rfl h.2.2 ⟨d1, n1, by rw [if_neg (by omega)] <;> rfl, h.1, fun q9 => absurd q9 (by omega)⟩ dX2_write_260
        · refine lv_iconst (v := nI 0) hx hb dX2_write_131 (by decide) ?_
          refine lv_istore (lv' := [(5, .int (nI 0)), (4, .int (nI r_)), (3, .int (nI gf)), (0, .ref (ad 3)), (1, .ref (q 0)), (2, .ref (ad 18))]) hx hb dX2_write_132 hl (by decide) rfl (fun ls hl => ?_)
          refine ct_loopH (σ := Nat × Nat × Nat × (Nat → Int32) × Nat) (fun (c_, gf, pn, d1, n1) H locs ls => lv_has ls 7 [(5, .int (nI c_)), (4, .int (nI r_)), (3, .int (nI gf)), (0, .ref (ad 3)), (1, .ref (q 0)), (2, .ref (ad 18))] ∧ Hs E A s.heap (xw E ad F (ob, on, d1, n1) S (made, all, wn, wb) P R) H locs ∧ (c_ ≤ cols) ∧ (pn = (((hdrO nw cols ++ [10]) ++ bodyO cols cw ln r_) ++ rowO cols cw ln r_ c_).length) ∧ (outR d1 n1 (((hdrO nw cols ++ [10]) ++ bodyO cols cw ln r_) ++ rowO cols cw ln r_ c_)) ∧ ((gf = 1 ∧ pn ≤ 30000) ∨ (gf = 0 ∧ 30000 < pn))) (fun (c_, gf, pn, d1, n1) => cols - c_) (fun _ => 0) (fun _ => 0) (g := fun (c_, gf, pn, d1, n1) ls => F0 m 134 ls []) (x0 := (0, gf, on_, d1, n1)) (ls0 := ls) ?_ ⟨lv_sub hl [0, 1, 2, 3, 4, 5] rfl, h, Nat.zero_le _, by rw [show rowO cols cw ln r_ 0 = [] from rfl, List.append_nil]; exact hon, by rw [show rowO cols cw ln r_ 0 = [] from rfl, List.append_nil]; exact hor, hfl⟩
          clear hl h
          intro x9 H locs ls hI ih_5
          obtain ⟨c_, gf, pn, d1, n1⟩ := x9
          obtain ⟨hl, h, hc_, hpn, hor, hfl⟩ := hI
          refine W.eq (g2 := F0 m 134 ls []) rfl ?_
          refine lv_iload hx hb dX2_write_134 (lv_at hl 0 rfl) ?_
          refine lv_aload_n hx hb dX2_write_136 rfl (lv_at hl 4 rfl) ?_
          refine ct_get (v := .int (nI cols)) B (ct_keep hT0 hN0 h.2.2) kX9 0 rfl 0 (Nat.le_of_ble_eq_true rfl) q393 rfl dX2_write_137 ?_
          refine n_icmp_ge (tgt := 234) hx hb dX2_write_140 (by decide) (by omega) (by omega) (fun c_6 => ?_) (fun c_6 => ?_)
          · have hpn' : pn = (((hdrO nw cols ++ [10]) ++ bodyO cols cw ln r_) ++ rowO cols cw ln r_ cols).length := by rw [hpn, show c_ = cols by omega]
            rw [show c_ = cols by omega] at hor
            refine lv_aload_n hx hb dX2_write_234 rfl (lv_at hl 5 rfl) ?_
            refine lv_bipush (v := nI 10) hx hb dX2_write_235 (by decide) ?_
            refine ct_callQ (ct_runV (As := [.int (nI 10)]) (rest := []) B (met_X5_put l E ad F ob on d1 n1 S (made, all, wn, wb) P R 10 (((hdrO nw cols ++ [10]) ++ bodyO cols cw ln r_) ++ rowO cols cw ln r_ cols) H.size (by omega) hor) (lw_V q673 q674 q675 q53 q676) (n := 1) ⟨by decide, by decide, by decide +kernel⟩ rfl ⟨rfl, rfl, (Nat.le_of_ble_eq_true rfl), (Nat.le_of_ble_eq_true rfl), (Nat.le_of_ble_eq_true rfl), (Nat.le_of_ble_eq_true rfl)⟩ h.2.2 hA (ct_recv B h.1 kX5 18 rfl) ⟨h.1, (ct_D0 h hA)⟩ hl.1 (Nat.le_of_ble_eq_true rfl) dX2_write_237) h.2.2 (ct_sub h hAn) (ct_sub h hAn) (fun v H locs hv hz hk hS => ?_)
            obtain ⟨db2_7, dn2_8, rfl, hP1, ho4⟩ := hv
            have h : Hs E A s.heap (xw E ad F (ob, on, db2_7, dn2_8) S (made, all, wn, wb) P R) H locs := ct_again h hP1 rfl hS
            clear hP1 hS hz hk
            refine W.eq (g2 := F0 m 240 ls [.int (if (((hdrO nw cols ++ [10]) ++ bodyO cols cw ln r_) ++ rowO cols cw ln r_ cols).length < 30000 then 1 else 0)]) rfl ?_
            refine b_if_eq (tgt := 251) hx hb dX2_write_240 (by decide) (fun cp6 => ?_) (fun cp6 => ?_)
            · rw [← hpn'] at cp6
              refine lv_iconst (v := nI 0) hx hb dX2_write_251 (by decide) ?_
              refine lv_istore_n (lv' := [(3, .int (nI 0)), (5, .int (nI c_)), (4, .int (nI r_)), (0, .ref (ad 3)), (1, .ref (q 0)), (2, .ref (ad 18))]) hx hb dX2_write_252 rfl hl (by decide) rfl (fun ls hl => ?_)
              refine n_iinc (n := 1) (lv' := [(4, .int (nI (r_ + 1))), (3, .int (nI 0)), (5, .int (nI c_)), (0, .ref (ad 3)), (1, .ref (q 0)), (2, .ref (ad 18))]) hx hb dX2_write_253 hl (k := 2) rfl rfl (by decide) (by decide) rfl (fun ls hl => ?_)
              refine lv_goto (tgt := 118) hx hb dX2_write_256 (by decide) ?_
              exact ih_4 ((r_ + 1), 0, (pn + 1), db2_7, dn2_8) H locs ls (by dsimp only; omega) ⟨lv_sub hl [0, 1, 3, 4, 5] rfl, h, by omega, by rw [show bodyO cols cw ln (r_ + 1) = bodyO cols cw ln r_ ++ (rowO cols cw ln r_ cols ++ [10]) from rfl, ← List.append_assoc, ← List.append_assoc, List.length_append (bs := [10]), ← hpn']; rfl, by rw [show bodyO cols cw ln (r_ + 1) = bodyO cols cw ln r_ ++ (rowO cols cw ln r_ cols ++ [10]) from rfl, ← List.append_assoc, ← List.append_assoc]; exact ho4, by omega⟩
            · rw [← hpn'] at cp6
              refine lv_iload_n hx hb dX2_write_243 rfl (lv_at hl 2 rfl) ?_
              refine n_if_eq (tgt := 251) hx hb dX2_write_244 (by decide) (by omega) (fun cg6 => ?_) (fun cg6 => ?_)
              · refine lv_iconst (v := nI 0) hx hb dX2_write_251 (by decide) ?_
                refine lv_istore_n (lv' := [(3, .int (nI 0)), (5, .int (nI c_)), (4, .int (nI r_)), (0, .ref (ad 3)), (1, .ref (q 0)), (2, .ref (ad 18))]) hx hb dX2_write_252 rfl hl (by decide) rfl (fun ls hl => ?_)
                refine n_iinc (n := 1) (lv' := [(4, .int (nI (r_ + 1))), (3, .int (nI 0)), (5, .int (nI c_)), (0, .ref (ad 3)), (1, .ref (q 0)), (2, .ref (ad 18))]) hx hb dX2_write_253 hl (k := 2) rfl rfl (by decide) (by decide) rfl (fun ls hl => ?_)
                refine lv_goto (tgt := 118) hx hb dX2_write_256 (by decide) ?_
                exact ih_4 ((r_ + 1), 0, (pn + 1), db2_7, dn2_8) H locs ls (by dsimp only; omega) ⟨lv_sub hl [0, 1, 3, 4, 5] rfl, h, by omega, by rw [show bodyO cols cw ln (r_ + 1) = bodyO cols cw ln r_ ++ (rowO cols cw ln r_ cols ++ [10]) from rfl, ← List.append_assoc, ← List.append_assoc, List.length_append (bs := [10]), ← hpn']; rfl, by rw [show bodyO cols cw ln (r_ + 1) = bodyO cols cw ln r_ ++ (rowO cols cw ln r_ cols ++ [10]) from rfl, ← List.append_assoc, ← List.append_assoc]; exact ho4, by omega⟩
              · refine lv_iconst (v := nI 1) hx hb dX2_write_247 (by decide) ?_
                refine lv_goto (tgt := 252) hx hb dX2_write_248 (by decide) ?_
                refine lv_istore_n (lv' := [(3, .int (nI 1)), (5, .int (nI c_)), (4, .int (nI r_)), (0, .ref (ad 3)), (1, .ref (q 0)), (2, .ref (ad 18))]) hx hb dX2_write_252 rfl hl (by decide) rfl (fun ls hl => ?_)
                refine n_iinc (n := 1) (lv' := [(4, .int (nI (r_ + 1))), (3, .int (nI 1)), (5, .int (nI c_)), (0, .ref (ad 3)), (1, .ref (q 0)), (2, .ref (ad 18))]) hx hb dX2_write_253 hl (k := 2) rfl rfl (by decide) (by decide) rfl (fun ls hl => ?_)
                refine lv_goto (tgt := 118) hx hb dX2_write_256 (by decide) ?_
                exact ih_4 ((r_ + 1), 1, (pn + 1), db2_7, dn2_8) H locs ls (by dsimp only; omega) ⟨lv_sub hl [0, 1, 3, 4, 5] rfl, h, by omega, by rw [show bodyO cols cw ln (r_ + 1) = bodyO cols cw ln r_ ++ (rowO cols cw ln r_ cols ++ [10]) from rfl, ← List.append_assoc, ← List.append_assoc, List.length_append (bs := [10]), ← hpn']; rfl, by rw [show bodyO cols cw ln (r_ + 1) = bodyO cols cw ln r_ ++ (rowO cols cw ln r_ cols ++ [10]) from rfl, ← List.append_assoc, ← List.append_assoc]; exact ho4, by omega⟩
          · refine ct_joinH (σ := Nat × Nat × (Nat → Int32) × Nat) (P := fun (gf, yn, d1, n1) H locs ls => lv_has ls 7 [(5, .int (nI c_)), (4, .int (nI r_)), (3, .int (nI gf)), (0, .ref (ad 3)), (1, .ref (q 0)), (2, .ref (ad 18))] ∧ Hs E A s.heap (xw E ad F (ob, on, d1, n1) S (made, all, wn, wb) P R) H locs ∧ (yn = ((((hdrO nw cols ++ [10]) ++ bodyO cols cw ln r_) ++ rowO cols cw ln r_ c_) ++ comO c_).length) ∧ (outR d1 n1 ((((hdrO nw cols ++ [10]) ++ bodyO cols cw ln r_) ++ rowO cols cw ln r_ c_) ++ comO c_)) ∧ ((gf = 1 ∧ yn ≤ 30000) ∨ (gf = 0 ∧ 30000 < yn))) (g := fun (gf, yn, d1, n1) ls => F0 m 167 ls []) (c1 := 0) (s1 := 0) (fun x9 H locs ls hI => ?_) (fun hJ_9 => ?_)
            · obtain ⟨gf, yn, d1, n1⟩ := x9
              obtain ⟨hl, h, hyn, hor, hfl⟩ := hI
              refine W.eq (g2 := F0 m 167 ls []) rfl ?_
              have hix := ix_lt (show c_ < cols by omega) (show r_ < rows by omega)
              obtain ⟨_, _, a_s, ha_s, hta, hal⟩ := hTDc _ hix
              refine lv_aload_n hx hb dX2_write_167 rfl (lv_at hl 4 rfl) ?_
              refine ct_get (v := .int (nI cols)) B (ct_keep hT0 hN0 h.2.2) kX9 0 rfl 0 (Nat.le_of_ble_eq_true rfl) q393 rfl dX2_write_168 ?_
              refine lv_iload hx hb dX2_write_171 (lv_at hl 1 rfl) ?_
              refine n_imul hx hb dX2_write_173 ?_
              refine lv_iload hx hb dX2_write_174 (lv_at hl 0 rfl) ?_
              refine n_iadd hx hb dX2_write_176 ?_
              refine lv_istore (lv' := [(6, .int (nI (cols * r_ + c_))), (5, .int (nI c_)), (4, .int (nI r_)), (3, .int (nI gf)), (0, .ref (ad 3)), (1, .ref (q 0)), (2, .ref (ad 18))]) hx hb dX2_write_177 hl (by decide) rfl (fun ls hl => ?_)
              refine lv_aload_n hx hb dX2_write_179 rfl (lv_at hl 5 rfl) ?_
              refine lv_iload hx hb dX2_write_180 (lv_at hl 0 rfl) ?_
              refine ct_callR (ct_runV (As := [.int (nI (cols * r_ + c_))]) (rest := []) B (met_X9_isMissing l E  q cols rows (cols * r_ + c_) f (cw (cols * r_ + c_)) H.size hix hn (hTDc _ hix).1 (hTDc _ hix).2.1) (lw_V q436 q437 q438 q57 q439) (n := 1) ⟨by decide, by decide, by decide +kernel⟩ rfl ⟨rfl, rfl, (Nat.le_of_ble_eq_true rfl), (Nat.le_of_ble_eq_true rfl), (Nat.le_of_ble_eq_true rfl), (Nat.le_of_ble_eq_true rfl)⟩ h.2.2 hA (ct_recv B (ct_keep hT0 hN0 h.2.2) kX9 0 rfl) (ct_keep hT0 hN0 h.2.2) hl.1 (Nat.le_of_ble_eq_true rfl) dX2_write_182) (fun v hv => ?_)
              subst hv
              refine W.eq (g2 := F0 m 185 ls [.int (if (cw (cols * r_ + c_)).1 = [] ∧ (cw (cols * r_ + c_)).2 = false then 1 else 0)]) rfl ?_
              refine b_if_ne (tgt := 228) hx hb dX2_write_185 (by decide) (fun cmis => ?_) (fun cmis => ?_)
              · refine n_iinc (n := 1) (lv' := [(5, .int (nI (c_ + 1))), (6, .int (nI (cols * r_ + c_))), (4, .int (nI r_)), (3, .int (nI gf)), (0, .ref (ad 3)), (1, .ref (q 0)), (2, .ref (ad 18))]) hx hb dX2_write_228 hl (k := 1) rfl rfl (by decide) (by decide) rfl (fun ls hl => ?_)
                refine lv_goto (tgt := 134) hx hb dX2_write_231 (by decide) ?_
                exact ih_5 ((c_ + 1), gf, (yn + (cellO (cw (cols * r_ + c_)) (ln c_)).length), d1, n1) H locs ls (by dsimp only; omega) ⟨lv_sub hl [0, 2, 3, 4, 5, 6] rfl, h, by omega, by rw [hyn, show rowO cols cw ln r_ (c_ + 1) = rowO cols cw ln r_ c_ ++ (comO c_ ++ cellO (cw (cols * r_ + c_)) (ln c_)) from rfl, ← List.append_assoc, ← List.append_assoc, List.length_append (bs := cellO (cw (cols * r_ + c_)) (ln c_))], by rw [show rowO cols cw ln r_ (c_ + 1) = rowO cols cw ln r_ c_ ++ (comO c_ ++ cellO (cw (cols * r_ + c_)) (ln c_)) from rfl, ← List.append_assoc, ← List.append_assoc]; rw [cellO, if_pos cmis, List.append_nil]; exact hor, by rw [show (cellO (cw (cols * r_ + c_)) (ln c_)).length = 0 from by rw [cellO, if_pos cmis]; rfl]; omega⟩
              · refine lv_aload_n hx hb dX2_write_188 rfl (lv_at hl 4 rfl) ?_
                refine lv_aload_n hx hb dX2_write_189 rfl (lv_at hl 6 rfl) ?_
                refine lv_aload_n hx hb dX2_write_190 rfl (lv_at hl 5 rfl) ?_
                refine ct_get (v := .ref (q 3)) B (ct_keep hT0 hN0 h.2.2) kX9 0 rfl 4 (Nat.le_of_ble_eq_true rfl) q402 rfl dX2_write_191 ?_
                refine lv_iload hx hb dX2_write_194 (lv_at hl 0 rfl) ?_
                refine ct_iald (f := f 2) B (ct_keep hT0 hN0 h.2.2) 3 rfl hix (by omega) dX2_write_196 ?_
                refine W.eq (g2 := F0 m 197 ls [.int (nI a_s), .ref (ad 18), .ref (ad 3)]) (by rw [ha_s]) ?_
                refine lv_aload_n hx hb dX2_write_197 rfl (lv_at hl 5 rfl) ?_
                refine lv_iload hx hb dX2_write_198 (lv_at hl 0 rfl) ?_
                refine ct_callR (ct_runV (As := [.int (nI (cols * r_ + c_))]) (rest := [.int (nI a_s), .ref (ad 18), .ref (ad 3)]) B (met_X9_length l E  q cols rows (cols * r_ + c_) f (cw (cols * r_ + c_)) H.size hix hn (hTDc _ hix).1 (hTDc _ hix).2.1) (lw_V q452 q453 q454 q57 q455) (n := 1) ⟨by decide, by decide, by decide +kernel⟩ rfl ⟨rfl, rfl, (Nat.le_of_ble_eq_true rfl), (Nat.le_of_ble_eq_true rfl), (Nat.le_of_ble_eq_true rfl), (Nat.le_of_ble_eq_true rfl)⟩ h.2.2 hA (ct_recv B (ct_keep hT0 hN0 h.2.2) kX9 0 rfl) (ct_keep hT0 hN0 h.2.2) hl.1 (Nat.le_of_ble_eq_true rfl) dX2_write_200) (fun v hv => ?_)
                subst hv
                refine W.eq (g2 := F0 m 203 ls [.int (nI ((cw (cols * r_ + c_)).1.length)), .int (nI a_s), .ref (ad 18), .ref (ad 3)]) rfl ?_
                refine lv_aload_n hx hb dX2_write_203 rfl (lv_at hl 4 rfl) ?_
                refine lv_aload_n hx hb dX2_write_204 rfl (lv_at hl 5 rfl) ?_
                refine lv_iload hx hb dX2_write_205 (lv_at hl 1 rfl) ?_
                refine lv_iload hx hb dX2_write_207 (lv_at hl 0 rfl) ?_
                refine ct_callR (ct_runV (As := [.ref (q 0), .int (nI c_), .int (nI (cols * r_ + c_))]) (rest := [.int (nI ((cw (cols * r_ + c_)).1.length)), .int (nI a_s), .ref (ad 18), .ref (ad 3)]) B (met_X2_isMarked l E ad F (ob, on, d1, n1) S made all wn wb P R q cols rows c_ (cols * r_ + c_) a_s (ln c_) f (cw (cols * r_ + c_)) H.size hix hn (hTDc _ hix).1 (hTDc _ hix).2.1 ha_s hta (by omega) hcs.2 (hl4 c_ (by omega)).1 (hl4 c_ (by omega)).2) (lw_V q685 q687 qs25 q50 q688) (n := 3) ⟨by decide, by decide, by decide +kernel⟩ rfl ⟨rfl, rfl, (Nat.le_of_ble_eq_true rfl), (Nat.le_of_ble_eq_true rfl), (Nat.le_of_ble_eq_true rfl), (Nat.le_of_ble_eq_true rfl)⟩ h.2.2 hA (ct_recv B h.1 kX2 3 rfl) ⟨h.1, (ct_keep hT0 hN0 h.2.2)⟩ hl.1 (Nat.le_of_ble_eq_true rfl) dX2_write_209) (fun v hv => ?_)
                subst hv
                refine W.eq (g2 := F0 m 212 ls [.int (if nMk (cw (cols * r_ + c_)).1 ∨ ((ln c_) = 8 ∧ (cw (cols * r_ + c_)).2 = true) then 1 else 0), .int (nI ((cw (cols * r_ + c_)).1.length)), .int (nI a_s), .ref (ad 18), .ref (ad 3)]) rfl ?_
                refine ct_callQ (ct_runV (As := [.ref (ad 18), .int (nI a_s), .int (nI ((cw (cols * r_ + c_)).1.length)), .int (if nMk (cw (cols * r_ + c_)).1 ∨ ((ln c_) = 8 ∧ (cw (cols * r_ + c_)).2 = true) then 1 else 0)]) (rest := []) B (met_X2_say l E ad F ob on d1 n1 S made all wn wb P R a_s ((cw (cols * r_ + c_)).1) (if nMk (cw (cols * r_ + c_)).1 ∨ ((ln c_) = 8 ∧ (cw (cols * r_ + c_)).2 = true) then 1 else 0) ((((hdrO nw cols ++ [10]) ++ bodyO cols cw ln r_) ++ rowO cols cw ln r_ c_) ++ comO c_) H.size hta hor) (lw_V q681 q683 qs24 q50 q684) (n := 4) ⟨by decide, by decide, by decide +kernel⟩ rfl ⟨rfl, rfl, (Nat.le_of_ble_eq_true rfl), (Nat.le_of_ble_eq_true rfl), (Nat.le_of_ble_eq_true rfl), (Nat.le_of_ble_eq_true rfl)⟩ h.2.2 hA (ct_recv B h.1 kX2 3 rfl) ⟨h.1, (ct_D0 h hA)⟩ hl.1 (Nat.le_of_ble_eq_true rfl) dX2_write_212) h.2.2 (ct_sub h hAn) (ct_sub h hAn) (fun v H locs hv hz hk hS => ?_)
                obtain ⟨db2_10, dn2_11, rfl, hP1, ho2⟩ := hv
                have h : Hs E A s.heap (xw E ad F (ob, on, db2_10, dn2_11) S (made, all, wn, wb) P R) H locs := ct_again h hP1 rfl hS
                clear hP1 hS hz hk
                refine W.eq (g2 := F0 m 215 ls [.int (if (sayO ((cw (cols * r_ + c_)).1) (if nMk (cw (cols * r_ + c_)).1 ∨ ((ln c_) = 8 ∧ (cw (cols * r_ + c_)).2 = true) then 1 else 0)).length = 0 ∨ ((((hdrO nw cols ++ [10]) ++ bodyO cols cw ln r_) ++ rowO cols cw ln r_ c_) ++ comO c_).length + (sayO ((cw (cols * r_ + c_)).1) (if nMk (cw (cols * r_ + c_)).1 ∨ ((ln c_) = 8 ∧ (cw (cols * r_ + c_)).2 = true) then 1 else 0)).length ≤ 30000 then 1 else 0)]) rfl ?_
                refine b_if_eq (tgt := 226) hx hb dX2_write_215 (by decide) (fun cp5 => ?_) (fun cp5 => ?_)
                · rw [← hyn] at cp5
                  refine lv_iconst (v := nI 0) hx hb dX2_write_226 (by decide) ?_
                  refine lv_istore_n (lv' := [(3, .int (nI 0)), (6, .int (nI (cols * r_ + c_))), (5, .int (nI c_)), (4, .int (nI r_)), (0, .ref (ad 3)), (1, .ref (q 0)), (2, .ref (ad 18))]) hx hb dX2_write_227 rfl hl (by decide) rfl (fun ls hl => ?_)
                  refine n_iinc (n := 1) (lv' := [(5, .int (nI (c_ + 1))), (3, .int (nI 0)), (6, .int (nI (cols * r_ + c_))), (4, .int (nI r_)), (0, .ref (ad 3)), (1, .ref (q 0)), (2, .ref (ad 18))]) hx hb dX2_write_228 hl (k := 2) rfl rfl (by decide) (by decide) rfl (fun ls hl => ?_)
                  refine lv_goto (tgt := 134) hx hb dX2_write_231 (by decide) ?_
                  exact ih_5 ((c_ + 1), 0, (yn + (cellO (cw (cols * r_ + c_)) (ln c_)).length), db2_10, dn2_11) H locs ls (by dsimp only; omega) ⟨lv_sub hl [0, 3, 1, 4, 5, 6] rfl, h, by omega, by rw [hyn, show rowO cols cw ln r_ (c_ + 1) = rowO cols cw ln r_ c_ ++ (comO c_ ++ cellO (cw (cols * r_ + c_)) (ln c_)) from rfl, ← List.append_assoc, ← List.append_assoc, List.length_append (bs := cellO (cw (cols * r_ + c_)) (ln c_))], by rw [show rowO cols cw ln r_ (c_ + 1) = rowO cols cw ln r_ c_ ++ (comO c_ ++ cellO (cw (cols * r_ + c_)) (ln c_)) from rfl, ← List.append_assoc, ← List.append_assoc]; rw [cellO, if_neg cmis]; exact ho2, by rw [cellO, if_neg cmis]; omega⟩
                · rw [← hyn] at cp5
                  refine lv_iload_n hx hb dX2_write_218 rfl (lv_at hl 3 rfl) ?_
                  refine n_if_eq (tgt := 226) hx hb dX2_write_219 (by decide) (by omega) (fun cg5 => ?_) (fun cg5 => ?_)
                  · refine lv_iconst (v := nI 0) hx hb dX2_write_226 (by decide) ?_
                    refine lv_istore_n (lv' := [(3, .int (nI 0)), (6, .int (nI (cols * r_ + c_))), (5, .int (nI c_)), (4, .int (nI r_)), (0, .ref (ad 3)), (1, .ref (q 0)), (2, .ref (ad 18))]) hx hb dX2_write_227 rfl hl (by decide) rfl (fun ls hl => ?_)
                    refine n_iinc (n := 1) (lv' := [(5, .int (nI (c_ + 1))), (3, .int (nI 0)), (6, .int (nI (cols * r_ + c_))), (4, .int (nI r_)), (0, .ref (ad 3)), (1, .ref (q 0)), (2, .ref (ad 18))]) hx hb dX2_write_228 hl (k := 2) rfl rfl (by decide) (by decide) rfl (fun ls hl => ?_)
                    refine lv_goto (tgt := 134) hx hb dX2_write_231 (by decide) ?_
                    exact ih_5 ((c_ + 1), 0, (yn + (cellO (cw (cols * r_ + c_)) (ln c_)).length), db2_10, dn2_11) H locs ls (by dsimp only; omega) ⟨lv_sub hl [0, 3, 1, 4, 5, 6] rfl, h, by omega, by rw [hyn, show rowO cols cw ln r_ (c_ + 1) = rowO cols cw ln r_ c_ ++ (comO c_ ++ cellO (cw (cols * r_ + c_)) (ln c_)) from rfl, ← List.append_assoc, ← List.append_assoc, List.length_append (bs := cellO (cw (cols * r_ + c_)) (ln c_))], by rw [show rowO cols cw ln r_ (c_ + 1) = rowO cols cw ln r_ c_ ++ (comO c_ ++ cellO (cw (cols * r_ + c_)) (ln c_)) from rfl, ← List.append_assoc, ← List.append_assoc]; rw [cellO, if_neg cmis]; exact ho2, by rw [cellO, if_neg cmis]; omega⟩
                  · refine lv_iconst (v := nI 1) hx hb dX2_write_222 (by decide) ?_
                    refine lv_goto (tgt := 227) hx hb dX2_write_223 (by decide) ?_
                    refine lv_istore_n (lv' := [(3, .int (nI 1)), (6, .int (nI (cols * r_ + c_))), (5, .int (nI c_)), (4, .int (nI r_)), (0, .ref (ad 3)), (1, .ref (q 0)), (2, .ref (ad 18))]) hx hb dX2_write_227 rfl hl (by decide) rfl (fun ls hl => ?_)
                    refine n_iinc (n := 1) (lv' := [(5, .int (nI (c_ + 1))), (3, .int (nI 1)), (6, .int (nI (cols * r_ + c_))), (4, .int (nI r_)), (0, .ref (ad 3)), (1, .ref (q 0)), (2, .ref (ad 18))]) hx hb dX2_write_228 hl (k := 2) rfl rfl (by decide) (by decide) rfl (fun ls hl => ?_)
                    refine lv_goto (tgt := 134) hx hb dX2_write_231 (by decide) ?_
                    exact ih_5 ((c_ + 1), 1, (yn + (cellO (cw (cols * r_ + c_)) (ln c_)).length), db2_10, dn2_11) H locs ls (by dsimp only; omega) ⟨lv_sub hl [0, 3, 1, 4, 5, 6] rfl, h, by omega, by rw [hyn, show rowO cols cw ln r_ (c_ + 1) = rowO cols cw ln r_ c_ ++ (comO c_ ++ cellO (cw (cols * r_ + c_)) (ln c_)) from rfl, ← List.append_assoc, ← List.append_assoc, List.length_append (bs := cellO (cw (cols * r_ + c_)) (ln c_))], by rw [show rowO cols cw ln r_ (c_ + 1) = rowO cols cw ln r_ c_ ++ (comO c_ ++ cellO (cw (cols * r_ + c_)) (ln c_)) from rfl, ← List.append_assoc, ← List.append_assoc]; rw [cellO, if_neg cmis]; exact ho2, by rw [cellO, if_neg cmis]; omega⟩
            · refine lv_iload hx hb dX2_write_143 (lv_at hl 0 rfl) ?_
              refine n_if_le (tgt := 167) hx hb dX2_write_145 (by decide) (by omega) (fun cc1 => ?_) (fun cc1 => ?_)
              · exact hJ_9 (gf, pn, d1, n1) H locs ls ⟨lv_sub hl [0, 1, 2, 3, 4, 5] rfl, h, by rw [comO, if_neg (by omega), List.append_nil]; exact hpn, by rw [comO, if_neg (by omega), List.append_nil]; exact hor, by omega⟩
              · refine lv_aload_n hx hb dX2_write_148 rfl (lv_at hl 5 rfl) ?_
                refine lv_bipush (v := nI 44) hx hb dX2_write_149 (by decide) ?_
                refine ct_callQ (ct_runV (As := [.int (nI 44)]) (rest := []) B (met_X5_put l E ad F ob on d1 n1 S (made, all, wn, wb) P R 44 (((hdrO nw cols ++ [10]) ++ bodyO cols cw ln r_) ++ rowO cols cw ln r_ c_) H.size (by omega) hor) (lw_V q673 q674 q675 q53 q676) (n := 1) ⟨by decide, by decide, by decide +kernel⟩ rfl ⟨rfl, rfl, (Nat.le_of_ble_eq_true rfl), (Nat.le_of_ble_eq_true rfl), (Nat.le_of_ble_eq_true rfl), (Nat.le_of_ble_eq_true rfl)⟩ h.2.2 hA (ct_recv B h.1 kX5 18 rfl) ⟨h.1, (ct_D0 h hA)⟩ hl.1 (Nat.le_of_ble_eq_true rfl) dX2_write_151) h.2.2 (ct_sub h hAn) (ct_sub h hAn) (fun v H locs hv hz hk hS => ?_)
                obtain ⟨db2_12, dn2_13, rfl, hP1, ho1⟩ := hv
                have h : Hs E A s.heap (xw E ad F (ob, on, db2_12, dn2_13) S (made, all, wn, wb) P R) H locs := ct_again h hP1 rfl hS
                clear hP1 hS hz hk
                refine W.eq (g2 := F0 m 154 ls [.int (if (((hdrO nw cols ++ [10]) ++ bodyO cols cw ln r_) ++ rowO cols cw ln r_ c_).length < 30000 then 1 else 0)]) rfl ?_
                refine b_if_eq (tgt := 165) hx hb dX2_write_154 (by decide) (fun cp4 => ?_) (fun cp4 => ?_)
                · rw [← hpn] at cp4
                  refine lv_iconst (v := nI 0) hx hb dX2_write_165 (by decide) ?_
                  refine lv_istore_n (lv' := [(3, .int (nI 0)), (5, .int (nI c_)), (4, .int (nI r_)), (0, .ref (ad 3)), (1, .ref (q 0)), (2, .ref (ad 18))]) hx hb dX2_write_166 rfl hl (by decide) rfl (fun ls hl => ?_)
                  exact hJ_9 (0, (pn + 1), db2_12, dn2_13) H locs ls ⟨lv_sub hl [1, 2, 0, 3, 4, 5] rfl, h, by rw [comO, if_pos (by omega), List.length_append, ← hpn]; rfl, by rw [comO, if_pos (by omega)]; exact ho1, by omega⟩
                · rw [← hpn] at cp4
                  refine lv_iload_n hx hb dX2_write_157 rfl (lv_at hl 2 rfl) ?_
                  refine n_if_eq (tgt := 165) hx hb dX2_write_158 (by decide) (by omega) (fun cg4 => ?_) (fun cg4 => ?_)
                  · refine lv_iconst (v := nI 0) hx hb dX2_write_165 (by decide) ?_
                    refine lv_istore_n (lv' := [(3, .int (nI 0)), (5, .int (nI c_)), (4, .int (nI r_)), (0, .ref (ad 3)), (1, .ref (q 0)), (2, .ref (ad 18))]) hx hb dX2_write_166 rfl hl (by decide) rfl (fun ls hl => ?_)
                    exact hJ_9 (0, (pn + 1), db2_12, dn2_13) H locs ls ⟨lv_sub hl [1, 2, 0, 3, 4, 5] rfl, h, by rw [comO, if_pos (by omega), List.length_append, ← hpn]; rfl, by rw [comO, if_pos (by omega)]; exact ho1, by omega⟩
                  · refine lv_iconst (v := nI 1) hx hb dX2_write_161 (by decide) ?_
                    refine lv_goto (tgt := 166) hx hb dX2_write_162 (by decide) ?_
                    refine lv_istore_n (lv' := [(3, .int (nI 1)), (5, .int (nI c_)), (4, .int (nI r_)), (0, .ref (ad 3)), (1, .ref (q 0)), (2, .ref (ad 18))]) hx hb dX2_write_166 rfl hl (by decide) rfl (fun ls hl => ?_)
                    exact hJ_9 (1, (pn + 1), db2_12, dn2_13) H locs ls ⟨lv_sub hl [1, 2, 0, 3, 4, 5] rfl, h, by rw [comO, if_pos (by omega), List.length_append, ← hpn]; rfl, by rw [comO, if_pos (by omega)]; exact ho1, by omega⟩
    · rw [show c_ = cols by omega] at hon hor
      refine lv_aload_n hx hb dX2_write_96 rfl (lv_at hl 4 rfl) ?_
      refine lv_bipush (v := nI 10) hx hb dX2_write_97 (by decide) ?_
      refine ct_callQ (ct_runV (As := [.int (nI 10)]) (rest := []) B (met_X5_put l E ad F ob on d1 n1 S (made, all, wn, wb) P R 10 (hdrO nw cols) H.size (by omega) hor) (lw_V q673 q674 q675 q53 q676) (n := 1) ⟨by decide, by decide, by decide +kernel⟩ rfl ⟨rfl, rfl, (Nat.le_of_ble_eq_true rfl), (Nat.le_of_ble_eq_true rfl), (Nat.le_of_ble_eq_true rfl), (Nat.le_of_ble_eq_true rfl)⟩ h.2.2 hA (ct_recv B h.1 kX5 18 rfl) ⟨h.1, (ct_D0 h hA)⟩ hl.1 (Nat.le_of_ble_eq_true rfl) dX2_write_99) h.2.2 (ct_sub h hAn) (ct_sub h hAn) (fun v H locs hv hz hk hS => ?_)
      obtain ⟨db2_14, dn2_15, rfl, hP1, ho1⟩ := hv
      have h : Hs E A s.heap (xw E ad F (ob, on, db2_14, dn2_15) S (made, all, wn, wb) P R) H locs := ct_again h hP1 rfl hS
      clear hP1 hS hz hk
      refine W.eq (g2 := F0 m 102 ls [.int (if (hdrO nw cols).length < 30000 then 1 else 0)]) rfl ?_
      refine b_if_eq (tgt := 113) hx hb dX2_write_102 (by decide) (fun cp3 => ?_) (fun cp3 => ?_)
      · rw [← hon] at cp3
        refine lv_iconst (v := nI 0) hx hb dX2_write_113 (by decide) ?_
        refine lv_istore_n (lv' := [(3, .int (nI 0)), (4, .int (nI c_)), (0, .ref (ad 3)), (1, .ref (q 0)), (2, .ref (ad 18))]) hx hb dX2_write_114 rfl hl (by decide) rfl (fun ls hl => ?_)
        exact hJ_3 (0, (on_ + 1), db2_14, dn2_15) H locs ls ⟨lv_sub hl [1, 0, 2, 3, 4] rfl, h, by rw [List.length_append, ← hon]; rfl, ho1, by omega⟩
      · rw [← hon] at cp3
        refine lv_iload_n hx hb dX2_write_105 rfl (lv_at hl 1 rfl) ?_
        refine n_if_eq (tgt := 113) hx hb dX2_write_106 (by decide) (by omega) (fun cg3 => ?_) (fun cg3 => ?_)
        · refine lv_iconst (v := nI 0) hx hb dX2_write_113 (by decide) ?_
          refine lv_istore_n (lv' := [(3, .int (nI 0)), (4, .int (nI c_)), (0, .ref (ad 3)), (1, .ref (q 0)), (2, .ref (ad 18))]) hx hb dX2_write_114 rfl hl (by decide) rfl (fun ls hl => ?_)
          exact hJ_3 (0, (on_ + 1), db2_14, dn2_15) H locs ls ⟨lv_sub hl [1, 0, 2, 3, 4] rfl, h, by rw [List.length_append, ← hon]; rfl, ho1, by omega⟩
        · refine lv_iconst (v := nI 1) hx hb dX2_write_109 (by decide) ?_
          refine lv_goto (tgt := 114) hx hb dX2_write_110 (by decide) ?_
          refine lv_istore_n (lv' := [(3, .int (nI 1)), (4, .int (nI c_)), (0, .ref (ad 3)), (1, .ref (q 0)), (2, .ref (ad 18))]) hx hb dX2_write_114 rfl hl (by decide) rfl (fun ls hl => ?_)
          exact hJ_3 (1, (on_ + 1), db2_14, dn2_15) H locs ls ⟨lv_sub hl [1, 0, 2, 3, 4] rfl, h, by rw [List.length_append, ← hon]; rfl, ho1, by omega⟩
  · refine ct_joinH (σ := Nat × Nat × (Nat → Int32) × Nat) (P := fun (gf, yn, d1, n1) H locs ls => lv_has ls 7 [(4, .int (nI c_)), (3, .int (nI gf)), (0, .ref (ad 3)), (1, .ref (q 0)), (2, .ref (ad 18))] ∧ Hs E A s.heap (xw E ad F (ob, on, d1, n1) S (made, all, wn, wb) P R) H locs ∧ (yn = (hdrO nw c_ ++ comO c_).length) ∧ (outR d1 n1 (hdrO nw c_ ++ comO c_)) ∧ ((gf = 1 ∧ yn ≤ 30000) ∨ (gf = 0 ∧ 30000 < yn))) (g := fun (gf, yn, d1, n1) ls => F0 m 38 ls []) (c1 := 0) (s1 := 0) (fun x9 H locs ls hI => ?_) (fun hJ_16 => ?_)
    · obtain ⟨gf, yn, d1, n1⟩ := x9
      obtain ⟨hl, h, hyn, hor, hfl⟩ := hI
      refine W.eq (g2 := F0 m 38 ls []) rfl ?_
      obtain ⟨_, _, a_s, ha_s, hta, hal⟩ := hTDn c_ (by omega)
      refine lv_aload_n hx hb dX2_write_38 rfl (lv_at hl 3 rfl) ?_
      refine ct_get (v := .ref (q 2)) B (ct_keep hT0 hN0 h.2.2) kX9 0 rfl 3 (Nat.le_of_ble_eq_true rfl) q400 rfl dX2_write_39 ?_
      refine lv_iload hx hb dX2_write_42 (lv_at hl 0 rfl) ?_
      refine ct_bald (f := f 1) B (ct_keep hT0 hN0 h.2.2) 2 rfl (by omega) (by omega) dX2_write_44 ?_
      refine W.eq (g2 := F0 m 45 ls [.int (encL (nw c_))]) (by rw [(hTDn c_ (by omega)).1]) ?_
      refine lv_bipush (v := nI 63) hx hb dX2_write_45 (by decide) ?_
      refine lv_iand hx hb dX2_write_47 ?_
      refine W.eq (g2 := F0 m 48 ls [.int (nI ((nw c_).1.length))]) (by rw [(enc_63 (hTDn c_ (by omega)).2.1 (hnm c_ (by omega)))]) ?_
      refine lv_istore (lv' := [(5, .int (nI ((nw c_).1.length))), (4, .int (nI c_)), (3, .int (nI gf)), (0, .ref (ad 3)), (1, .ref (q 0)), (2, .ref (ad 18))]) hx hb dX2_write_48 hl (by decide) rfl (fun ls hl => ?_)
      refine lv_aload_n hx hb dX2_write_50 rfl (lv_at hl 3 rfl) ?_
      refine lv_aload_n hx hb dX2_write_51 rfl (lv_at hl 5 rfl) ?_
      refine lv_aload_n hx hb dX2_write_52 rfl (lv_at hl 4 rfl) ?_
      refine ct_get (v := .ref (q 1)) B (ct_keep hT0 hN0 h.2.2) kX9 0 rfl 2 (Nat.le_of_ble_eq_true rfl) q398 rfl dX2_write_53 ?_
      refine lv_iload hx hb dX2_write_56 (lv_at hl 1 rfl) ?_
      refine ct_iald (f := f 0) B (ct_keep hT0 hN0 h.2.2) 1 rfl (by omega) (by omega) dX2_write_58 ?_
      refine W.eq (g2 := F0 m 59 ls [.int (nI a_s), .ref (ad 18), .ref (ad 3)]) (by rw [ha_s]) ?_
      refine lv_iload hx hb dX2_write_59 (lv_at hl 0 rfl) ?_
      refine lv_aload_n hx hb dX2_write_61 rfl (lv_at hl 3 rfl) ?_
      refine lv_aload_n hx hb dX2_write_62 rfl (lv_at hl 4 rfl) ?_
      refine ct_get (v := .ref (q 1)) B (ct_keep hT0 hN0 h.2.2) kX9 0 rfl 2 (Nat.le_of_ble_eq_true rfl) q398 rfl dX2_write_63 ?_
      refine lv_iload hx hb dX2_write_66 (lv_at hl 1 rfl) ?_
      refine ct_iald (f := f 0) B (ct_keep hT0 hN0 h.2.2) 1 rfl (by omega) (by omega) dX2_write_68 ?_
      refine W.eq (g2 := F0 m 69 ls [.int (nI a_s), .ref (ad 3), .int (nI ((nw c_).1.length)), .int (nI a_s), .ref (ad 18), .ref (ad 3)]) (by rw [ha_s]) ?_
      refine lv_iload hx hb dX2_write_69 (lv_at hl 0 rfl) ?_
      refine ct_callR (ct_runV (As := [.int (nI a_s), .int (nI ((nw c_).1.length))]) (rest := [.int (nI ((nw c_).1.length)), .int (nI a_s), .ref (ad 18), .ref (ad 3)]) B (met_X2_needsMarks l E ad F (ob, on, d1, n1) S made all wn wb P R a_s ((nw c_).1) H.size hta) (lw_V q677 q679 qs23 q50 q680) (n := 2) ⟨by decide, by decide, by decide +kernel⟩ rfl ⟨rfl, rfl, (Nat.le_of_ble_eq_true rfl), (Nat.le_of_ble_eq_true rfl), (Nat.le_of_ble_eq_true rfl), (Nat.le_of_ble_eq_true rfl)⟩ h.2.2 hA (ct_recv B h.1 kX2 3 rfl) h.1 hl.1 (Nat.le_of_ble_eq_true rfl) dX2_write_71) (fun v hv => ?_)
      subst hv
      refine W.eq (g2 := F0 m 74 ls [.int (if nMk ((nw c_).1) then 1 else 0), .int (nI ((nw c_).1.length)), .int (nI a_s), .ref (ad 18), .ref (ad 3)]) rfl ?_
      refine ct_callQ (ct_runV (As := [.ref (ad 18), .int (nI a_s), .int (nI ((nw c_).1.length)), .int (if nMk ((nw c_).1) then 1 else 0)]) (rest := []) B (met_X2_say l E ad F ob on d1 n1 S made all wn wb P R a_s ((nw c_).1) (if nMk ((nw c_).1) then 1 else 0) (hdrO nw c_ ++ comO c_) H.size hta hor) (lw_V q681 q683 qs24 q50 q684) (n := 4) ⟨by decide, by decide, by decide +kernel⟩ rfl ⟨rfl, rfl, (Nat.le_of_ble_eq_true rfl), (Nat.le_of_ble_eq_true rfl), (Nat.le_of_ble_eq_true rfl), (Nat.le_of_ble_eq_true rfl)⟩ h.2.2 hA (ct_recv B h.1 kX2 3 rfl) ⟨h.1, (ct_D0 h hA)⟩ hl.1 (Nat.le_of_ble_eq_true rfl) dX2_write_74) h.2.2 (ct_sub h hAn) (ct_sub h hAn) (fun v H locs hv hz hk hS => ?_)
      obtain ⟨db2_17, dn2_18, rfl, hP1, ho2⟩ := hv
      have h : Hs E A s.heap (xw E ad F (ob, on, db2_17, dn2_18) S (made, all, wn, wb) P R) H locs := ct_again h hP1 rfl hS
      clear hP1 hS hz hk
      refine W.eq (g2 := F0 m 77 ls [.int (if (sayO ((nw c_).1) (if nMk ((nw c_).1) then 1 else 0)).length = 0 ∨ (hdrO nw c_ ++ comO c_).length + (sayO ((nw c_).1) (if nMk ((nw c_).1) then 1 else 0)).length ≤ 30000 then 1 else 0)]) rfl ?_
      refine b_if_eq (tgt := 88) hx hb dX2_write_77 (by decide) (fun cp2 => ?_) (fun cp2 => ?_)
      · rw [← hyn] at cp2
        refine lv_iconst (v := nI 0) hx hb dX2_write_88 (by decide) ?_
        refine lv_istore_n (lv' := [(3, .int (nI 0)), (5, .int (nI ((nw c_).1.length))), (4, .int (nI c_)), (0, .ref (ad 3)), (1, .ref (q 0)), (2, .ref (ad 18))]) hx hb dX2_write_89 rfl hl (by decide) rfl (fun ls hl => ?_)
        refine n_iinc (n := 1) (lv' := [(4, .int (nI (c_ + 1))), (3, .int (nI 0)), (5, .int (nI ((nw c_).1.length))), (0, .ref (ad 3)), (1, .ref (q 0)), (2, .ref (ad 18))]) hx hb dX2_write_90 hl (k := 2) rfl rfl (by decide) (by decide) rfl (fun ls hl => ?_)
        refine lv_goto (tgt := 5) hx hb dX2_write_93 (by decide) ?_
        exact ih_1 ((c_ + 1), 0, (yn + (nameO (nw c_)).length), db2_17, dn2_18) H locs ls (by dsimp only; omega) ⟨lv_sub hl [0, 1, 3, 4, 5] rfl, h, by omega, by rw [hyn, show hdrO nw (c_ + 1) = hdrO nw c_ ++ (comO c_ ++ nameO (nw c_)) from rfl, ← List.append_assoc, List.length_append (bs := nameO (nw c_))], by rw [show hdrO nw (c_ + 1) = hdrO nw c_ ++ (comO c_ ++ nameO (nw c_)) from rfl, ← List.append_assoc]; exact ho2, by unfold nameO; omega⟩
      · rw [← hyn] at cp2
        refine lv_iload_n hx hb dX2_write_80 rfl (lv_at hl 2 rfl) ?_
        refine n_if_eq (tgt := 88) hx hb dX2_write_81 (by decide) (by omega) (fun cg2 => ?_) (fun cg2 => ?_)
        · refine lv_iconst (v := nI 0) hx hb dX2_write_88 (by decide) ?_
          refine lv_istore_n (lv' := [(3, .int (nI 0)), (5, .int (nI ((nw c_).1.length))), (4, .int (nI c_)), (0, .ref (ad 3)), (1, .ref (q 0)), (2, .ref (ad 18))]) hx hb dX2_write_89 rfl hl (by decide) rfl (fun ls hl => ?_)
          refine n_iinc (n := 1) (lv' := [(4, .int (nI (c_ + 1))), (3, .int (nI 0)), (5, .int (nI ((nw c_).1.length))), (0, .ref (ad 3)), (1, .ref (q 0)), (2, .ref (ad 18))]) hx hb dX2_write_90 hl (k := 2) rfl rfl (by decide) (by decide) rfl (fun ls hl => ?_)
          refine lv_goto (tgt := 5) hx hb dX2_write_93 (by decide) ?_
          exact ih_1 ((c_ + 1), 0, (yn + (nameO (nw c_)).length), db2_17, dn2_18) H locs ls (by dsimp only; omega) ⟨lv_sub hl [0, 1, 3, 4, 5] rfl, h, by omega, by rw [hyn, show hdrO nw (c_ + 1) = hdrO nw c_ ++ (comO c_ ++ nameO (nw c_)) from rfl, ← List.append_assoc, List.length_append (bs := nameO (nw c_))], by rw [show hdrO nw (c_ + 1) = hdrO nw c_ ++ (comO c_ ++ nameO (nw c_)) from rfl, ← List.append_assoc]; exact ho2, by unfold nameO; omega⟩
        · refine lv_iconst (v := nI 1) hx hb dX2_write_84 (by decide) ?_
          refine lv_goto (tgt := 89) hx hb dX2_write_85 (by decide) ?_
          refine lv_istore_n (lv' := [(3, .int (nI 1)), (5, .int (nI ((nw c_).1.length))), (4, .int (nI c_)), (0, .ref (ad 3)), (1, .ref (q 0)), (2, .ref (ad 18))]) hx hb dX2_write_89 rfl hl (by decide) rfl (fun ls hl => ?_)
          refine n_iinc (n := 1) (lv' := [(4, .int (nI (c_ + 1))), (3, .int (nI 1)), (5, .int (nI ((nw c_).1.length))), (0, .ref (ad 3)), (1, .ref (q 0)), (2, .ref (ad 18))]) hx hb dX2_write_90 hl (k := 2) rfl rfl (by decide) (by decide) rfl (fun ls hl => ?_)
          refine lv_goto (tgt := 5) hx hb dX2_write_93 (by decide) ?_
          exact ih_1 ((c_ + 1), 1, (yn + (nameO (nw c_)).length), db2_17, dn2_18) H locs ls (by dsimp only; omega) ⟨lv_sub hl [0, 1, 3, 4, 5] rfl, h, by omega, by rw [hyn, show hdrO nw (c_ + 1) = hdrO nw c_ ++ (comO c_ ++ nameO (nw c_)) from rfl, ← List.append_assoc, List.length_append (bs := nameO (nw c_))], by rw [show hdrO nw (c_ + 1) = hdrO nw c_ ++ (comO c_ ++ nameO (nw c_)) from rfl, ← List.append_assoc]; exact ho2, by unfold nameO; omega⟩
    · refine lv_iload hx hb dX2_write_14 (lv_at hl 0 rfl) ?_
      refine n_if_le (tgt := 38) hx hb dX2_write_16 (by decide) (by omega) (fun cc0 => ?_) (fun cc0 => ?_)
      · exact hJ_16 (gf, on_, d1, n1) H locs ls ⟨lv_sub hl [0, 1, 2, 3, 4] rfl, h, by rw [comO, if_neg (by omega), List.append_nil]; exact hon, by rw [comO, if_neg (by omega), List.append_nil]; exact hor, by omega⟩
      · refine lv_aload_n hx hb dX2_write_19 rfl (lv_at hl 4 rfl) ?_
        refine lv_bipush (v := nI 44) hx hb dX2_write_20 (by decide) ?_
        refine ct_callQ (ct_runV (As := [.int (nI 44)]) (rest := []) B (met_X5_put l E ad F ob on d1 n1 S (made, all, wn, wb) P R 44 (hdrO nw c_) H.size (by omega) hor) (lw_V q673 q674 q675 q53 q676) (n := 1) ⟨by decide, by decide, by decide +kernel⟩ rfl ⟨rfl, rfl, (Nat.le_of_ble_eq_true rfl), (Nat.le_of_ble_eq_true rfl), (Nat.le_of_ble_eq_true rfl), (Nat.le_of_ble_eq_true rfl)⟩ h.2.2 hA (ct_recv B h.1 kX5 18 rfl) ⟨h.1, (ct_D0 h hA)⟩ hl.1 (Nat.le_of_ble_eq_true rfl) dX2_write_22) h.2.2 (ct_sub h hAn) (ct_sub h hAn) (fun v H locs hv hz hk hS => ?_)
        obtain ⟨db2_19, dn2_20, rfl, hP1, ho1⟩ := hv
        have h : Hs E A s.heap (xw E ad F (ob, on, db2_19, dn2_20) S (made, all, wn, wb) P R) H locs := ct_again h hP1 rfl hS
        clear hP1 hS hz hk
        refine W.eq (g2 := F0 m 25 ls [.int (if (hdrO nw c_).length < 30000 then 1 else 0)]) rfl ?_
        refine b_if_eq (tgt := 36) hx hb dX2_write_25 (by decide) (fun cp1 => ?_) (fun cp1 => ?_)
        · rw [← hon] at cp1
          refine lv_iconst (v := nI 0) hx hb dX2_write_36 (by decide) ?_
          refine lv_istore_n (lv' := [(3, .int (nI 0)), (4, .int (nI c_)), (0, .ref (ad 3)), (1, .ref (q 0)), (2, .ref (ad 18))]) hx hb dX2_write_37 rfl hl (by decide) rfl (fun ls hl => ?_)
          exact hJ_16 (0, (on_ + 1), db2_19, dn2_20) H locs ls ⟨lv_sub hl [1, 0, 2, 3, 4] rfl, h, by rw [comO, if_pos (by omega), List.length_append, ← hon]; rfl, by rw [comO, if_pos (by omega)]; exact ho1, by omega⟩
        · rw [← hon] at cp1
          refine lv_iload_n hx hb dX2_write_28 rfl (lv_at hl 1 rfl) ?_
          refine n_if_eq (tgt := 36) hx hb dX2_write_29 (by decide) (by omega) (fun cg1 => ?_) (fun cg1 => ?_)
          · refine lv_iconst (v := nI 0) hx hb dX2_write_36 (by decide) ?_
            refine lv_istore_n (lv' := [(3, .int (nI 0)), (4, .int (nI c_)), (0, .ref (ad 3)), (1, .ref (q 0)), (2, .ref (ad 18))]) hx hb dX2_write_37 rfl hl (by decide) rfl (fun ls hl => ?_)
            exact hJ_16 (0, (on_ + 1), db2_19, dn2_20) H locs ls ⟨lv_sub hl [1, 0, 2, 3, 4] rfl, h, by rw [comO, if_pos (by omega), List.length_append, ← hon]; rfl, by rw [comO, if_pos (by omega)]; exact ho1, by omega⟩
          · refine lv_iconst (v := nI 1) hx hb dX2_write_32 (by decide) ?_
            refine lv_goto (tgt := 37) hx hb dX2_write_33 (by decide) ?_
            refine lv_istore_n (lv' := [(3, .int (nI 1)), (4, .int (nI c_)), (0, .ref (ad 3)), (1, .ref (q 0)), (2, .ref (ad 18))]) hx hb dX2_write_37 rfl hl (by decide) rfl (fun ls hl => ?_)
            exact hJ_16 (1, (on_ + 1), db2_19, dn2_20) H locs ls ⟨lv_sub hl [1, 0, 2, 3, 4] rfl, h, by rw [comO, if_pos (by omega), List.length_append, ← hon]; rfl, by rw [comO, if_pos (by omega)]; exact ho1, by omega⟩
