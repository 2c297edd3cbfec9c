set_option maxHeartbeats 4000000 in
set_option maxRecDepth 100000 in
theorem met_X4_sort (l : Launch) (E : CE) (ad : Nat → Nat) (F : XF) (O : XO) (S : XS) (T : XT) (P : XP) (places : Nat → Int32) (other : Nat → Int32) (row : Option Nat) (lane : Int32) (fall : Int32) (ranks : Nat → Int64) (n : Nat) (sz : Nat) (hn : n ≤ 500) : Met l yX4_sort (ws_ yX4_sort cX4_sort 7 none) { frames := 5, cells := 0, slots := 0, locals := 126 } (ctP E [.ref (ad 10), .ref (ad 13), .int (nI n), .int (nI 5), .int (nI 0)] sz (fun H => va_P E.1 ct_cl (xw E ad F O S T P (places, other, row, lane, fall, ranks)) H ∧ va_D (fun q => E.2.2.1 ≤ q) (xw E ad F O S T P (places, other, row, lane, fall, ranks)))) (ctQ (fun v H => ∃ p2 : Nat → Int32, ∃ o2 : Nat → Int32, ∃ pl2 : Nat → Nat, v = none ∧ va_P E.1 ct_cl (xw E ad F O S T P (p2, o2, (some (ad 13)), (nI 5), (nI 0), ranks)) H ∧ (∀ j, j < n → p2 j = nI (pl2 j)) ∧ (∀ j, j < n → pl2 j < n) ∧ inj pl2 0 n ∧ srt ranks pl2 0 n) (va_A (xw E ad F O S T P (places, other, row, lane, fall, ranks)) sz)) 0 0 (va_A (xw E ad F O S T P (places, other, row, lane, fall, ranks)) sz) := by
  refine ct_start (by decide) (Nat.le_of_ble_eq_true rfl) ?_
  intro p e s m below meth c ls B hsz hH hl
  obtain ⟨hP, hD⟩ := hH
  obtain ⟨A, hAe, h, hA, hAn⟩ := ct_enter B.2.2.2.2.2.2.2.2 hsz hP hD
  rw [hAe]
  refine ct_gen h (fun H locs h => ?_)
  have hx := B.1
  have hb := B.2.1
  have hl : lv_has ls 7 [(0, .ref (ad 10)), (1, .ref (ad 13)), (2, .int (nI n)), (3, .int (nI 5)), (4, .int (nI 0))] := hl
  refine lv_aload_n hx hb dX4_sort_0 rfl (lv_at hl 0 rfl) ?_
  refine lv_aload_n hx hb dX4_sort_1 rfl (lv_at hl 1 rfl) ?_
  refine ct_put (ws' := xw E ad F O S T P (places, other, (some (ad 13)), lane, fall, ranks)) B h kX4 10 rfl 2 (Nat.le_of_ble_eq_true rfl) q200 rfl rfl rfl (Nat.le_of_ble_eq_true rfl) rfl dX4_sort_2 (fun H locs h => ?_)
  refine lv_aload_n hx hb dX4_sort_5 rfl (lv_at hl 0 rfl) ?_
  refine lv_iload_n hx hb dX4_sort_6 rfl (lv_at hl 3 rfl) ?_
  refine ct_put (ws' := xw E ad F O S T P (places, other, (some (ad 13)), (nI 5), fall, ranks)) B h kX4 10 rfl 3 (Nat.le_of_ble_eq_true rfl) q201 rfl rfl rfl (Nat.le_of_ble_eq_true rfl) rfl dX4_sort_7 (fun H locs h => ?_)
  refine lv_aload_n hx hb dX4_sort_10 rfl (lv_at hl 0 rfl) ?_
  refine lv_iload hx hb dX4_sort_11 (lv_at hl 4 rfl) ?_
  refine ct_put (ws' := xw E ad F O S T P (places, other, (some (ad 13)), (nI 5), (nI 0), ranks)) B h kX4 10 rfl 4 (Nat.le_of_ble_eq_true rfl) q202 rfl rfl rfl (Nat.le_of_ble_eq_true rfl) rfl dX4_sort_13 (fun H locs h => ?_)
  refine lv_iconst (v := nI 0) hx hb dX4_sort_16 (by decide) ?_
  refine lv_istore (lv' := [(5, .int (nI 0)), (0, .ref (ad 10)), (1, .ref (ad 13)), (2, .int (nI n)), (3, .int (nI 5)), (4, .int (nI 0))]) hx hb dX4_sort_17 hl (by decide) rfl (fun ls hl => ?_)
  refine ct_loopH (σ := Nat × (Nat → Int32)) (fun (k, plf) H locs ls => lv_has ls 7 [(5, .int (nI k)), (0, .ref (ad 10)), (1, .ref (ad 13)), (2, .int (nI n)), (3, .int (nI 5)), (4, .int (nI 0))] ∧ Hs E A s.heap (xw E ad F O S T P (plf, other, (some (ad 13)), (nI 5), (nI 0), ranks)) H locs ∧ (k ≤ n) ∧ (∀ j, j < k → plf j = nI j)) (fun (k, plf) => n - k) (fun _ => 0) (fun _ => 0) (g := fun (k, plf) ls => F0 m 19 ls []) (x0 := (0, places)) (ls0 := ls) ?_ ⟨lv_sub hl [0, 1, 2, 3, 4, 5] rfl, h, Nat.zero_le _, fun j hj => absurd hj (Nat.not_lt_zero j)⟩
  clear hl h
  intro x9 H locs ls hI ih_1
  obtain ⟨k, plf⟩ := x9
  obtain ⟨hl, h, hk, hp⟩ := hI
  refine W.eq (g2 := F0 m 19 ls []) rfl ?_
  refine lv_iload hx hb dX4_sort_19 (lv_at hl 0 rfl) ?_
  refine lv_iload_n hx hb dX4_sort_21 rfl (lv_at hl 3 rfl) ?_
  refine n_icmp_ge (tgt := 40) hx hb dX4_sort_22 (by decide) (by omega) (by omega) (fun c_2 => ?_) (fun c_2 => ?_)
  · refine lv_iconst (v := nI 1) hx hb dX4_sort_40 (by decide) ?_
    refine lv_istore (lv' := [(5, .int (nI 1)), (0, .ref (ad 10)), (1, .ref (ad 13)), (2, .int (nI n)), (3, .int (nI 5)), (4, .int (nI 0))]) hx hb dX4_sort_41 hl (by decide) rfl (fun ls hl => ?_)
    refine ct_loopH (σ := Nat × (Nat → Int32) × (Nat → Int32) × (Nat → Nat)) (fun (y, pf, of, pl) H locs ls => lv_has ls 7 [(5, .int (nI y)), (0, .ref (ad 10)), (1, .ref (ad 13)), (2, .int (nI n)), (3, .int (nI 5)), (4, .int (nI 0))] ∧ Hs E A s.heap (xw E ad F O S T P (pf, of, (some (ad 13)), (nI 5), (nI 0), ranks)) H locs ∧ (0 < y) ∧ (y ≤ 1000) ∧ (∀ j, j < n → pf j = nI (pl j)) ∧ (∀ j, j < n → pl j < n) ∧ (inj pl 0 n) ∧ (blk ranks pl y n)) (fun (y, pf, of, pl) => n - y) (fun _ => 0) (fun _ => 0) (g := fun (y, pf, of, pl) ls => F0 m 43 ls []) (x0 := (1, plf, other, (fun j => j))) (ls0 := ls) ?_ ⟨lv_sub hl [0, 1, 2, 3, 4, 5] rfl, h, by omega, by omega, fun j hj => hp j (by omega), fun j hj => hj, fun i j _ _ _ _ e => e, blk_1⟩
    clear hl h
    intro x9 H locs ls hI ih_3
    obtain ⟨y, pf, of, pl⟩ := x9
    obtain ⟨hl, h, hy0, hy1, hpl, hr, hi, hbk⟩ := hI
    refine W.eq (g2 := F0 m 43 ls []) rfl ?_
    refine lv_iload hx hb dX4_sort_43 (lv_at hl 0 rfl) ?_
    refine lv_iload_n hx hb dX4_sort_45 rfl (lv_at hl 3 rfl) ?_
    refine n_icmp_ge (tgt := 134) hx hb dX4_sort_46 (by decide) (by omega) (by omega) (fun c_4 => ?_) (fun c_4 => ?_)
    · exact ct_vret B h.2.2 ⟨pf, of, pl, rfl, h.1, hpl, hr, hi, blk_end hbk (by omega)⟩ dX4_sort_134
    · refine lv_iconst (v := nI 0) hx hb dX4_sort_49 (by decide) ?_
      refine lv_istore (lv' := [(6, .int (nI 0)), (5, .int (nI y)), (0, .ref (ad 10)), (1, .ref (ad 13)), (2, .int (nI n)), (3, .int (nI 5)), (4, .int (nI 0))]) hx hb dX4_sort_50 hl (by decide) rfl (fun ls hl => ?_)
      refine ct_loopH (σ := Nat × (Nat → Int32) × (Nat → Nat)) (fun (fr, og, ol) H locs ls => lv_has ls 7 [(6, .int (nI fr)), (5, .int (nI y)), (0, .ref (ad 10)), (1, .ref (ad 13)), (2, .int (nI n)), (3, .int (nI 5)), (4, .int (nI 0))] ∧ Hs E A s.heap (xw E ad F O S T P (pf, og, (some (ad 13)), (nI 5), (nI 0), ranks)) H locs ∧ (fr ≤ n + 1999) ∧ (∃ q, fr = q * (2 * y)) ∧ (∀ j, j < min fr n → og j = nI (ol j)) ∧ (SB ranks pl ol (2 * y) (min fr n) n)) (fun (fr, og, ol) => n + 2000 - fr) (fun _ => 0) (fun _ => 0) (g := fun (fr, og, ol) ls => F0 m 52 ls []) (x0 := (0, of, pl)) (ls0 := ls) ?_ ⟨lv_sub hl [0, 1, 2, 3, 4, 5, 6] rfl, h, by omega, ⟨0, by omega⟩, fun j hj => by omega, (by rw [Nat.min_eq_left (Nat.zero_le n)]; exact SB_0)⟩
      clear hl h
      intro x9 H locs ls hI ih_5
      obtain ⟨fr, og, ol⟩ := x9
      obtain ⟨hl, h, hfr, hq, ho, hsb⟩ := hI
      refine W.eq (g2 := F0 m 52 ls []) rfl ?_
      refine lv_iload hx hb dX4_sort_52 (lv_at hl 0 rfl) ?_
      refine lv_iload_n hx hb dX4_sort_54 rfl (lv_at hl 4 rfl) ?_
      refine n_icmp_ge (tgt := 96) hx hb dX4_sort_55 (by decide) (by omega) (by omega) (fun c_6 => ?_) (fun c_6 => ?_)
      · refine lv_iconst (v := nI 0) hx hb dX4_sort_96 (by decide) ?_
        refine lv_istore (lv' := [(6, .int (nI 0)), (5, .int (nI y)), (0, .ref (ad 10)), (1, .ref (ad 13)), (2, .int (nI n)), (3, .int (nI 5)), (4, .int (nI 0))]) hx hb dX4_sort_97 hl (by decide) rfl (fun ls hl => ?_)
        refine ct_loopH (σ := Nat × (Nat → Int32)) (fun (k, pg) H locs ls => lv_has ls 7 [(6, .int (nI k)), (5, .int (nI y)), (0, .ref (ad 10)), (1, .ref (ad 13)), (2, .int (nI n)), (3, .int (nI 5)), (4, .int (nI 0))] ∧ Hs E A s.heap (xw E ad F O S T P (pg, og, (some (ad 13)), (nI 5), (nI 0), ranks)) H locs ∧ (k ≤ n) ∧ (∀ j, j < k → pg j = og j)) (fun (k, pg) => n - k) (fun _ => 0) (fun _ => 0) (g := fun (k, pg) ls => F0 m 99 ls []) (x0 := (0, pf)) (ls0 := ls) ?_ ⟨lv_sub hl [0, 1, 2, 3, 4, 5, 6] rfl, h, Nat.zero_le _, fun j hj => absurd hj (Nat.not_lt_zero j)⟩
        clear hl h
        intro x9 H locs ls hI ih_7
        obtain ⟨k, pg⟩ := x9
        obtain ⟨hl, h, hk, h4⟩ := hI
        refine W.eq (g2 := F0 m 99 ls []) rfl ?_
        refine lv_iload hx hb dX4_sort_99 (lv_at hl 0 rfl) ?_
        refine lv_iload_n hx hb dX4_sort_101 rfl (lv_at hl 4 rfl) ?_
        refine n_icmp_ge (tgt := 125) hx hb dX4_sort_102 (by decide) (by omega) (by omega) (fun c_8 => ?_) (fun c_8 => ?_)
        · refine lv_iload hx hb dX4_sort_125 (lv_at hl 1 rfl) ?_
          refine lv_iconst (v := nI 2) hx hb dX4_sort_127 (by decide) ?_
          refine n_imul hx hb dX4_sort_128 ?_
          refine lv_istore (lv' := [(5, .int (nI (y * 2))), (6, .int (nI k)), (0, .ref (ad 10)), (1, .ref (ad 13)), (2, .int (nI n)), (3, .int (nI 5)), (4, .int (nI 0))]) hx hb dX4_sort_129 hl (by decide) rfl (fun ls hl => ?_)
          refine lv_goto (tgt := 43) hx hb dX4_sort_131 (by decide) ?_
          exact ih_3 ((y * 2), pg, og, ol) H locs ls (by dsimp only; omega) ⟨lv_sub hl [0, 2, 3, 4, 5, 6] rfl, h, by omega, by omega, fun j hj => (h4 j (by omega)).trans (ho j (by omega)), (SB_end hsb (by omega) hr).1, (SB_end hsb (by omega) hr).2.1, (by rw [Nat.mul_comm]; exact (SB_end hsb (by omega) hr).2.2)⟩
        · refine lv_aload_n hx hb dX4_sort_105 rfl (lv_at hl 2 rfl) ?_
          refine ct_get (v := .ref (ad 11)) B h.1 kX4 10 rfl 0 (Nat.le_of_ble_eq_true rfl) q198 rfl dX4_sort_106 ?_
          refine lv_iload hx hb dX4_sort_109 (lv_at hl 0 rfl) ?_
          refine lv_aload_n hx hb dX4_sort_111 rfl (lv_at hl 2 rfl) ?_
          refine ct_get (v := .ref (ad 12)) B h.1 kX4 10 rfl 1 (Nat.le_of_ble_eq_true rfl) q199 rfl dX4_sort_112 ?_
          refine lv_iload hx hb dX4_sort_115 (lv_at hl 0 rfl) ?_
          refine ct_iald (f := og) B h.1 12 rfl (by omega) (by omega) dX4_sort_117 ?_
          refine ct_iast (ws' := xw E ad F O S T P ((upd pg k (og k)), og, (some (ad 13)), (nI 5), (nI 0), ranks)) B h 11 rfl (by omega) (by omega) rfl dX4_sort_118 (fun H locs h => ?_)
          refine n_iinc (n := 1) (lv' := [(6, .int (nI (k + 1))), (5, .int (nI y)), (0, .ref (ad 10)), (1, .ref (ad 13)), (2, .int (nI n)), (3, .int (nI 5)), (4, .int (nI 0))]) hx hb dX4_sort_119 hl (k := 0) rfl rfl (by decide) (by decide) rfl (fun ls hl => ?_)
          refine lv_goto (tgt := 99) hx hb dX4_sort_122 (by decide) ?_
          exact ih_7 ((k + 1), (upd pg k (og k))) H locs ls (by dsimp only; omega) ⟨lv_sub hl [0, 1, 2, 3, 4, 5, 6] rfl, h, by omega, fun j hj => by by_cases q : j = k; rw [q, upd_s]; rw [upd_n q]; exact h4 j (by omega)⟩
      · refine lv_aload_n hx hb dX4_sort_58 rfl (lv_at hl 2 rfl) ?_
        refine lv_iload hx hb dX4_sort_59 (lv_at hl 0 rfl) ?_
        refine lv_iload hx hb dX4_sort_61 (lv_at hl 0 rfl) ?_
        refine lv_iload hx hb dX4_sort_63 (lv_at hl 1 rfl) ?_
        refine n_iadd hx hb dX4_sort_65 ?_
        refine lv_iload_n hx hb dX4_sort_66 rfl (lv_at hl 4 rfl) ?_
        refine n_min B q599 q590 q70 q591 hl.1 (Nat.le_of_ble_eq_true rfl) (Nat.le_of_ble_eq_true rfl) (Nat.le_of_ble_eq_true rfl) (Nat.le_of_ble_eq_true rfl) (by omega) (by omega) dX4_sort_67 ?_
        refine W.eq (g2 := F0 m 70 ls [.int (nI (min (fr + y) n)), .int (nI fr), .ref (ad 10)]) rfl ?_
        refine lv_iload hx hb dX4_sort_70 (lv_at hl 0 rfl) ?_
        refine lv_iconst (v := nI 2) hx hb dX4_sort_72 (by decide) ?_
        refine lv_iload hx hb dX4_sort_73 (lv_at hl 1 rfl) ?_
        refine n_imul hx hb dX4_sort_75 ?_
        refine n_iadd hx hb dX4_sort_76 ?_
        refine lv_iload_n hx hb dX4_sort_77 rfl (lv_at hl 4 rfl) ?_
        refine n_min B q599 q590 q70 q591 hl.1 (Nat.le_of_ble_eq_true rfl) (Nat.le_of_ble_eq_true rfl) (Nat.le_of_ble_eq_true rfl) (Nat.le_of_ble_eq_true rfl) (by omega) (by omega) dX4_sort_78 ?_
        refine W.eq (g2 := F0 m 81 ls [.int (nI (min (fr + (2 * y)) n)), .int (nI (min (fr + y) n)), .int (nI fr), .ref (ad 10)]) rfl ?_
        refine ct_callQ (ct_runV (As := [.int (nI fr), .int (nI (min (fr + y) n)), .int (nI (min (fr + (2 * y)) n))]) (rest := []) B (met_X4_join l E ad F O S T P pf og ranks fr (min (fr + y) n) (min (fr + (2 * y)) n) n pl H.size (by omega) (by omega) (by omega) hn (fun j _ h9 => hpl j (by omega)) (fun j _ h9 => hr j (by omega)) (inj_sub hi (by omega)) (blk_s1 hbk hy0 hq) (blk_s2 hbk hy0 hq)) (lw_V q600 q602 qs21 q52 q603) (n := 3) ⟨by decide, by decide, by decide +kernel⟩ rfl ⟨rfl, rfl, (Nat.le_of_ble_eq_true rfl), (Nat.le_of_ble_eq_true rfl), (Nat.le_of_ble_eq_true rfl), (Nat.le_of_ble_eq_true rfl)⟩ h.2.2 hA (ct_recv B h.1 kX4 10 rfl) ⟨h.1, (ct_D0 h hA)⟩ hl.1 (Nat.le_of_ble_eq_true rfl) dX4_sort_81) h.2.2 (ct_sub h hAn) (ct_sub h hAn) (fun v H locs hv hz hk hS => ?_)
        obtain ⟨oth2, ol2, rfl, hP1, hj, hj1, hj2⟩ := hv
        have h : Hs E A s.heap (xw E ad F O S T P (pf, oth2, (some (ad 13)), (nI 5), (nI 0), ranks)) H locs := ct_again h hP1 rfl hS
        clear hP1 hS hz hk
        refine W.eq (g2 := F0 m 84 ls []) rfl ?_
        refine lv_iload hx hb dX4_sort_84 (lv_at hl 0 rfl) ?_
        refine lv_iconst (v := nI 2) hx hb dX4_sort_86 (by decide) ?_
        refine lv_iload hx hb dX4_sort_87 (lv_at hl 1 rfl) ?_
        refine n_imul hx hb dX4_sort_89 ?_
        refine n_iadd hx hb dX4_sort_90 ?_
        refine lv_istore (lv' := [(6, .int (nI (fr + (2 * y)))), (5, .int (nI y)), (0, .ref (ad 10)), (1, .ref (ad 13)), (2, .int (nI n)), (3, .int (nI 5)), (4, .int (nI 0))]) hx hb dX4_sort_91 hl (by decide) rfl (fun ls hl => ?_)
        refine lv_goto (tgt := 52) hx hb dX4_sort_93 (by decide) ?_
        exact ih_5 ((fr + (2 * y)), oth2, (glue ol ol2 fr (min (fr + 2 * y) n))) H locs ls (by dsimp only; omega) ⟨lv_sub hl [0, 1, 2, 3, 4, 5, 6] rfl, h, by omega, (by obtain ⟨q, hq⟩ := hq; exact ⟨q + 1, by rw [Nat.add_mul, Nat.one_mul, ← hq]⟩), (fun j hj => by by_cases q : fr ≤ j ∧ j < min (fr + 2 * y) n; rw [glue_in q]; exact hj1 j q.1 q.2; rw [glue_out q, hj2 j q]; exact ho j (by omega)), (SB_step (by rw [Nat.min_eq_left (by omega)] at hsb; exact hsb) (by omega) hq (by omega) hi hj)⟩
  · refine lv_aload_n hx hb dX4_sort_25 rfl (lv_at hl 1 rfl) ?_
    refine ct_get (v := .ref (ad 11)) B h.1 kX4 10 rfl 0 (Nat.le_of_ble_eq_true rfl) q198 rfl dX4_sort_26 ?_
    refine lv_iload hx hb dX4_sort_29 (lv_at hl 0 rfl) ?_
    refine lv_iload hx hb dX4_sort_31 (lv_at hl 0 rfl) ?_
    refine ct_iast (ws' := xw E ad F O S T P ((upd plf k (nI k)), other, (some (ad 13)), (nI 5), (nI 0), ranks)) B h 11 rfl (by omega) (by omega) rfl dX4_sort_33 (fun H locs h => ?_)
    refine n_iinc (n := 1) (lv' := [(5, .int (nI (k + 1))), (0, .ref (ad 10)), (1, .ref (ad 13)), (2, .int (nI n)), (3, .int (nI 5)), (4, .int (nI 0))]) hx hb dX4_sort_34 hl (k := 0) rfl rfl (by decide) (by decide) rfl (fun ls hl => ?_)
    refine lv_goto (tgt := 19) hx hb dX4_sort_37 (by decide) ?_
    exact ih_1 ((k + 1), (upd plf k (nI k))) H locs ls (by dsimp only; omega) ⟨lv_sub hl [0, 1, 2, 3, 4, 5] rfl, h, by omega, fun j hj => by by_cases q : j = k; rw [q, upd_s]; rw [upd_n q]; exact hp j (by omega)⟩
