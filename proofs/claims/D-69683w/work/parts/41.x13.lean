set_option maxHeartbeats 4000000 in
set_option maxRecDepth 100000 in
theorem met_X2_pick (l : Launch) (E : CE) (ad : Nat → Nat) (tray : Nat → Int32) (trayed : Nat) (fed : Nat) (place : Int32) (picked : Nat → Int64) (pcnt : Nat) (column : Nat → Int64) (O : XO) (code : Int32) (splace : Int32) (made : Nat) (all : Nat → Option Nat) (wn : Nat) (wb : Nat → Int32) (P : XP) (R : XR) (n : Nat) (qs : Nat → Nat) (sc sr : Nat) (fs : Nat → Nat → Int32) (nw cw : Nat → Wd) (pk : Nat → Nat) (sz : Nat) (hn9 : n ≤ 499) (hcs : 1 ≤ sc ∧ sc ≤ 16) (hsr : sr ≤ 499) (hm : made ≤ 40) (hwn : wn ≤ 65536) (hnm : ∀ c, c < sc → ¬ missW (nw c)) (hTDn : TD wb wn sc (fs 0) (fs 1) nw) (hTDc : TD wb wn (sc * sr) (fs 2) (fs 3) cw) (hpk : ∀ j, j < n → picked j = lN (pk j) ∧ pk j < sr) : MetX l yX2_pick (ws_ yX2_pick cX2_pick 9 (some .int)) { frames := 11, cells := 6, slots := 7 + (3 * sc + 2 * (sc * n)), locals := 261 } (ctP E [.ref (ad 3), .ref (qs 0), .ref (ad 14), .int (nI n)] sz (fun H => va_P E.1 ct_cl (xw E ad (tray, trayed, fed, place, picked, pcnt, column) O (code, splace) (made, all, wn, wb) P R) H ∧ va_D (fun q => E.2.2.1 ≤ q) (xw E ad (tray, trayed, fed, place, picked, pcnt, column) O (code, splace) (made, all, wn, wb) P R) ∧ va_P E.1 ct_cl (tw E qs sc sr fs) H ∧ apT ad qs)) (ctX (fun v H => ∃ q2 : Nat → Nat, ∃ f2 : Nat → Nat → Int32, ∃ wb2 : Nat → Int32, v = some (.int (nI (made + 1))) ∧ va_P E.1 ct_cl (xw E ad (tray, trayed, fed, place, picked, pcnt, column) O (code, splace) (made + 1, va_up all (made + 1) (some (q2 0)), wn + (sumN (lenW nw) sc + sumN (lenW (pickW sc pk cw)) (sc * n)), wb2) P R) H ∧ (made < 40 ∧ wn + (sumN (lenW nw) sc + sumN (lenW (pickW sc pk cw)) (sc * n)) ≤ 65536) ∧ va_P E.1 ct_cl (tw E q2 sc n f2) H ∧ (∀ j, j < 6 → sz ≤ q2 j) ∧ keepT wb wn wb2 ∧ TD wb2 (wn + (sumN (lenW nw) sc + sumN (lenW (pickW sc pk cw)) (sc * n))) sc (f2 0) (f2 1) nw ∧ TD wb2 (wn + (sumN (lenW nw) sc + sumN (lenW (pickW sc pk cw)) (sc * n))) (sc * n) (f2 2) (f2 3) (pickW sc pk cw) ∧ (∀ j, j < sc → f2 4 j = nI (laneT sc n (pickW sc pk cw) j))) (fun x H => x = ad 20 ∧ va_P E.1 ct_cl (xw E ad (tray, trayed, fed, place, picked, pcnt, column) O ((nI 12), (-1)) (made, all, wn, wb) P R) H ∧ (made = 40 ∨ 65536 < wn + (sumN (lenW nw) sc + sumN (lenW (pickW sc pk cw)) (sc * n)))) (va_A (xw E ad (tray, trayed, fed, place, picked, pcnt, column) O (code, splace) (made, all, wn, wb) P R) sz)) 6 (7 + (3 * sc + 2 * (sc * n))) (va_A (xw E ad (tray, trayed, fed, place, picked, pcnt, column) O (code, splace) (made, all, wn, wb) P R) sz) := by
  refine ct_startX (by decide) (Nat.le_of_ble_eq_true rfl) ?_
  intro p e s m below meth c ls B hno hsz hH hl
  obtain ⟨hP, hD, hT0, hq0⟩ := hH
  obtain ⟨A, hAe, h, hA, hAn⟩ := ct_enter B.2.2.2.2.2.2.2.2 hsz hP hD
  have hN0 := apT_N hT0 hsz hq0 (hAe := hAe)
  rw [hAe]
  refine ct_gen h (fun H locs h => ?_)
  have hx := B.1
  have hb := B.2.1
  have hl : lv_has ls 9 [(0, .ref (ad 3)), (1, .ref (qs 0)), (2, .ref (ad 14)), (3, .int (nI n))] := hl
  have hmul := mul_cs hcs.2 hn9
  have hmul2 := mul_cs hcs.2 hsr
  refine lv_iconst (v := nI 0) hx hb dX2_pick_0 (by decide) ?_
  refine lv_istore (lv' := [(4, .int (nI 0)), (0, .ref (ad 3)), (1, .ref (qs 0)), (2, .ref (ad 14)), (3, .int (nI n))]) hx hb dX2_pick_1 hl (by decide) rfl (fun ls hl => ?_)
  refine lv_iconst (v := nI 0) hx hb dX2_pick_3 (by decide) ?_
  refine lv_istore (lv' := [(5, .int (nI 0)), (4, .int (nI 0)), (0, .ref (ad 3)), (1, .ref (qs 0)), (2, .ref (ad 14)), (3, .int (nI n))]) hx hb dX2_pick_4 hl (by decide) rfl (fun ls hl => ?_)
  refine ct_loop (σ := Nat × Nat) (fun (c_, nd) ls => lv_has ls 9 [(5, .int (nI c_)), (4, .int (nI nd)), (0, .ref (ad 3)), (1, .ref (qs 0)), (2, .ref (ad 14)), (3, .int (nI n))] ∧ (c_ ≤ sc) ∧ (nd = sumN (lenW nw) c_)) (fun (c_, nd) => sc - c_) (g := fun (c_, nd) ls => F0 m 6 ls []) (x0 := (0, 0)) (ls0 := ls) ?_ ⟨lv_sub hl [0, 1, 2, 3, 4, 5] rfl, Nat.zero_le _, rfl⟩
  clear hl
  intro x9 ls hI ih_1
  obtain ⟨c_, nd⟩ := x9
  obtain ⟨hl, hc_, hnd⟩ := hI
  refine W.eq (g2 := F0 m 6 ls []) rfl ?_
  refine lv_iload hx hb dX2_pick_6 (lv_at hl 0 rfl) ?_
  refine lv_aload_n hx hb dX2_pick_8 rfl (lv_at hl 3 rfl) ?_
  refine ct_get (v := .int (nI sc)) B (ct_keep hT0 hN0 h.2.2) kX9 0 rfl 0 (Nat.le_of_ble_eq_true rfl) q393 rfl dX2_pick_9 ?_
  refine n_icmp_ge (tgt := 36) hx hb dX2_pick_12 (by decide) (by omega) (by omega) (fun c_2 => ?_) (fun c_2 => ?_)
  · refine lv_iconst (v := nI 0) hx hb dX2_pick_36 (by decide) ?_
    refine lv_istore (lv' := [(5, .int (nI 0)), (4, .int (nI nd)), (0, .ref (ad 3)), (1, .ref (qs 0)), (2, .ref (ad 14)), (3, .int (nI n))]) hx hb dX2_pick_37 hl (by decide) rfl (fun ls hl => ?_)
    refine ct_loop (σ := Nat × Nat) (fun (r_, nd) ls => lv_has ls 9 [(5, .int (nI r_)), (4, .int (nI nd)), (0, .ref (ad 3)), (1, .ref (qs 0)), (2, .ref (ad 14)), (3, .int (nI n))] ∧ (r_ ≤ n) ∧ (nd = sumN (lenW nw) sc + sumN (lenW (pickW sc pk cw)) (sc * r_))) (fun (r_, nd) => n - r_) (g := fun (r_, nd) ls => F0 m 39 ls []) (x0 := (0, nd)) (ls0 := ls) ?_ ⟨lv_sub hl [0, 1, 2, 3, 4, 5] rfl, Nat.zero_le _, by rw [hnd, Nat.mul_zero, sumN_0, show c_ = sc by omega]; rfl⟩
    clear hl
    intro x9 ls hI ih_3
    obtain ⟨r_, nd⟩ := x9
    obtain ⟨hl, hr_, hnd⟩ := hI
    refine W.eq (g2 := F0 m 39 ls []) rfl ?_
    refine lv_iload hx hb dX2_pick_39 (lv_at hl 0 rfl) ?_
    refine lv_iload_n hx hb dX2_pick_41 rfl (lv_at hl 5 rfl) ?_
    refine n_icmp_ge (tgt := 91) hx hb dX2_pick_42 (by decide) (by omega) (by omega) (fun c_4 => ?_) (fun c_4 => ?_)
    · rw [show r_ = n by omega] at hnd
      have hb1 := sumN_le (f := lenW nw) (B := 40) sc (fun k hk => (hTDn k hk).2.1)
      have hb2 := sumN_le (f := lenW (pickW sc pk cw)) (B := 40) (sc * n) (fun k hk => by obtain ⟨_, h2, h3, h4⟩ := pick_in hk; unfold lenW; rw [h4, pick_at h3]; exact (hTDc _ (ix_lt h3 (hpk _ h2).2)).2.1)
      refine lv_aload_n hx hb dX2_pick_91 rfl (lv_at hl 2 rfl) ?_
      refine ct_get (v := .int (nI made)) B h.1 kX2 3 rfl 3 (Nat.le_of_ble_eq_true rfl) q218 rfl dX2_pick_92 ?_
      refine lv_bipush (v := nI 40) hx hb dX2_pick_95 (by decide) ?_
      refine n_icmp_eq (tgt := 119) hx hb dX2_pick_97 (by decide) (by omega) (by omega) (fun c40 => ?_) (fun c40 => ?_)
      · refine lv_aload_n hx hb dX2_pick_119 rfl (lv_at hl 2 rfl) ?_
        refine ct_get (v := .ref (ad 2)) B h.1 kX2 3 rfl 0 (Nat.le_of_ble_eq_true rfl) q215 rfl dX2_pick_120 ?_
        refine lv_bipush (v := nI 12) hx hb dX2_pick_123 (by decide) ?_
        refine ct_callQ (ct_runV (As := [.int (nI 12)]) (rest := []) B (met_X1_with l E ad (tray, trayed, fed, place, picked, pcnt, column) O code splace (made, all, wn, wb) P R (nI 12) H.size) (lw_V q381 q382 q383 q45 q384) (n := 1) ⟨by decide, by decide, by decide +kernel⟩ rfl ⟨rfl, rfl, (Nat.le_of_ble_eq_true rfl), (Nat.le_of_ble_eq_true rfl), (by dsimp only; omega), (by dsimp only; omega)⟩ h.2.2 hA (ct_recv B h.1 kX1 2 rfl) ⟨h.1, (ct_D0 h hA)⟩ hl.1 (Nat.le_of_ble_eq_true rfl) dX2_pick_125) h.2.2 (ct_sub h hAn) (ct_sub h hAn) (fun v H locs hv hz hk hS => ?_)
        obtain ⟨rfl, hP1⟩ := hv
        have h : Hs E A s.heap (xw E ad (tray, trayed, fed, place, picked, pcnt, column) O ((nI 12), (-1)) (made, all, wn, wb) P R) H locs := ct_again h hP1 rfl hS
        clear hP1 hS hz hk
        refine W.eq (g2 := F0 m 128 ls [.ref (ad 20)]) rfl ?_
        refine W.widen (k := 6) (n := 7 + (3 * sc + 2 * (sc * n))) (by omega) (by omega) ?_
        exact ct_athrow B hno h.2.2 ⟨rfl, h.1, by omega⟩ dX2_pick_128
      · refine lv_iload_n hx hb dX2_pick_100 rfl (lv_at hl 5 rfl) ?_
        refine lv_sipush (v := nI 500) hx hb dX2_pick_101 (by decide) ?_
        refine n_icmp_ge (tgt := 119) hx hb dX2_pick_104 (by decide) (by omega) (by omega) (fun c_5 => absurd c_5 (by omega)) (fun c_5 => ?_)
        refine lv_aload_n hx hb dX2_pick_107 rfl (lv_at hl 2 rfl) ?_
        refine ct_get (v := .ref (ad 4)) B h.1 kX2 3 rfl 1 (Nat.le_of_ble_eq_true rfl) q216 rfl dX2_pick_108 ?_
        refine lv_iload hx hb dX2_pick_111 (lv_at hl 1 rfl) ?_
        refine ct_callR (ct_runV (As := [.int (nI nd)]) (rest := []) B (met_X3_hasRoom l E ad (tray, trayed, fed, place, picked, pcnt, column) O (code, splace) made all wn wb P R nd H.size (by omega) hwn) (lw_V q377 q378 q379 q51 q380) (n := 1) ⟨by decide, by decide, by decide +kernel⟩ rfl ⟨rfl, rfl, (Nat.le_of_ble_eq_true rfl), (Nat.le_of_ble_eq_true rfl), (by dsimp only; omega), (by dsimp only; omega)⟩ h.2.2 hA (ct_recv B h.1 kX3 4 rfl) h.1 hl.1 (Nat.le_of_ble_eq_true rfl) dX2_pick_113) (fun v hv => ?_)
        subst hv
        refine W.eq (g2 := F0 m 116 ls [.int (if wn + nd ≤ 65536 then 1 else 0)]) rfl ?_
        refine b_if_ne (tgt := 129) hx hb dX2_pick_116 (by decide) (fun croom => ?_) (fun croom => ?_)
        · rw [hnd] at croom
          refine ct_new (fs := [.int 0, .int 0, .null, .null, .null, .null, .null]) B h hAn kX9 q190 q386 q57 (by intro j9 hj9; rcases j9 with _ | _ | _ | _ | _ | _ | _ | j9 <;> first | rfl | omega) (by dsimp only; omega) (by dsimp only; omega) dX2_pick_129 (fun tn H h htn => ?_)
          refine lv_dup hx hb dX2_pick_132 rfl ?_
          refine lv_aload_n hx hb dX2_pick_133 rfl (lv_at hl 3 rfl) ?_
          refine ct_get (v := .int (nI sc)) B (ct_keep hT0 hN0 h.2.2) kX9 0 rfl 0 (Nat.le_of_ble_eq_true rfl) q393 rfl dX2_pick_134 ?_
          refine lv_iload_n hx hb dX2_pick_137 rfl (lv_at hl 5 rfl) ?_
          refine ct_callQ (ct_runI (b := tn) (As := [.int (nI sc), .int (nI n)]) (rest := [.ref tn]) B (met_X9_init l E tn sc n H.size (by omega) (by omega)) q389 q57 q387 q388 rfl (n := 2) ⟨by decide, by decide, by decide +kernel⟩ rfl ⟨rfl, rfl, (Nat.le_of_ble_eq_true rfl), (Nat.le_of_ble_eq_true rfl), (by dsimp only; omega), (by dsimp only; omega)⟩ h.2.2 hA ⟨ct_Pr h.1, ct_Dr (ct_D0 h hA)⟩ hl.1 (Nat.le_of_ble_eq_true rfl) dX2_pick_138) h.2.2 (ct_subR h hAn) (ct_subR h hAn) (fun v H locs hv hz hk hS => ?_)
          obtain ⟨rfl, q, hq0, hP1, hD1⟩ := hv
          have hqf := twm_fresh h.2.2.1 htn hD1
          have h : Hs E A s.heap (xw E ad (tray, trayed, fed, place, picked, pcnt, column) O (code, splace) (made, all, wn, wb) P R ++ twm E q sc n (fun _ => 0) (fun _ => 0) (fun _ => 0) (fun _ => 0) (fun _ => 0)) H locs := ct_frR h hP1 hD1 hk hS hAn
          clear hP1 hS hz hk hD1
          refine W.eq (g2 := F0 m 141 ls [.ref (q 0)]) (by rw [hq0] <;> rfl) ?_
          refine lv_astore (lv' := [(5, .ref (q 0)), (4, .int (nI nd)), (0, .ref (ad 3)), (1, .ref (qs 0)), (2, .ref (ad 14)), (3, .int (nI n))]) hx hb dX2_pick_141 hl (by decide) rfl (fun ls hl => ?_)
          refine W.widen (k := 6) (n := 7 + (3 * sc + 2 * (sc * n))) (by omega) (by omega) ?_
          refine lv_iconst (v := nI 0) hx hb dX2_pick_143 (by decide) ?_
          refine lv_istore (lv' := [(6, .int (nI 0)), (5, .ref (q 0)), (4, .int (nI nd)), (0, .ref (ad 3)), (1, .ref (qs 0)), (2, .ref (ad 14)), (3, .int (nI n))]) hx hb dX2_pick_144 hl (by decide) rfl (fun ls hl => ?_)
          refine ct_loopH (σ := Nat × (Nat → Int32) × Nat × (Nat → Int32) × (Nat → Int32)) (fun (c_, W1, wv, g0, g1) H locs ls => lv_has ls 9 [(6, .int (nI c_)), (5, .ref (q 0)), (4, .int (nI nd)), (0, .ref (ad 3)), (1, .ref (qs 0)), (2, .ref (ad 14)), (3, .int (nI n))] ∧ Hs E A s.heap (xw E ad (tray, trayed, fed, place, picked, pcnt, column) O (code, splace) (made, all, wv, W1) P R ++ twm E q sc n g0 g1 (fun _ => 0) (fun _ => 0) (fun _ => 0)) H locs ∧ (c_ ≤ sc) ∧ (keepT wb wn W1) ∧ (wv = wn + sumN (lenW nw) c_) ∧ (TD W1 wv c_ g0 g1 nw)) (fun (c_, W1, wv, g0, g1) => sc - c_) (fun _ => 6) (fun _ => 7 + (3 * sc + 2 * (sc * n))) (g := fun (c_, W1, wv, g0, g1) ls => F0 m 146 ls []) (x0 := (0, wb, wn, (fun _ => 0), (fun _ => 0))) (ls0 := ls) ?_ ⟨lv_sub hl [0, 1, 2, 3, 4, 5, 6] rfl, h, Nat.zero_le _, keepT_rf, rfl, TD_0⟩
          clear hl h
          intro x9 H locs ls hI ih_6
          obtain ⟨c_, W1, wv, g0, g1⟩ := x9
          obtain ⟨hl, h, hc_, hkp, hwv, hTn⟩ := hI
          refine W.eq (g2 := F0 m 146 ls []) rfl ?_
          refine lv_iload hx hb dX2_pick_146 (lv_at hl 0 rfl) ?_
          refine lv_aload_n hx hb dX2_pick_148 rfl (lv_at hl 4 rfl) ?_
          refine ct_get (v := .int (nI sc)) B (ct_keep hT0 hN0 h.2.2) kX9 0 rfl 0 (Nat.le_of_ble_eq_true rfl) q393 rfl dX2_pick_149 ?_
          refine n_icmp_ge (tgt := 215) hx hb dX2_pick_152 (by decide) (by omega) (by omega) (fun c_7 => ?_) (fun c_7 => ?_)
          · refine lv_iconst (v := nI 0) hx hb dX2_pick_215 (by decide) ?_
            refine lv_istore (lv' := [(6, .int (nI 0)), (5, .ref (q 0)), (4, .int (nI nd)), (0, .ref (ad 3)), (1, .ref (qs 0)), (2, .ref (ad 14)), (3, .int (nI n))]) hx hb dX2_pick_216 hl (by decide) rfl (fun ls hl => ?_)
            refine ct_loopH (σ := Nat × (Nat → Int32) × Nat × (Nat → Int32) × (Nat → Int32)) (fun (r_, W1, wv, g2, g3) H locs ls => lv_has ls 9 [(6, .int (nI r_)), (5, .ref (q 0)), (4, .int (nI nd)), (0, .ref (ad 3)), (1, .ref (qs 0)), (2, .ref (ad 14)), (3, .int (nI n))] ∧ Hs E A s.heap (xw E ad (tray, trayed, fed, place, picked, pcnt, column) O (code, splace) (made, all, wv, W1) P R ++ twm E q sc n g0 g1 g2 g3 (fun _ => 0)) H locs ∧ (r_ ≤ n) ∧ (keepT wb wn W1) ∧ (TD W1 wv sc g0 g1 nw) ∧ (wv = wn + (sumN (lenW nw) sc + sumN (lenW (pickW sc pk cw)) (sc * r_))) ∧ (TD W1 wv (sc * r_) g2 g3 (pickW sc pk cw))) (fun (r_, W1, wv, g2, g3) => n - r_) (fun _ => 6) (fun _ => 7 + (3 * sc + 2 * (sc * n))) (g := fun (r_, W1, wv, g2, g3) ls => F0 m 218 ls []) (x0 := (0, W1, wv, (fun _ => 0), (fun _ => 0))) (ls0 := ls) ?_ ⟨lv_sub hl [0, 1, 2, 3, 4, 5, 6] rfl, h, Nat.zero_le _, hkp, by rw [show sc = c_ by omega]; exact hTn, by rw [hwv, Nat.mul_zero, sumN_0, show c_ = sc by omega]; rfl, by rw [Nat.mul_zero]; exact TD_0⟩
            clear hl h
            intro x9 H locs ls hI ih_8
            obtain ⟨r_, W1, wv, g2, g3⟩ := x9
            obtain ⟨hl, h, hr_, hkp, hTn, hwv, hTc⟩ := hI
            refine W.eq (g2 := F0 m 218 ls []) rfl ?_
            refine lv_iload hx hb dX2_pick_218 (lv_at hl 0 rfl) ?_
            refine lv_iload_n hx hb dX2_pick_220 rfl (lv_at hl 6 rfl) ?_
            refine n_icmp_ge (tgt := 329) hx hb dX2_pick_221 (by decide) (by omega) (by omega) (fun c_9 => ?_) (fun c_9 => ?_)
            · rw [show r_ = n by omega] at hwv hTc
              rw [hwv] at h hTn hTc
              refine lv_aload_n hx hb dX2_pick_329 rfl (lv_at hl 3 rfl) ?_
              refine lv_aload hx hb dX2_pick_330 (lv_at hl 1 rfl) ?_
              refine ct_callQ (ct_runV (As := [.ref (q 0)]) (rest := []) B (met_X2_finish l E ad q sc n (tray, trayed, fed, place, picked, pcnt, column) O (code, splace) made all (wn + (sumN (lenW nw) sc + sumN (lenW (pickW sc pk cw)) (sc * n))) W1 P R g0 g1 g2 g3 (fun _ => 0) (pickW sc pk cw) H.size (by omega) (by omega) (by omega) hcs.2 hTc) (lw_V q428 q430 qs12 q50 q431) (n := 1) ⟨by decide, by decide, by decide +kernel⟩ rfl ⟨rfl, rfl, (Nat.le_of_ble_eq_true rfl), (Nat.le_of_ble_eq_true rfl), (by dsimp only; omega), (by dsimp only; omega)⟩ h.2.2 hA (ct_recv B h.1 kX2 3 rfl) ⟨h.1, (ct_D0 h hA)⟩ hl.1 (Nat.le_of_ble_eq_true rfl) dX2_pick_332) h.2.2 (ct_sub h hAn) (ct_sub h hAn) (fun v H locs hv hz hk hS => ?_)
              obtain ⟨ln_m, rfl, hP1, hlm⟩ := hv
              have h : Hs E A s.heap (xw E ad (tray, trayed, fed, place, picked, pcnt, column) O (code, splace) (made + 1, va_up all (made + 1) (some (q 0)), (wn + (sumN (lenW nw) sc + sumN (lenW (pickW sc pk cw)) (sc * n))), W1) P R ++ twm E q sc n g0 g1 g2 g3 ln_m) H locs := ct_again h hP1 rfl hS
              clear hP1 hS hz hk
              refine W.eq (g2 := F0 m 335 ls [.int (nI (made + 1))]) rfl ?_
              refine W.widen (k := 6) (n := 7 + (3 * sc + 2 * (sc * n))) (by omega) (by omega) ?_
              exact ct_toX (ct_iret (ty := .int) (v := (nI (made + 1))) B rfl rfl h.2.2 ⟨q, (tf g0 g1 g2 g3 ln_m), W1, rfl, (ct_Pl h.1), ⟨by omega, croom⟩, ct_Pr h.1, (by rw [← hsz]; exact hqf), hkp, hTn, hTc, hlm⟩ dX2_pick_335)
            · refine lv_iconst (v := nI 0) hx hb dX2_pick_224 (by decide) ?_
              refine lv_istore (lv' := [(7, .int (nI 0)), (6, .int (nI r_)), (5, .ref (q 0)), (4, .int (nI nd)), (0, .ref (ad 3)), (1, .ref (qs 0)), (2, .ref (ad 14)), (3, .int (nI n))]) hx hb dX2_pick_225 hl (by decide) rfl (fun ls hl => ?_)
              refine ct_loopH (σ := Nat × (Nat → Int32) × Nat × (Nat → Int32) × (Nat → Int32)) (fun (c_, W1, wv, g2, g3) H locs ls => lv_has ls 9 [(7, .int (nI c_)), (6, .int (nI r_)), (5, .ref (q 0)), (4, .int (nI nd)), (0, .ref (ad 3)), (1, .ref (qs 0)), (2, .ref (ad 14)), (3, .int (nI n))] ∧ Hs E A s.heap (xw E ad (tray, trayed, fed, place, picked, pcnt, column) O (code, splace) (made, all, wv, W1) P R ++ twm E q sc n g0 g1 g2 g3 (fun _ => 0)) H locs ∧ (c_ ≤ sc) ∧ (keepT wb wn W1) ∧ (TD W1 wv sc g0 g1 nw) ∧ (wv = wn + (sumN (lenW nw) sc + sumN (lenW (pickW sc pk cw)) (sc * r_ + c_))) ∧ (TD W1 wv (sc * r_ + c_) g2 g3 (pickW sc pk cw))) (fun (c_, W1, wv, g2, g3) => sc - c_) (fun _ => 6) (fun _ => 7 + (3 * sc + 2 * (sc * n))) (g := fun (c_, W1, wv, g2, g3) ls => F0 m 227 ls []) (x0 := (0, W1, wv, g2, g3)) (ls0 := ls) ?_ ⟨lv_sub hl [0, 1, 2, 3, 4, 5, 6, 7] rfl, h, Nat.zero_le _, hkp, hTn, hwv, hTc⟩
              clear hl h
              intro x9 H locs ls hI ih_10
              obtain ⟨c_, W1, wv, g2, g3⟩ := x9
              obtain ⟨hl, h, hc_, hkp, hTn, hwv, hTc⟩ := hI
              refine W.eq (g2 := F0 m 227 ls []) rfl ?_
              refine lv_iload hx hb dX2_pick_227 (lv_at hl 0 rfl) ?_
              refine lv_aload_n hx hb dX2_pick_229 rfl (lv_at hl 5 rfl) ?_
              refine ct_get (v := .int (nI sc)) B (ct_keep hT0 hN0 h.2.2) kX9 0 rfl 0 (Nat.le_of_ble_eq_true rfl) q393 rfl dX2_pick_230 ?_
              refine n_icmp_ge (tgt := 323) hx hb dX2_pick_233 (by decide) (by omega) (by omega) (fun c_11 => ?_) (fun c_11 => ?_)
              · refine n_iinc (n := 1) (lv' := [(6, .int (nI (r_ + 1))), (7, .int (nI c_)), (5, .ref (q 0)), (4, .int (nI nd)), (0, .ref (ad 3)), (1, .ref (qs 0)), (2, .ref (ad 14)), (3, .int (nI n))]) hx hb dX2_pick_323 hl (k := 1) rfl rfl (by decide) (by decide) rfl (fun ls hl => ?_)
                refine lv_goto (tgt := 218) hx hb dX2_pick_326 (by decide) ?_
                exact ih_8 ((r_ + 1), W1, wv, g2, g3) H locs ls (by dsimp only; omega) ⟨lv_sub hl [0, 2, 3, 4, 5, 6, 7] rfl, h, by omega, hkp, hTn, by rw [Nat.mul_succ, hwv, show c_ = sc by omega], by rw [Nat.mul_succ]; rw [show c_ = sc by omega] at hTc; exact hTc⟩
              · have hix := ix_lt (show c_ < sc by omega) (hpk r_ (by omega)).2
                have hpa := pick_at (show c_ < sc by omega) pk cw (r := r_)
                have hid := ix_lt (show c_ < sc by omega) (show r_ < n by omega)
                obtain ⟨_, _, a_s, ha_s, hta0, hal⟩ := hTDc _ hix
                have hta := hkp _ _ hta0 hal
                have hmn := sumN_mono (f := lenW (pickW sc pk cw)) (show sc * r_ + c_ + 1 ≤ sc * n by omega)
                rw [sumN_S] at hmn
                have e8 : lenW (pickW sc pk cw) (sc * r_ + c_) = (cw (sc * pk r_ + c_)).1.length := by unfold lenW; rw [hpa]
                have hfitc : wv + (cw (sc * pk r_ + c_)).1.length ≤ 65536 := by omega
                refine lv_aload_n hx hb dX2_pick_236 rfl (lv_at hl 5 rfl) ?_
                refine ct_get (v := .int (nI sc)) B (ct_keep hT0 hN0 h.2.2) kX9 0 rfl 0 (Nat.le_of_ble_eq_true rfl) q393 rfl dX2_pick_237 ?_
                refine lv_aload_n hx hb dX2_pick_240 rfl (lv_at hl 6 rfl) ?_
                refine lv_iload hx hb dX2_pick_241 (lv_at hl 1 rfl) ?_
                refine ct_lald (f := picked) B h.1 14 rfl (by omega) (by omega) dX2_pick_243 ?_
                refine W.eq (g2 := F0 m 244 ls [.long (lN (pk r_)), .int (nI sc)]) (by rw [(hpk r_ (by omega)).1]) ?_
                refine lv_l2i (v := (nI (pk r_))) hx hb dX2_pick_244 (lN_i _) ?_
                refine n_imul hx hb dX2_pick_245 ?_
                refine lv_iload hx hb dX2_pick_246 (lv_at hl 0 rfl) ?_
                refine n_iadd hx hb dX2_pick_248 ?_
                refine lv_istore (lv' := [(8, .int (nI (sc * (pk r_) + c_))), (7, .int (nI c_)), (6, .int (nI r_)), (5, .ref (q 0)), (4, .int (nI nd)), (0, .ref (ad 3)), (1, .ref (qs 0)), (2, .ref (ad 14)), (3, .int (nI n))]) hx hb dX2_pick_249 hl (by decide) rfl (fun ls hl => ?_)
                refine lv_aload hx hb dX2_pick_251 (lv_at hl 3 rfl) ?_
                refine ct_get (v := .ref (q 3)) B h.1 kX9 20 rfl 4 (Nat.le_of_ble_eq_true rfl) q402 rfl dX2_pick_253 ?_
                refine lv_aload_n hx hb dX2_pick_256 rfl (lv_at hl 6 rfl) ?_
                refine ct_get (v := .int (nI sc)) B (ct_keep hT0 hN0 h.2.2) kX9 0 rfl 0 (Nat.le_of_ble_eq_true rfl) q393 rfl dX2_pick_257 ?_
                refine lv_iload hx hb dX2_pick_260 (lv_at hl 2 rfl) ?_
                refine n_imul hx hb dX2_pick_262 ?_
                refine lv_iload hx hb dX2_pick_263 (lv_at hl 1 rfl) ?_
                refine n_iadd hx hb dX2_pick_265 ?_
                refine lv_aload_n hx hb dX2_pick_266 rfl (lv_at hl 5 rfl) ?_
                refine ct_get (v := .ref (ad 4)) B h.1 kX2 3 rfl 1 (Nat.le_of_ble_eq_true rfl) q216 rfl dX2_pick_267 ?_
                refine lv_aload_n hx hb dX2_pick_270 rfl (lv_at hl 5 rfl) ?_
                refine ct_get (v := .ref (ad 4)) B h.1 kX2 3 rfl 1 (Nat.le_of_ble_eq_true rfl) q216 rfl dX2_pick_271 ?_
                refine ct_getN (v := .ref (ad 5)) B h.1 kX3 4 rfl 0 (Nat.le_of_ble_eq_true rfl) ct_nw_0 rfl dX2_pick_274 ?_
                refine lv_aload_n hx hb dX2_pick_277 rfl (lv_at hl 6 rfl) ?_
                refine ct_get (v := .ref (qs 3)) B (ct_keep hT0 hN0 h.2.2) kX9 0 rfl 4 (Nat.le_of_ble_eq_true rfl) q402 rfl dX2_pick_278 ?_
                refine lv_iload hx hb dX2_pick_281 (lv_at hl 0 rfl) ?_
                refine ct_iald (f := fs 2) B (ct_keep hT0 hN0 h.2.2) 3 rfl (by omega) (by omega) dX2_pick_283 ?_
                refine W.eq (g2 := F0 m 284 ls [.int (nI a_s), .ref (ad 5), .ref (ad 4), .int (nI (sc * r_ + c_)), .ref (q 3)]) (by rw [ha_s]) ?_
                refine lv_aload_n hx hb dX2_pick_284 rfl (lv_at hl 6 rfl) ?_
                refine lv_iload hx hb dX2_pick_285 (lv_at hl 0 rfl) ?_
                refine ct_callR (ct_runV (As := [.int (nI (sc * (pk r_) + c_))]) (rest := [.int (nI a_s), .ref (ad 5), .ref (ad 4), .int (nI (sc * r_ + c_)), .ref (q 3)]) B (met_X9_length l E  qs sc sr (sc * (pk r_) + c_) fs (cw (sc * pk r_ + c_)) H.size hix (by omega) (hTDc _ hix).1 (hTDc _ hix).2.1) (lw_V q452 q453 q454 q57 q455) (n := 1) ⟨by decide, by decide, by decide +kernel⟩ rfl ⟨rfl, rfl, (Nat.le_of_ble_eq_true rfl), (Nat.le_of_ble_eq_true rfl), (by dsimp only; omega), (by dsimp only; omega)⟩ h.2.2 hA (ct_recv B (ct_keep hT0 hN0 h.2.2) kX9 0 rfl) (ct_keep hT0 hN0 h.2.2) hl.1 (Nat.le_of_ble_eq_true rfl) dX2_pick_287) (fun v hv => ?_)
                subst hv
                refine W.eq (g2 := F0 m 290 ls [.int (nI ((cw (sc * pk r_ + c_)).1.length)), .int (nI a_s), .ref (ad 5), .ref (ad 4), .int (nI (sc * r_ + c_)), .ref (q 3)]) rfl ?_
                refine ct_callQ (ct_runV (As := [.ref (ad 5), .int (nI a_s), .int (nI ((cw (sc * pk r_ + c_)).1.length))]) (rest := [.int (nI (sc * r_ + c_)), .ref (q 3)]) B (met_X3_addNW l E ad (tray, trayed, fed, place, picked, pcnt, column) O (code, splace) made all wv W1 P.1 P.2.1 P.2.2.1 P.2.2.2.1 P.2.2.2.2.1 P.2.2.2.2.2.1 P.2.2.2.2.2.2.1 P.2.2.2.2.2.2.2.1 P.2.2.2.2.2.2.2.2 R a_s ((cw (sc * pk r_ + c_)).1.length) H.size (tAt_nar hta) hfitc (by omega)) (lw_V q424 q425 q426 q51 q427) (n := 3) ⟨by decide, by decide, by decide +kernel⟩ rfl ⟨rfl, rfl, (Nat.le_of_ble_eq_true rfl), (Nat.le_of_ble_eq_true rfl), (by dsimp only; omega), (by dsimp only; omega)⟩ h.2.2 hA (ct_recv B h.1 kX3 4 rfl) ⟨(ct_Pl h.1), (ct_Dl (ct_D0 h hA))⟩ hl.1 (Nat.le_of_ble_eq_true rfl) dX2_pick_290) h.2.2 (ct_subL h hAn) (ct_subL h hAn) (fun v H locs hv hz hk hS => ?_)
                obtain ⟨rfl, hP1⟩ := hv
                have h : Hs E A s.heap (xw E ad (tray, trayed, fed, place, picked, pcnt, column) O (code, splace) (made, all, wv + ((cw (sc * pk r_ + c_)).1.length), va_cpy W1 W1 a_s wv ((cw (sc * pk r_ + c_)).1.length)) P R ++ twm E q sc n g0 g1 g2 g3 (fun _ => 0)) H locs := ct_frLs h hP1 rfl hk hS hAn
                clear hP1 hS hz hk
                refine W.eq (g2 := F0 m 293 ls [.int (nI wv), .int (nI (sc * r_ + c_)), .ref (q 3)]) rfl ?_
                refine ct_iast (ws' := xw E ad (tray, trayed, fed, place, picked, pcnt, column) O (code, splace) (made, all, wv + ((cw (sc * pk r_ + c_)).1.length), (va_cpy W1 W1 a_s wv ((cw (sc * pk r_ + c_)).1.length))) P R ++ twm E q sc n g0 g1 (upd g2 (sc * r_ + c_) (nI wv)) g3 (fun _ => 0)) B h 23 rfl (by omega) (by omega) rfl dX2_pick_293 (fun H locs h => ?_)
                refine lv_aload hx hb dX2_pick_294 (lv_at hl 3 rfl) ?_
                refine ct_get (v := .ref (q 4)) B h.1 kX9 20 rfl 5 (Nat.le_of_ble_eq_true rfl) q405 rfl dX2_pick_296 ?_
                refine lv_aload_n hx hb dX2_pick_299 rfl (lv_at hl 6 rfl) ?_
                refine ct_get (v := .int (nI sc)) B (ct_keep hT0 hN0 h.2.2) kX9 0 rfl 0 (Nat.le_of_ble_eq_true rfl) q393 rfl dX2_pick_300 ?_
                refine lv_iload hx hb dX2_pick_303 (lv_at hl 2 rfl) ?_
                refine n_imul hx hb dX2_pick_305 ?_
                refine lv_iload hx hb dX2_pick_306 (lv_at hl 1 rfl) ?_
                refine n_iadd hx hb dX2_pick_308 ?_
                refine lv_aload_n hx hb dX2_pick_309 rfl (lv_at hl 6 rfl) ?_
                refine ct_get (v := .ref (qs 4)) B (ct_keep hT0 hN0 h.2.2) kX9 0 rfl 5 (Nat.le_of_ble_eq_true rfl) q405 rfl dX2_pick_310 ?_
                refine lv_iload hx hb dX2_pick_313 (lv_at hl 0 rfl) ?_
                refine ct_bald (f := fs 3) B (ct_keep hT0 hN0 h.2.2) 4 rfl (by omega) (by omega) dX2_pick_315 ?_
                refine W.eq (g2 := F0 m 316 ls [.int (encL (cw (sc * pk r_ + c_))), .int (nI (sc * r_ + c_)), .ref (q 4)]) (by rw [(hTDc _ hix).1]) ?_
                refine ct_bast (ws' := xw E ad (tray, trayed, fed, place, picked, pcnt, column) O (code, splace) (made, all, wv + ((cw (sc * pk r_ + c_)).1.length), (va_cpy W1 W1 a_s wv ((cw (sc * pk r_ + c_)).1.length))) P R ++ twm E q sc n g0 g1 (upd g2 (sc * r_ + c_) (nI wv)) (upd g3 (sc * r_ + c_) (encL (cw (sc * pk r_ + c_)))) (fun _ => 0)) B h 24 rfl (by omega) (by omega) (congrArg (fun z9 => (xw E ad (tray, trayed, fed, place, picked, pcnt, column) O (code, splace) (made, all, wv + ((cw (sc * pk r_ + c_)).1.length), (va_cpy W1 W1 a_s wv ((cw (sc * pk r_ + c_)).1.length))) P R ++ twm E q sc n g0 g1 (upd g2 (sc * r_ + c_) (nI wv)) z9 (fun _ => 0) : va_W)) ((by rw [enc_b (hTDc _ hix).2.1] : upd g3 (sc * r_ + c_) (vp_nar .byte (encL (cw (sc * pk r_ + c_)))) = upd g3 (sc * r_ + c_) (encL (cw (sc * pk r_ + c_)))))) dX2_pick_316 (fun H locs h => ?_)
                refine n_iinc (n := 1) (lv' := [(7, .int (nI (c_ + 1))), (8, .int (nI (sc * (pk r_) + c_))), (6, .int (nI r_)), (5, .ref (q 0)), (4, .int (nI nd)), (0, .ref (ad 3)), (1, .ref (qs 0)), (2, .ref (ad 14)), (3, .int (nI n))]) hx hb dX2_pick_317 hl (k := 1) rfl rfl (by decide) (by decide) rfl (fun ls hl => ?_)
                refine lv_goto (tgt := 227) hx hb dX2_pick_320 (by decide) ?_
                exact ih_10 ((c_ + 1), (va_cpy W1 W1 a_s wv ((cw (sc * pk r_ + c_)).1.length)), (wv + ((cw (sc * pk r_ + c_)).1.length)), (upd g2 (sc * r_ + c_) (nI wv)), (upd g3 (sc * r_ + c_) (encL (cw (sc * pk r_ + c_))))) H locs ls (by dsimp only; omega) ⟨lv_sub hl [0, 2, 3, 4, 5, 6, 7, 8] rfl, h, by omega, keepT_put hkp (by omega), TD_old hTn, by rw [show sc * r_ + (c_ + 1) = (sc * r_ + c_) + 1 from (Nat.add_assoc _ _ _).symm, sumN_S]; omega, by have e9 := TD_put hTc (a := a_s) (by rw [hpa]; exact hta) (by rw [hpa]; exact (hTDc _ hix).2.1) (by rw [hpa]; omega); rw [hpa] at e9; exact e9⟩
          · obtain ⟨_, _, a_s, ha_s, hta0, hal⟩ := hTDn c_ (by omega)
            have hta := hkp _ _ hta0 hal
            have hmn := sumN_mono (f := lenW nw) (show c_ + 1 ≤ sc by omega)
            rw [sumN_S] at hmn
            have hfitc : wv + (nw c_).1.length ≤ 65536 := by have e9 : lenW nw c_ = (nw c_).1.length := rfl; omega
            refine lv_aload hx hb dX2_pick_155 (lv_at hl 1 rfl) ?_
            refine ct_get (v := .ref (q 1)) B h.1 kX9 20 rfl 2 (Nat.le_of_ble_eq_true rfl) q398 rfl dX2_pick_157 ?_
            refine lv_iload hx hb dX2_pick_160 (lv_at hl 0 rfl) ?_
            refine lv_aload_n hx hb dX2_pick_162 rfl (lv_at hl 3 rfl) ?_
            refine ct_get (v := .ref (ad 4)) B h.1 kX2 3 rfl 1 (Nat.le_of_ble_eq_true rfl) q216 rfl dX2_pick_163 ?_
            refine lv_aload_n hx hb dX2_pick_166 rfl (lv_at hl 3 rfl) ?_
            refine ct_get (v := .ref (ad 4)) B h.1 kX2 3 rfl 1 (Nat.le_of_ble_eq_true rfl) q216 rfl dX2_pick_167 ?_
            refine ct_getN (v := .ref (ad 5)) B h.1 kX3 4 rfl 0 (Nat.le_of_ble_eq_true rfl) ct_nw_0 rfl dX2_pick_170 ?_
            refine lv_aload_n hx hb dX2_pick_173 rfl (lv_at hl 4 rfl) ?_
            refine ct_get (v := .ref (qs 1)) B (ct_keep hT0 hN0 h.2.2) kX9 0 rfl 2 (Nat.le_of_ble_eq_true rfl) q398 rfl dX2_pick_174 ?_
            refine lv_iload hx hb dX2_pick_177 (lv_at hl 0 rfl) ?_
            refine ct_iald (f := fs 0) B (ct_keep hT0 hN0 h.2.2) 1 rfl (by omega) (by omega) dX2_pick_179 ?_
            refine W.eq (g2 := F0 m 180 ls [.int (nI a_s), .ref (ad 5), .ref (ad 4), .int (nI c_), .ref (q 1)]) (by rw [ha_s]) ?_
            refine lv_aload_n hx hb dX2_pick_180 rfl (lv_at hl 4 rfl) ?_
            refine ct_get (v := .ref (qs 2)) B (ct_keep hT0 hN0 h.2.2) kX9 0 rfl 3 (Nat.le_of_ble_eq_true rfl) q400 rfl dX2_pick_181 ?_
            refine lv_iload hx hb dX2_pick_184 (lv_at hl 0 rfl) ?_
            refine ct_bald (f := fs 1) B (ct_keep hT0 hN0 h.2.2) 2 rfl (by omega) (by omega) dX2_pick_186 ?_
            refine W.eq (g2 := F0 m 187 ls [.int (encL (nw c_)), .int (nI a_s), .ref (ad 5), .ref (ad 4), .int (nI c_), .ref (q 1)]) (by rw [(hTDn c_ (by omega)).1]) ?_
            refine lv_bipush (v := nI 63) hx hb dX2_pick_187 (by decide) ?_
            refine lv_iand hx hb dX2_pick_189 ?_
            refine W.eq (g2 := F0 m 190 ls [.int (nI ((nw c_).1.length)), .int (nI a_s), .ref (ad 5), .ref (ad 4), .int (nI c_), .ref (q 1)]) (by rw [(enc_63 (hTDn c_ (by omega)).2.1 (hnm c_ (by omega)))]) ?_
            refine ct_callQ (ct_runV (As := [.ref (ad 5), .int (nI a_s), .int (nI ((nw c_).1.length))]) (rest := [.int (nI c_), .ref (q 1)]) B (met_X3_addNW l E ad (tray, trayed, fed, place, picked, pcnt, column) O (code, splace) made all wv W1 P.1 P.2.1 P.2.2.1 P.2.2.2.1 P.2.2.2.2.1 P.2.2.2.2.2.1 P.2.2.2.2.2.2.1 P.2.2.2.2.2.2.2.1 P.2.2.2.2.2.2.2.2 R a_s ((nw c_).1.length) H.size (tAt_nar hta) hfitc (by omega)) (lw_V q424 q425 q426 q51 q427) (n := 3) ⟨by decide, by decide, by decide +kernel⟩ rfl ⟨rfl, rfl, (Nat.le_of_ble_eq_true rfl), (Nat.le_of_ble_eq_true rfl), (by dsimp only; omega), (by dsimp only; omega)⟩ h.2.2 hA (ct_recv B h.1 kX3 4 rfl) ⟨(ct_Pl h.1), (ct_Dl (ct_D0 h hA))⟩ hl.1 (Nat.le_of_ble_eq_true rfl) dX2_pick_190) h.2.2 (ct_subL h hAn) (ct_subL h hAn) (fun v H locs hv hz hk hS => ?_)
            obtain ⟨rfl, hP1⟩ := hv
            have h : Hs E A s.heap (xw E ad (tray, trayed, fed, place, picked, pcnt, column) O (code, splace) (made, all, wv + ((nw c_).1.length), va_cpy W1 W1 a_s wv ((nw c_).1.length)) P R ++ twm E q sc n g0 g1 (fun _ => 0) (fun _ => 0) (fun _ => 0)) H locs := ct_frLs h hP1 rfl hk hS hAn
            clear hP1 hS hz hk
            refine W.eq (g2 := F0 m 193 ls [.int (nI wv), .int (nI c_), .ref (q 1)]) rfl ?_
            refine ct_iast (ws' := xw E ad (tray, trayed, fed, place, picked, pcnt, column) O (code, splace) (made, all, wv + ((nw c_).1.length), (va_cpy W1 W1 a_s wv ((nw c_).1.length))) P R ++ twm E q sc n (upd g0 c_ (nI wv)) g1 (fun _ => 0) (fun _ => 0) (fun _ => 0)) B h 21 rfl (by omega) (by omega) rfl dX2_pick_193 (fun H locs h => ?_)
            refine lv_aload hx hb dX2_pick_194 (lv_at hl 1 rfl) ?_
            refine ct_get (v := .ref (q 2)) B h.1 kX9 20 rfl 3 (Nat.le_of_ble_eq_true rfl) q400 rfl dX2_pick_196 ?_
            refine lv_iload hx hb dX2_pick_199 (lv_at hl 0 rfl) ?_
            refine lv_aload_n hx hb dX2_pick_201 rfl (lv_at hl 4 rfl) ?_
            refine ct_get (v := .ref (qs 2)) B (ct_keep hT0 hN0 h.2.2) kX9 0 rfl 3 (Nat.le_of_ble_eq_true rfl) q400 rfl dX2_pick_202 ?_
            refine lv_iload hx hb dX2_pick_205 (lv_at hl 0 rfl) ?_
            refine ct_bald (f := fs 1) B (ct_keep hT0 hN0 h.2.2) 2 rfl (by omega) (by omega) dX2_pick_207 ?_
            refine W.eq (g2 := F0 m 208 ls [.int (encL (nw c_)), .int (nI c_), .ref (q 2)]) (by rw [(hTDn c_ (by omega)).1]) ?_
            refine ct_bast (ws' := xw E ad (tray, trayed, fed, place, picked, pcnt, column) O (code, splace) (made, all, wv + ((nw c_).1.length), (va_cpy W1 W1 a_s wv ((nw c_).1.length))) P R ++ twm E q sc n (upd g0 c_ (nI wv)) (upd g1 c_ (encL (nw c_))) (fun _ => 0) (fun _ => 0) (fun _ => 0)) B h 22 rfl (by omega) (by omega) (congrArg (fun z9 => (xw E ad (tray, trayed, fed, place, picked, pcnt, column) O (code, splace) (made, all, wv + ((nw c_).1.length), (va_cpy W1 W1 a_s wv ((nw c_).1.length))) P R ++ twm E q sc n (upd g0 c_ (nI wv)) z9 (fun _ => 0) (fun _ => 0) (fun _ => 0) : va_W)) ((by rw [enc_b (hTDn c_ (by omega)).2.1] : upd g1 c_ (vp_nar .byte (encL (nw c_))) = upd g1 c_ (encL (nw c_))))) dX2_pick_208 (fun H locs h => ?_)
            refine n_iinc (n := 1) (lv' := [(6, .int (nI (c_ + 1))), (5, .ref (q 0)), (4, .int (nI nd)), (0, .ref (ad 3)), (1, .ref (qs 0)), (2, .ref (ad 14)), (3, .int (nI n))]) hx hb dX2_pick_209 hl (k := 0) rfl rfl (by decide) (by decide) rfl (fun ls hl => ?_)
            refine lv_goto (tgt := 146) hx hb dX2_pick_212 (by decide) ?_
            exact ih_6 ((c_ + 1), (va_cpy W1 W1 a_s wv ((nw c_).1.length)), (wv + ((nw c_).1.length)), (upd g0 c_ (nI wv)), (upd g1 c_ (encL (nw c_)))) H locs ls (by dsimp only; omega) ⟨lv_sub hl [0, 1, 2, 3, 4, 5, 6] rfl, h, by omega, keepT_put hkp (by omega), by rw [sumN_S, show lenW nw c_ = (nw c_).1.length from rfl]; omega, TD_put hTn hta (hTDn c_ (by omega)).2.1 (show wv + (nw c_).1.length ≤ 65536 from hfitc)⟩
        · refine lv_aload_n hx hb dX2_pick_119 rfl (lv_at hl 2 rfl) ?_
          refine ct_get (v := .ref (ad 2)) B h.1 kX2 3 rfl 0 (Nat.le_of_ble_eq_true rfl) q215 rfl dX2_pick_120 ?_
          refine lv_bipush (v := nI 12) hx hb dX2_pick_123 (by decide) ?_
          refine ct_callQ (ct_runV (As := [.int (nI 12)]) (rest := []) B (met_X1_with l E ad (tray, trayed, fed, place, picked, pcnt, column) O code splace (made, all, wn, wb) P R (nI 12) H.size) (lw_V q381 q382 q383 q45 q384) (n := 1) ⟨by decide, by decide, by decide +kernel⟩ rfl ⟨rfl, rfl, (Nat.le_of_ble_eq_true rfl), (Nat.le_of_ble_eq_true rfl), (by dsimp only; omega), (by dsimp only; omega)⟩ h.2.2 hA (ct_recv B h.1 kX1 2 rfl) ⟨h.1, (ct_D0 h hA)⟩ hl.1 (Nat.le_of_ble_eq_true rfl) dX2_pick_125) h.2.2 (ct_sub h hAn) (ct_sub h hAn) (fun v H locs hv hz hk hS => ?_)
          obtain ⟨rfl, hP1⟩ := hv
          have h : Hs E A s.heap (xw E ad (tray, trayed, fed, place, picked, pcnt, column) O ((nI 12), (-1)) (made, all, wn, wb) P R) H locs := ct_again h hP1 rfl hS
          clear hP1 hS hz hk
          refine W.eq (g2 := F0 m 128 ls [.ref (ad 20)]) rfl ?_
          refine W.widen (k := 6) (n := 7 + (3 * sc + 2 * (sc * n))) (by omega) (by omega) ?_
          exact ct_athrow B hno h.2.2 ⟨rfl, h.1, by omega⟩ dX2_pick_128
    · refine lv_iconst (v := nI 0) hx hb dX2_pick_45 (by decide) ?_
      refine lv_istore (lv' := [(6, .int (nI 0)), (5, .int (nI r_)), (4, .int (nI nd)), (0, .ref (ad 3)), (1, .ref (qs 0)), (2, .ref (ad 14)), (3, .int (nI n))]) hx hb dX2_pick_46 hl (by decide) rfl (fun ls hl => ?_)
      refine ct_loop (σ := Nat × Nat) (fun (c_, nd) ls => lv_has ls 9 [(6, .int (nI c_)), (5, .int (nI r_)), (4, .int (nI nd)), (0, .ref (ad 3)), (1, .ref (qs 0)), (2, .ref (ad 14)), (3, .int (nI n))] ∧ (c_ ≤ sc) ∧ (nd = sumN (lenW nw) sc + sumN (lenW (pickW sc pk cw)) (sc * r_ + c_))) (fun (c_, nd) => sc - c_) (g := fun (c_, nd) ls => F0 m 48 ls []) (x0 := (0, nd)) (ls0 := ls) ?_ ⟨lv_sub hl [0, 1, 2, 3, 4, 5, 6] rfl, Nat.zero_le _, hnd⟩
      clear hl
      intro x9 ls hI ih_12
      obtain ⟨c_, nd⟩ := x9
      obtain ⟨hl, hc_, hnd⟩ := hI
      refine W.eq (g2 := F0 m 48 ls []) rfl ?_
      refine lv_iload hx hb dX2_pick_48 (lv_at hl 0 rfl) ?_
      refine lv_aload_n hx hb dX2_pick_50 rfl (lv_at hl 4 rfl) ?_
      refine ct_get (v := .int (nI sc)) B (ct_keep hT0 hN0 h.2.2) kX9 0 rfl 0 (Nat.le_of_ble_eq_true rfl) q393 rfl dX2_pick_51 ?_
      refine n_icmp_ge (tgt := 85) hx hb dX2_pick_54 (by decide) (by omega) (by omega) (fun c_13 => ?_) (fun c_13 => ?_)
      · refine n_iinc (n := 1) (lv' := [(5, .int (nI (r_ + 1))), (6, .int (nI c_)), (4, .int (nI nd)), (0, .ref (ad 3)), (1, .ref (qs 0)), (2, .ref (ad 14)), (3, .int (nI n))]) hx hb dX2_pick_85 hl (k := 1) rfl rfl (by decide) (by decide) rfl (fun ls hl => ?_)
        refine lv_goto (tgt := 39) hx hb dX2_pick_88 (by decide) ?_
        exact ih_3 ((r_ + 1), nd) ls (by dsimp only; omega) ⟨lv_sub hl [0, 2, 3, 4, 5, 6] rfl, by omega, by rw [hnd, Nat.mul_succ, show c_ = sc by omega]⟩
      · refine lv_iload hx hb dX2_pick_57 (lv_at hl 2 rfl) ?_
        have hix := ix_lt (show c_ < sc by omega) (hpk r_ (by omega)).2
        refine lv_aload_n hx hb dX2_pick_59 rfl (lv_at hl 4 rfl) ?_
        refine lv_aload_n hx hb dX2_pick_60 rfl (lv_at hl 4 rfl) ?_
        refine ct_get (v := .int (nI sc)) B (ct_keep hT0 hN0 h.2.2) kX9 0 rfl 0 (Nat.le_of_ble_eq_true rfl) q393 rfl dX2_pick_61 ?_
        refine lv_aload_n hx hb dX2_pick_64 rfl (lv_at hl 5 rfl) ?_
        refine lv_iload hx hb dX2_pick_65 (lv_at hl 1 rfl) ?_
        refine ct_lald (f := picked) B h.1 14 rfl (by omega) (by omega) dX2_pick_67 ?_
        refine W.eq (g2 := F0 m 68 ls [.long (lN (pk r_)), .int (nI sc), .ref (qs 0), .int (nI nd)]) (by rw [(hpk r_ (by omega)).1]) ?_
        refine lv_l2i (v := (nI (pk r_))) hx hb dX2_pick_68 (lN_i _) ?_
        refine n_imul hx hb dX2_pick_69 ?_
        refine lv_iload hx hb dX2_pick_70 (lv_at hl 0 rfl) ?_
        refine n_iadd hx hb dX2_pick_72 ?_
        refine ct_callR (ct_runV (As := [.int (nI (sc * (pk r_) + c_))]) (rest := [.int (nI nd)]) B (met_X9_length l E  qs sc sr (sc * (pk r_) + c_) fs (cw (sc * pk r_ + c_)) H.size hix (by omega) (hTDc _ hix).1 (hTDc _ hix).2.1) (lw_V q452 q453 q454 q57 q455) (n := 1) ⟨by decide, by decide, by decide +kernel⟩ rfl ⟨rfl, rfl, (Nat.le_of_ble_eq_true rfl), (Nat.le_of_ble_eq_true rfl), (by dsimp only; omega), (by dsimp only; omega)⟩ h.2.2 hA (ct_recv B (ct_keep hT0 hN0 h.2.2) kX9 0 rfl) (ct_keep hT0 hN0 h.2.2) hl.1 (Nat.le_of_ble_eq_true rfl) dX2_pick_73) (fun v hv => ?_)
        subst hv
        refine W.eq (g2 := F0 m 76 ls [.int (nI ((cw (sc * pk r_ + c_)).1.length)), .int (nI nd)]) rfl ?_
        refine n_iadd hx hb dX2_pick_76 ?_
        refine lv_istore (lv' := [(4, .int (nI (nd + ((cw (sc * pk r_ + c_)).1.length)))), (6, .int (nI c_)), (5, .int (nI r_)), (0, .ref (ad 3)), (1, .ref (qs 0)), (2, .ref (ad 14)), (3, .int (nI n))]) hx hb dX2_pick_77 hl (by decide) rfl (fun ls hl => ?_)
        refine n_iinc (n := 1) (lv' := [(6, .int (nI (c_ + 1))), (4, .int (nI (nd + ((cw (sc * pk r_ + c_)).1.length)))), (5, .int (nI r_)), (0, .ref (ad 3)), (1, .ref (qs 0)), (2, .ref (ad 14)), (3, .int (nI n))]) hx hb dX2_pick_79 hl (k := 1) rfl rfl (by decide) (by decide) rfl (fun ls hl => ?_)
        refine lv_goto (tgt := 48) hx hb dX2_pick_82 (by decide) ?_
        exact ih_12 ((c_ + 1), (nd + ((cw (sc * pk r_ + c_)).1.length))) ls (by dsimp only; omega) ⟨lv_sub hl [0, 2, 1, 3, 4, 5, 6] rfl, by omega, by rw [show sc * r_ + (c_ + 1) = (sc * r_ + c_) + 1 from (Nat.add_assoc _ _ _).symm, sumN_S, show lenW (pickW sc pk cw) (sc * r_ + c_) = (cw (sc * pk r_ + c_)).1.length from by unfold lenW; rw [pick_at (by omega)]]; omega⟩
  · refine lv_iload hx hb dX2_pick_15 (lv_at hl 1 rfl) ?_
    refine lv_aload_n hx hb dX2_pick_17 rfl (lv_at hl 3 rfl) ?_
    refine ct_get (v := .ref (qs 2)) B (ct_keep hT0 hN0 h.2.2) kX9 0 rfl 3 (Nat.le_of_ble_eq_true rfl) q400 rfl dX2_pick_18 ?_
    refine lv_iload hx hb dX2_pick_21 (lv_at hl 0 rfl) ?_
    refine ct_bald (f := fs 1) B (ct_keep hT0 hN0 h.2.2) 2 rfl (by omega) (by omega) dX2_pick_23 ?_
    refine W.eq (g2 := F0 m 24 ls [.int (encL (nw c_)), .int (nI nd)]) (by rw [(hTDn c_ (by omega)).1]) ?_
    refine lv_bipush (v := nI 63) hx hb dX2_pick_24 (by decide) ?_
    refine lv_iand hx hb dX2_pick_26 ?_
    refine W.eq (g2 := F0 m 27 ls [.int (nI ((nw c_).1.length)), .int (nI nd)]) (by rw [(enc_63 (hTDn c_ (by omega)).2.1 (hnm c_ (by omega)))]) ?_
    refine n_iadd hx hb dX2_pick_27 ?_
    refine lv_istore (lv' := [(4, .int (nI (nd + ((nw c_).1.length)))), (5, .int (nI c_)), (0, .ref (ad 3)), (1, .ref (qs 0)), (2, .ref (ad 14)), (3, .int (nI n))]) hx hb dX2_pick_28 hl (by decide) rfl (fun ls hl => ?_)
    refine n_iinc (n := 1) (lv' := [(5, .int (nI (c_ + 1))), (4, .int (nI (nd + ((nw c_).1.length)))), (0, .ref (ad 3)), (1, .ref (qs 0)), (2, .ref (ad 14)), (3, .int (nI n))]) hx hb dX2_pick_30 hl (k := 1) rfl rfl (by decide) (by decide) rfl (fun ls hl => ?_)
    refine lv_goto (tgt := 6) hx hb dX2_pick_33 (by decide) ?_
    exact ih_1 ((c_ + 1), (nd + ((nw c_).1.length))) ls (by dsimp only; omega) ⟨lv_sub hl [0, 1, 2, 3, 4, 5] rfl, by omega, by rw [sumN_S, show lenW nw c_ = (nw c_).1.length from rfl]; omega⟩
