set_option maxHeartbeats 4000000 in
set_option maxRecDepth 100000 in
theorem met_X2_named (l : Launch) (E : CE) (ad : Nat → Nat) (tray : Nat → Int32) (trayed : Nat) (fed : Nat) (place : Int32) (picked : Nat → Int64) (pcnt : Nat) (column : Nat → Int64) (O : XO) (S : XS) (made : Nat) (all : Nat → Option Nat) (wn : Nat) (wb : Nat → Int32) (P : XP) (R : XR) (q : Nat → Nat) (cols rows n : Nat) (f : Nat → Nat → Int32) (nw : Nat → Wd) (t : List Nat) (sz : Nat) (hcs : cols ≤ 16) (hn9 : n ≤ 16000) (htx : txR tray n t) (hnm : ∀ c, c < cols → ¬ missW (nw c)) (hTDn : TD wb wn cols (f 0) (f 1) nw) : Met l yX2_named (ws_ yX2_named cX2_named 7 (some .int)) { frames := 0, cells := 0, slots := 0, locals := 0 } (ctP E [.ref (ad 3), .ref (q 0), .ref (ad 1), .int (nI n)] sz (fun H => va_P E.1 ct_cl (xw E ad (tray, trayed, fed, place, picked, pcnt, column) O S (made, all, wn, wb) P R) H ∧ va_P E.1 ct_cl (tw E q cols rows f) H)) (ctR (fun v => v = some (.int (nmF nw t cols 0)))) 0 0 (fun _ => False) := by
  refine ct_start (by decide) (Nat.le_of_ble_eq_true rfl) ?_
  intro p e s m below meth c ls B hsz hH hl
  obtain ⟨hP, hT0⟩ := hH
  have hx := B.1
  have hb := B.2.1
  have hl : lv_has ls 7 [(0, .ref (ad 3)), (1, .ref (q 0)), (2, .ref (ad 1)), (3, .int (nI n))] := hl
  have htl := htx.1
  refine lv_iconst (v := nI 0) hx hb dX2_named_0 (by decide) ?_
  refine lv_istore (lv' := [(4, .int (nI 0)), (0, .ref (ad 3)), (1, .ref (q 0)), (2, .ref (ad 1)), (3, .int (nI n))]) hx hb dX2_named_1 hl (by decide) rfl (fun ls hl => ?_)
  refine ct_loop (σ := Nat) (fun c_ ls => lv_has ls 7 [(4, .int (nI c_)), (0, .ref (ad 3)), (1, .ref (q 0)), (2, .ref (ad 1)), (3, .int (nI n))] ∧ (c_ ≤ cols) ∧ (nmF nw t cols 0 = nmF nw t (cols - c_) c_)) (fun c_ => cols - c_) (g := fun c_ ls => F0 m 3 ls []) (x0 := 0) (ls0 := ls) ?_ ⟨lv_sub hl [0, 1, 2, 3, 4] rfl, Nat.zero_le _, rfl⟩
  clear hl
  intro c_ ls hI ih_1
  obtain ⟨hl, hc_, hnf⟩ := hI
  refine W.eq (g2 := F0 m 3 ls []) rfl ?_
  refine lv_iload hx hb dX2_named_3 (lv_at hl 0 rfl) ?_
  refine lv_aload_n hx hb dX2_named_5 rfl (lv_at hl 2 rfl) ?_
  refine ct_get (v := .int (nI cols)) B hT0 kX9 0 rfl 0 (Nat.le_of_ble_eq_true rfl) q393 rfl dX2_named_6 ?_
  refine n_icmp_ge (tgt := 99) hx hb dX2_named_9 (by decide) (by omega) (by omega) (fun c_2 => ?_) (fun c_2 => ?_)
  · refine lv_iconst (v := (-1)) hx hb dX2_named_99 (by decide) ?_
    exact ct_iretR (ty := .int) (v := (-1)) B rfl rfl (by rw [hnf, nmF_0 (by omega)]) dX2_named_100
  · obtain ⟨_, _, a_s, ha_s, hta, hal⟩ := hTDn c_ (by omega)
    have hta3 := hta.2.2
    refine ct_joinL (σ := Nat) (P := fun sm ls => lv_has ls 7 [(4, .int (nI c_)), (0, .ref (ad 3)), (1, .ref (q 0)), (2, .ref (ad 1)), (3, .int (nI n)), (5, .int (nI sm))] ∧ ((sm = 1 ∧ (nw c_).1.length = n) ∨ (sm = 0 ∧ ¬ (nw c_).1 = t))) (g := fun sm ls => F0 m 33 ls []) (fun x9 ls hI => ?_) (fun hJ_3 => ?_)
    · obtain ⟨sm, rfl⟩ : ∃ y9, y9 = x9 := ⟨_, rfl⟩
      obtain ⟨hl, hsm0⟩ := hI
      refine W.eq (g2 := F0 m 33 ls []) rfl ?_
      refine lv_iconst (v := nI 0) hx hb dX2_named_33 (by decide) ?_
      refine lv_istore (lv' := [(6, .int (nI 0)), (4, .int (nI c_)), (0, .ref (ad 3)), (1, .ref (q 0)), (2, .ref (ad 1)), (3, .int (nI n)), (5, .int (nI sm))]) hx hb dX2_named_34 hl (by decide) rfl (fun ls hl => ?_)
      refine ct_loop (σ := Nat × Nat) (fun (k, sm) ls => lv_has ls 7 [(6, .int (nI k)), (4, .int (nI c_)), (0, .ref (ad 3)), (1, .ref (q 0)), (2, .ref (ad 1)), (3, .int (nI n)), (5, .int (nI sm))] ∧ (k ≤ n) ∧ ((sm = 1 ∧ (nw c_).1.length = n ∧ ∀ j, j < k → (nw c_).1.getD j 0 = t.getD j 0) ∨ (sm = 0 ∧ ¬ (nw c_).1 = t))) (fun (k, sm) => n - k) (g := fun (k, sm) ls => F0 m 36 ls []) (x0 := (0, sm)) (ls0 := ls) ?_ ⟨lv_sub hl [0, 1, 2, 3, 4, 5, 6] rfl, Nat.zero_le _, by rcases hsm0 with ⟨q9, q8⟩ | q9; exact Or.inl ⟨q9, q8, fun j hj => absurd hj (Nat.not_lt_zero j)⟩; exact Or.inr q9⟩
      clear hl
      intro x9 ls hI ih_4
      obtain ⟨k, sm⟩ := x9
      obtain ⟨hl, hk, hsm⟩ := hI
      refine W.eq (g2 := F0 m 36 ls []) rfl ?_
      refine lv_iload hx hb dX2_named_36 (lv_at hl 0 rfl) ?_
      refine lv_iload_n hx hb dX2_named_38 rfl (lv_at hl 5 rfl) ?_
      refine n_icmp_ge (tgt := 85) hx hb dX2_named_39 (by decide) (by omega) (by omega) (fun c_5 => ?_) (fun c_5 => ?_)
      · refine lv_iload hx hb dX2_named_85 (lv_at hl 6 rfl) ?_
        refine n_if_eq (tgt := 93) hx hb dX2_named_87 (by decide) (by omega) (fun csf => ?_) (fun csf => ?_)
        · have hne : ¬ (nw c_).1 = t := by rcases hsm with ⟨q9, _⟩ | ⟨_, q9⟩; omega; exact q9
          refine n_iinc (n := 1) (lv' := [(4, .int (nI (c_ + 1))), (6, .int (nI k)), (0, .ref (ad 3)), (1, .ref (q 0)), (2, .ref (ad 1)), (3, .int (nI n)), (5, .int (nI sm))]) hx hb dX2_named_93 hl (k := 1) rfl rfl (by decide) (by decide) rfl (fun ls hl => ?_)
          refine lv_goto (tgt := 3) hx hb dX2_named_96 (by decide) ?_
          exact ih_1 (c_ + 1) ls (by omega) ⟨lv_sub hl [0, 2, 3, 4, 5] rfl, by omega, hnf.trans ((nmF_n (by omega) hne).trans (by rw [Nat.sub_sub]))⟩
        · have hs2 : (nw c_).1 = t := by rcases hsm with ⟨_, q9, q8⟩ | ⟨q9, _⟩; exact list_ext (by rw [q9, htl]) (fun j hj => q8 j (by omega)); exact absurd q9 csf
          refine lv_iload hx hb dX2_named_90 (lv_at hl 1 rfl) ?_
          exact ct_iretR (ty := .int) (v := (nI c_)) B rfl rfl (by rw [hnf, nmF_y (by omega) hs2]) dX2_named_92
      · refine lv_iload hx hb dX2_named_42 (lv_at hl 6 rfl) ?_
        refine n_if_eq (tgt := 85) hx hb dX2_named_44 (by decide) (by omega) (fun csm => ?_) (fun csm => ?_)
        · refine lv_iload hx hb dX2_named_85 (lv_at hl 6 rfl) ?_
          refine n_if_eq (tgt := 93) hx hb dX2_named_87 (by decide) (by omega) (fun csf => ?_) (fun csf => ?_)
          · have hne : ¬ (nw c_).1 = t := by rcases hsm with ⟨q9, _⟩ | ⟨_, q9⟩; omega; exact q9
            refine n_iinc (n := 1) (lv' := [(4, .int (nI (c_ + 1))), (6, .int (nI k)), (0, .ref (ad 3)), (1, .ref (q 0)), (2, .ref (ad 1)), (3, .int (nI n)), (5, .int (nI sm))]) hx hb dX2_named_93 hl (k := 1) rfl rfl (by decide) (by decide) rfl (fun ls hl => ?_)
            refine lv_goto (tgt := 3) hx hb dX2_named_96 (by decide) ?_
            exact ih_1 (c_ + 1) ls (by omega) ⟨lv_sub hl [0, 2, 3, 4, 5] rfl, by omega, hnf.trans ((nmF_n (by omega) hne).trans (by rw [Nat.sub_sub]))⟩
          · have hs2 : (nw c_).1 = t := by rcases hsm with ⟨_, q9, q8⟩ | ⟨q9, _⟩; exact list_ext (by rw [q9, htl]) (fun j hj => q8 j (by omega)); exact absurd q9 csf
            refine lv_iload hx hb dX2_named_90 (lv_at hl 1 rfl) ?_
            exact ct_iretR (ty := .int) (v := (nI c_)) B rfl rfl (by rw [hnf, nmF_y (by omega) hs2]) dX2_named_92
        · have hs1 : (nw c_).1.length = n ∧ ∀ j, j < k → (nw c_).1.getD j 0 = t.getD j 0 := by rcases hsm with ⟨_, q9⟩ | ⟨q9, _⟩; exact q9; exact absurd q9 csm
          refine lv_aload_n hx hb dX2_named_47 rfl (lv_at hl 2 rfl) ?_
          refine ct_get (v := .ref (ad 4)) B hP kX2 3 rfl 1 (Nat.le_of_ble_eq_true rfl) q216 rfl dX2_named_48 ?_
          refine ct_getN (v := .ref (ad 5)) B hP kX3 4 rfl 0 (Nat.le_of_ble_eq_true rfl) ct_nw_0 rfl dX2_named_51 ?_
          refine lv_aload_n hx hb dX2_named_54 rfl (lv_at hl 3 rfl) ?_
          refine ct_get (v := .ref (q 1)) B hT0 kX9 0 rfl 2 (Nat.le_of_ble_eq_true rfl) q398 rfl dX2_named_55 ?_
          refine lv_iload hx hb dX2_named_58 (lv_at hl 1 rfl) ?_
          refine ct_iald (f := f 0) B hT0 1 rfl (by omega) (by omega) dX2_named_60 ?_
          refine W.eq (g2 := F0 m 61 ls [.int (nI a_s), .ref (ad 5)]) (by rw [ha_s]) ?_
          refine lv_iload hx hb dX2_named_61 (lv_at hl 0 rfl) ?_
          refine n_iadd hx hb dX2_named_63 ?_
          refine ct_bald (f := wb) B hP 5 rfl (by omega) (by omega) dX2_named_64 ?_
          refine W.eq (g2 := F0 m 65 ls [.int (nI ((nw c_).1.getD k 0))]) (by rw [hta.1 k (by omega)]) ?_
          refine lv_aload_n hx hb dX2_named_65 rfl (lv_at hl 4 rfl) ?_
          refine lv_iload hx hb dX2_named_66 (lv_at hl 0 rfl) ?_
          refine ct_bald (f := tray) B hP 1 rfl (by omega) (by omega) dX2_named_68 ?_
          refine lv_icmp_ne (tgt := 76) hx hb dX2_named_69 (by decide) (fun ceq0 => ?_) (fun ceq0 => ?_)
          · have ceq : ¬ (nw c_).1.getD k 0 = t.getD k 0 := fun q9 => ceq0 (by rw [(htx.2 k (by omega)).2]; exact (by_eq (by have := tAt_rg hta (j := k) (by omega); omega) (htx.2 k (by omega)).1).mpr q9)
            refine lv_iconst (v := nI 0) hx hb dX2_named_76 (by decide) ?_
            refine lv_istore (lv' := [(5, .int (nI 0)), (6, .int (nI k)), (4, .int (nI c_)), (0, .ref (ad 3)), (1, .ref (q 0)), (2, .ref (ad 1)), (3, .int (nI n))]) hx hb dX2_named_77 hl (by decide) rfl (fun ls hl => ?_)
            refine n_iinc (n := 1) (lv' := [(6, .int (nI (k + 1))), (5, .int (nI 0)), (4, .int (nI c_)), (0, .ref (ad 3)), (1, .ref (q 0)), (2, .ref (ad 1)), (3, .int (nI n))]) hx hb dX2_named_79 hl (k := 1) rfl rfl (by decide) (by decide) rfl (fun ls hl => ?_)
            refine lv_goto (tgt := 36) hx hb dX2_named_82 (by decide) ?_
            exact ih_4 ((k + 1), 0) ls (by dsimp only; omega) ⟨lv_sub hl [0, 2, 3, 4, 5, 6, 1] rfl, by omega, Or.inr ⟨rfl, fun q9 => ceq (by rw [q9])⟩⟩
          · have ceq : (nw c_).1.getD k 0 = t.getD k 0 := (by_eq (by have := tAt_rg hta (j := k) (by omega); omega) (htx.2 k (by omega)).1).mp (ceq0.trans (htx.2 k (by omega)).2)
            refine lv_iconst (v := nI 1) hx hb dX2_named_72 (by decide) ?_
            refine lv_goto (tgt := 77) hx hb dX2_named_73 (by decide) ?_
            refine lv_istore (lv' := [(5, .int (nI 1)), (6, .int (nI k)), (4, .int (nI c_)), (0, .ref (ad 3)), (1, .ref (q 0)), (2, .ref (ad 1)), (3, .int (nI n))]) hx hb dX2_named_77 hl (by decide) rfl (fun ls hl => ?_)
            refine n_iinc (n := 1) (lv' := [(6, .int (nI (k + 1))), (5, .int (nI 1)), (4, .int (nI c_)), (0, .ref (ad 3)), (1, .ref (q 0)), (2, .ref (ad 1)), (3, .int (nI n))]) hx hb dX2_named_79 hl (k := 1) rfl rfl (by decide) (by decide) rfl (fun ls hl => ?_)
            refine lv_goto (tgt := 36) hx hb dX2_named_82 (by decide) ?_
            exact ih_4 ((k + 1), 1) ls (by dsimp only; omega) ⟨lv_sub hl [0, 2, 3, 4, 5, 6, 1] rfl, by omega, Or.inl ⟨rfl, hs1.1, fun j hj => by rcases Nat.lt_succ_iff_lt_or_eq.mp hj with q9 | q9; exact hs1.2 j q9; rw [q9]; exact ceq⟩⟩
    · refine lv_aload_n hx hb dX2_named_12 rfl (lv_at hl 2 rfl) ?_
      refine ct_get (v := .ref (q 2)) B hT0 kX9 0 rfl 3 (Nat.le_of_ble_eq_true rfl) q400 rfl dX2_named_13 ?_
      refine lv_iload hx hb dX2_named_16 (lv_at hl 0 rfl) ?_
      refine ct_bald (f := f 1) B hT0 2 rfl (by omega) (by omega) dX2_named_18 ?_
      refine W.eq (g2 := F0 m 19 ls [.int (encL (nw c_))]) (by rw [(hTDn c_ (by omega)).1]) ?_
      refine lv_bipush (v := nI 63) hx hb dX2_named_19 (by decide) ?_
      refine lv_iand hx hb dX2_named_21 ?_
      refine W.eq (g2 := F0 m 22 ls [.int (nI ((nw c_).1.length))]) (by rw [(enc_63 (hTDn c_ (by omega)).2.1 (hnm c_ (by omega)))]) ?_
      refine lv_iload_n hx hb dX2_named_22 rfl (lv_at hl 4 rfl) ?_
      refine n_icmp_ne (tgt := 30) hx hb dX2_named_23 (by decide) (by omega) (by omega) (fun cl => ?_) (fun cl => ?_)
      · refine lv_iconst (v := nI 0) hx hb dX2_named_30 (by decide) ?_
        refine lv_istore (lv' := [(5, .int (nI 0)), (4, .int (nI c_)), (0, .ref (ad 3)), (1, .ref (q 0)), (2, .ref (ad 1)), (3, .int (nI n))]) hx hb dX2_named_31 hl (by decide) rfl (fun ls hl => ?_)
        exact hJ_3 0 ls ⟨lv_sub hl [1, 2, 3, 4, 5, 0] rfl, Or.inr ⟨rfl, fun q9 => cl (by rw [q9]; exact htl)⟩⟩
      · refine lv_iconst (v := nI 1) hx hb dX2_named_26 (by decide) ?_
        refine lv_goto (tgt := 31) hx hb dX2_named_27 (by decide) ?_
        refine lv_istore (lv' := [(5, .int (nI 1)), (4, .int (nI c_)), (0, .ref (ad 3)), (1, .ref (q 0)), (2, .ref (ad 1)), (3, .int (nI n))]) hx hb dX2_named_31 hl (by decide) rfl (fun ls hl => ?_)
        exact hJ_3 1 ls ⟨lv_sub hl [1, 2, 3, 4, 5, 0] rfl, Or.inl ⟨rfl, cl⟩⟩
set_option maxHeartbeats 4000000 in
set_option maxRecDepth 100000 in
theorem met_X2_before (l : Launch) (E : CE) (ad : Nat → Nat) (F : XF) (O : XO) (S : XS) (made : Nat) (all : Nat → Option Nat) (wn : Nat) (wb : Nat → Int32) (P : XP) (R : XR) (q : Nat → Nat) (cols rows co r_ : Nat) (f : Nat → Nat → Int32) (cw : Nat → Wd) (sz : Nat) (hrs : rows < 2147483648) (hn : cols * rows < 2147483648) (hco : co < cols) (hr_ : r_ < rows) (hTDc : TD wb wn (cols * rows) (f 2) (f 3) cw) : Met l yX2_before (ws_ yX2_before cX2_before 9 (some .long)) { frames := 2, cells := 0, slots := 0, locals := 50 } (ctP E [.ref (ad 3), .ref (q 0), .int (nI co), .int (nI r_)] sz (fun H => va_P E.1 ct_cl (xw E ad F O S (made, all, wn, wb) P R) H ∧ va_P E.1 ct_cl (tw E q cols rows f) H)) (ctR (fun v => v = some (.long (befV cols rows cw co (cw (cols * r_ + co)))))) 0 0 (fun _ => False) := by
  refine ct_start (by decide) (Nat.le_of_ble_eq_true rfl) ?_
  intro p e s m below meth c ls B hsz hH hl
  obtain ⟨hP, hT0⟩ := hH
  have hx := B.1
  have hb := B.2.1
  have hl : lv_has ls 9 [(0, .ref (ad 3)), (1, .ref (q 0)), (2, .int (nI co)), (3, .int (nI r_))] := hl
  have hix := ix_lt hco hr_
  obtain ⟨_, _, a_s, ha_s, hta, _⟩ := hTDc _ hix
  refine lv_aload_n hx hb dX2_before_0 rfl (lv_at hl 1 rfl) ?_
  refine ct_get (v := .int (nI cols)) B hT0 kX9 0 rfl 0 (Nat.le_of_ble_eq_true rfl) q393 rfl dX2_before_1 ?_
  refine lv_iload_n hx hb dX2_before_4 rfl (lv_at hl 3 rfl) ?_
  refine n_imul hx hb dX2_before_5 ?_
  refine lv_iload_n hx hb dX2_before_6 rfl (lv_at hl 2 rfl) ?_
  refine n_iadd hx hb dX2_before_7 ?_
  refine lv_istore (lv' := [(4, .int (nI (cols * r_ + co))), (0, .ref (ad 3)), (1, .ref (q 0)), (2, .int (nI co)), (3, .int (nI r_))]) hx hb dX2_before_8 hl (by decide) rfl (fun ls hl => ?_)
  refine lv_aload_n hx hb dX2_before_10 rfl (lv_at hl 2 rfl) ?_
  refine lv_iload hx hb dX2_before_11 (lv_at hl 0 rfl) ?_
  refine ct_callR (ct_runV (As := [.int (nI (cols * r_ + co))]) (rest := []) B (met_X9_isMissing l E  q cols rows (cols * r_ + co) f (cw (cols * r_ + co)) s.heap.size hix hn (hTDc _ hix).1 (hTDc _ hix).2.1) (lw_V q436 q437 q438 q57 q439) (n := 1) ⟨by decide, by decide, by decide +kernel⟩ rfl ⟨rfl, rfl, (Nat.le_of_ble_eq_true rfl), (Nat.le_of_ble_eq_true rfl), (Nat.le_of_ble_eq_true rfl), (Nat.le_of_ble_eq_true rfl)⟩ (va_S.rf (A := fun _ => False)) (fun _ h => h.elim) (ct_recv B hT0 kX9 0 rfl) hT0 hl.1 (Nat.le_of_ble_eq_true rfl) dX2_before_13) (fun v hv => ?_)
  subst hv
  refine W.eq (g2 := F0 m 16 ls [.int (if (cw (cols * r_ + co)).1 = [] ∧ (cw (cols * r_ + co)).2 = false then 1 else 0)]) rfl ?_
  refine b_if_eq (tgt := 23) hx hb dX2_before_16 (by decide) (fun cm => ?_) (fun cm => ?_)
  · refine lv_lconst (v := lN 0) hx hb dX2_before_23 (by decide) ?_
    refine lv_lstore (lv' := [(5, .long (lN 0)), (4, .int (nI (cols * r_ + co))), (0, .ref (ad 3)), (1, .ref (q 0)), (2, .int (nI co)), (3, .int (nI r_))]) hx hb dX2_before_24 hl (by decide) rfl (fun ls hl => ?_)
    refine lv_iconst (v := nI 0) hx hb dX2_before_26 (by decide) ?_
    refine lv_istore (lv' := [(7, .int (nI 0)), (5, .long (lN 0)), (4, .int (nI (cols * r_ + co))), (0, .ref (ad 3)), (1, .ref (q 0)), (2, .int (nI co)), (3, .int (nI r_))]) hx hb dX2_before_27 hl (by decide) rfl (fun ls hl => ?_)
    refine ct_loop (σ := Nat × Nat) (fun (k, cn) ls => lv_has ls 9 [(7, .int (nI k)), (5, .long (lN cn)), (4, .int (nI (cols * r_ + co))), (0, .ref (ad 3)), (1, .ref (q 0)), (2, .int (nI co)), (3, .int (nI r_))] ∧ (k ≤ rows) ∧ (cn = sumN (bfF cols cw co (cw (cols * r_ + co)).1) k)) (fun (k, cn) => rows - k) (g := fun (k, cn) ls => F0 m 29 ls []) (x0 := (0, 0)) (ls0 := ls) ?_ ⟨lv_sub hl [0, 1, 2, 3, 4, 5, 6] rfl, Nat.zero_le _, rfl⟩
    clear hl
    intro x9 ls hI ih_1
    obtain ⟨k, cn⟩ := x9
    obtain ⟨hl, hk, hcn⟩ := hI
    refine W.eq (g2 := F0 m 29 ls []) rfl ?_
    refine lv_iload hx hb dX2_before_29 (lv_at hl 0 rfl) ?_
    refine lv_aload_n hx hb dX2_before_31 rfl (lv_at hl 4 rfl) ?_
    refine ct_get (v := .int (nI rows)) B hT0 kX9 0 rfl 1 (Nat.le_of_ble_eq_true rfl) q396 rfl dX2_before_32 ?_
    refine n_icmp_ge (tgt := 106) hx hb dX2_before_35 (by decide) (by omega) (by omega) (fun c_2 => ?_) (fun c_2 => ?_)
    · refine lv_lload hx hb dX2_before_106 (lv_at hl 1 rfl) ?_
      exact ct_lretR (v := (lN cn)) B (by rw [befV, if_neg cm, hcn, show k = rows by omega]) dX2_before_108
    · have hiy := ix_lt hco (show k < rows by omega)
      obtain ⟨_, _, b_s, hb_s, htb, _⟩ := hTDc _ hiy
      refine lv_aload_n hx hb dX2_before_38 rfl (lv_at hl 4 rfl) ?_
      refine ct_get (v := .int (nI cols)) B hT0 kX9 0 rfl 0 (Nat.le_of_ble_eq_true rfl) q393 rfl dX2_before_39 ?_
      refine lv_iload hx hb dX2_before_42 (lv_at hl 0 rfl) ?_
      refine n_imul hx hb dX2_before_44 ?_
      refine lv_iload_n hx hb dX2_before_45 rfl (lv_at hl 5 rfl) ?_
      refine n_iadd hx hb dX2_before_46 ?_
      refine lv_istore (lv' := [(8, .int (nI (cols * k + co))), (7, .int (nI k)), (5, .long (lN cn)), (4, .int (nI (cols * r_ + co))), (0, .ref (ad 3)), (1, .ref (q 0)), (2, .int (nI co)), (3, .int (nI r_))]) hx hb dX2_before_47 hl (by decide) rfl (fun ls hl => ?_)
      refine lv_aload_n hx hb dX2_before_49 rfl (lv_at hl 5 rfl) ?_
      refine lv_iload hx hb dX2_before_50 (lv_at hl 0 rfl) ?_
      refine ct_callR (ct_runV (As := [.int (nI (cols * k + co))]) (rest := []) B (met_X9_isMissing l E  q cols rows (cols * k + co) f (cw (cols * k + co)) s.heap.size hiy hn (hTDc _ hiy).1 (hTDc _ hiy).2.1) (lw_V q436 q437 q438 q57 q439) (n := 1) ⟨by decide, by decide, by decide +kernel⟩ rfl ⟨rfl, rfl, (Nat.le_of_ble_eq_true rfl), (Nat.le_of_ble_eq_true rfl), (Nat.le_of_ble_eq_true rfl), (Nat.le_of_ble_eq_true rfl)⟩ (va_S.rf (A := fun _ => False)) (fun _ h => h.elim) (ct_recv B hT0 kX9 0 rfl) hT0 hl.1 (Nat.le_of_ble_eq_true rfl) dX2_before_52) (fun v hv => ?_)
      subst hv
      refine W.eq (g2 := F0 m 55 ls [.int (if (cw (cols * k + co)).1 = [] ∧ (cw (cols * k + co)).2 = false then 1 else 0)]) rfl ?_
      refine b_if_ne (tgt := 100) hx hb dX2_before_55 (by decide) (fun cm2 => ?_) (fun cm2 => ?_)
      · refine n_iinc (n := 1) (lv' := [(7, .int (nI (k + 1))), (8, .int (nI (cols * k + co))), (5, .long (lN cn)), (4, .int (nI (cols * r_ + co))), (0, .ref (ad 3)), (1, .ref (q 0)), (2, .int (nI co)), (3, .int (nI r_))]) hx hb dX2_before_100 hl (k := 1) rfl rfl (by decide) (by decide) rfl (fun ls hl => ?_)
        refine lv_goto (tgt := 29) hx hb dX2_before_103 (by decide) ?_
        exact ih_1 ((k + 1), cn) ls (by dsimp only; omega) ⟨lv_sub hl [0, 2, 3, 4, 5, 6, 7] rfl, by omega, by rw [sumN_S, bfF, if_neg (fun q9 => q9.1 cm2)]; omega⟩
      · refine lv_aload_n hx hb dX2_before_58 rfl (lv_at hl 4 rfl) ?_
        refine ct_get (v := .ref (ad 4)) B hP kX2 3 rfl 1 (Nat.le_of_ble_eq_true rfl) q216 rfl dX2_before_59 ?_
        refine lv_aload_n hx hb dX2_before_62 rfl (lv_at hl 5 rfl) ?_
        refine ct_get (v := .ref (q 3)) B hT0 kX9 0 rfl 4 (Nat.le_of_ble_eq_true rfl) q402 rfl dX2_before_63 ?_
        refine lv_iload hx hb dX2_before_66 (lv_at hl 0 rfl) ?_
        refine ct_iald (f := f 2) B hT0 3 rfl hiy (by omega) dX2_before_68 ?_
        refine W.eq (g2 := F0 m 69 ls [.int (nI b_s), .ref (ad 4)]) (by rw [hb_s]) ?_
        refine lv_aload_n hx hb dX2_before_69 rfl (lv_at hl 5 rfl) ?_
        refine lv_iload hx hb dX2_before_70 (lv_at hl 0 rfl) ?_
        refine ct_callR (ct_runV (As := [.int (nI (cols * k + co))]) (rest := [.int (nI b_s), .ref (ad 4)]) B (met_X9_length l E  q cols rows (cols * k + co) f (cw (cols * k + co)) s.heap.size hiy hn (hTDc _ hiy).1 (hTDc _ hiy).2.1) (lw_V q452 q453 q454 q57 q455) (n := 1) ⟨by decide, by decide, by decide +kernel⟩ rfl ⟨rfl, rfl, (Nat.le_of_ble_eq_true rfl), (Nat.le_of_ble_eq_true rfl), (Nat.le_of_ble_eq_true rfl), (Nat.le_of_ble_eq_true rfl)⟩ (va_S.rf (A := fun _ => False)) (fun _ h => h.elim) (ct_recv B hT0 kX9 0 rfl) hT0 hl.1 (Nat.le_of_ble_eq_true rfl) dX2_before_72) (fun v hv => ?_)
        subst hv
        refine W.eq (g2 := F0 m 75 ls [.int (nI ((cw (cols * k + co)).1.length)), .int (nI b_s), .ref (ad 4)]) rfl ?_
        refine lv_aload_n hx hb dX2_before_75 rfl (lv_at hl 5 rfl) ?_
        refine ct_get (v := .ref (q 3)) B hT0 kX9 0 rfl 4 (Nat.le_of_ble_eq_true rfl) q402 rfl dX2_before_76 ?_
        refine lv_iload hx hb dX2_before_79 (lv_at hl 3 rfl) ?_
        refine ct_iald (f := f 2) B hT0 3 rfl hix (by omega) dX2_before_81 ?_
        refine W.eq (g2 := F0 m 82 ls [.int (nI a_s), .int (nI ((cw (cols * k + co)).1.length)), .int (nI b_s), .ref (ad 4)]) (by rw [ha_s]) ?_
        refine lv_aload_n hx hb dX2_before_82 rfl (lv_at hl 5 rfl) ?_
        refine lv_iload hx hb dX2_before_83 (lv_at hl 3 rfl) ?_
        refine ct_callR (ct_runV (As := [.int (nI (cols * r_ + co))]) (rest := [.int (nI a_s), .int (nI ((cw (cols * k + co)).1.length)), .int (nI b_s), .ref (ad 4)]) B (met_X9_length l E  q cols rows (cols * r_ + co) f (cw (cols * r_ + co)) s.heap.size hix hn (hTDc _ hix).1 (hTDc _ hix).2.1) (lw_V q452 q453 q454 q57 q455) (n := 1) ⟨by decide, by decide, by decide +kernel⟩ rfl ⟨rfl, rfl, (Nat.le_of_ble_eq_true rfl), (Nat.le_of_ble_eq_true rfl), (Nat.le_of_ble_eq_true rfl), (Nat.le_of_ble_eq_true rfl)⟩ (va_S.rf (A := fun _ => False)) (fun _ h => h.elim) (ct_recv B hT0 kX9 0 rfl) hT0 hl.1 (Nat.le_of_ble_eq_true rfl) dX2_before_85) (fun v hv => ?_)
        subst hv
        refine W.eq (g2 := F0 m 88 ls [.int (nI ((cw (cols * r_ + co)).1.length)), .int (nI a_s), .int (nI ((cw (cols * k + co)).1.length)), .int (nI b_s), .ref (ad 4)]) rfl ?_
        refine ct_callR (ct_runV (As := [.int (nI b_s), .int (nI ((cw (cols * k + co)).1.length)), .int (nI a_s), .int (nI ((cw (cols * r_ + co)).1.length))]) (rest := []) B (met_X3_compare l E ad F O S made all wn wb P R b_s a_s ((cw (cols * k + co)).1) ((cw (cols * r_ + co)).1) s.heap.size htb hta) (lw_V q585 q586 q587 q51 q588) (n := 4) ⟨by decide, by decide, by decide +kernel⟩ rfl ⟨rfl, rfl, (Nat.le_of_ble_eq_true rfl), (Nat.le_of_ble_eq_true rfl), (Nat.le_of_ble_eq_true rfl), (Nat.le_of_ble_eq_true rfl)⟩ (va_S.rf (A := fun _ => False)) (fun _ h => h.elim) (ct_recv B hP kX3 4 rfl) hP hl.1 (Nat.le_of_ble_eq_true rfl) dX2_before_88) (fun v hv => ?_)
        subst hv
        refine W.eq (g2 := F0 m 91 ls [.int (cmpI ((cw (cols * k + co)).1) ((cw (cols * r_ + co)).1))]) rfl ?_
        refine lv_if_ge (tgt := 100) hx hb dX2_before_91 (by decide) (fun ccm => ?_) (fun ccm => ?_)
        · refine n_iinc (n := 1) (lv' := [(7, .int (nI (k + 1))), (8, .int (nI (cols * k + co))), (5, .long (lN cn)), (4, .int (nI (cols * r_ + co))), (0, .ref (ad 3)), (1, .ref (q 0)), (2, .int (nI co)), (3, .int (nI r_))]) hx hb dX2_before_100 hl (k := 1) rfl rfl (by decide) (by decide) rfl (fun ls hl => ?_)
          refine lv_goto (tgt := 29) hx hb dX2_before_103 (by decide) ?_
          exact ih_1 ((k + 1), cn) ls (by dsimp only; omega) ⟨lv_sub hl [0, 2, 3, 4, 5, 6, 7] rfl, by omega, by rw [sumN_S, bfF, if_neg (fun q9 => Int32.not_lt.mpr ccm q9.2)]; omega⟩
        · refine lv_lload hx hb dX2_before_94 (lv_at hl 2 rfl) ?_
          refine lv_lconst (v := lN 1) hx hb dX2_before_96 (by decide) ?_
          refine m_ladd hx hb dX2_before_97 ?_
          refine lv_lstore (lv' := [(5, .long (lN (cn + 1))), (8, .int (nI (cols * k + co))), (7, .int (nI k)), (4, .int (nI (cols * r_ + co))), (0, .ref (ad 3)), (1, .ref (q 0)), (2, .int (nI co)), (3, .int (nI r_))]) hx hb dX2_before_98 hl (by decide) rfl (fun ls hl => ?_)
          refine n_iinc (n := 1) (lv' := [(7, .int (nI (k + 1))), (5, .long (lN (cn + 1))), (8, .int (nI (cols * k + co))), (4, .int (nI (cols * r_ + co))), (0, .ref (ad 3)), (1, .ref (q 0)), (2, .int (nI co)), (3, .int (nI r_))]) hx hb dX2_before_100 hl (k := 2) rfl rfl (by decide) (by decide) rfl (fun ls hl => ?_)
          refine lv_goto (tgt := 29) hx hb dX2_before_103 (by decide) ?_
          exact ih_1 ((k + 1), (cn + 1)) ls (by dsimp only; omega) ⟨lv_sub hl [0, 1, 3, 4, 5, 6, 7] rfl, by omega, by rw [sumN_S, bfF, if_pos ⟨cm2, Int32.not_le.mp ccm⟩]; omega⟩
  · refine lv_ldc2 (v := (-1)) hx hb B.2.2.1 (B.2.2.2.1 _ q584) dX2_before_19 ?_
    exact ct_lretR (v := (-1)) B (by rw [befV, if_pos cm]) dX2_before_22
set_option maxHeartbeats 4000000 in
set_option maxRecDepth 100000 in
theorem met_X13_bits (l : Launch) (E : CE)  (x : UInt64) (sz : Nat)  : Met l yX13_bits (ws_ yX13_bits cX13_bits 3 (some .long)) { frames := 1, cells := 0, slots := 0, locals := 25 } (ctP E [.int (nI 7), .double x] sz (fun H => True)) (ctR (fun v => v = some (.long x.toInt64))) 0 0 (fun _ => False) := by
  refine ct_start (by decide) (Nat.le_of_ble_eq_true rfl) ?_
  intro p e s m below meth c ls B hsz hH hl
  have hx := B.1
  have hb := B.2.1
  have hl : lv_has ls 3 [(0, .int (nI 7)), (1, .double x)] := hl
  refine lv_iload_n hx hb dX13_bits_0 rfl (lv_at hl 0 rfl) ?_
  refine lv_bipush (v := nI 6) hx hb dX13_bits_1 (by decide) ?_
  refine n_icmp_ne (tgt := 19) hx hb dX13_bits_3 (by decide) (by omega) (by omega) (fun c_1 => ?_) (fun c_1 => absurd c_1 (by omega))
  refine lv_dload_n hx hb dX13_bits_19 rfl (lv_at hl 1 rfl) ?_
  refine vn_d2l hx hb (B.2.2.2.2.2.2.1.trans hl.1.symm) B.2.2.1 (B.2.2.2.1 _ q577) (B.2.2.2.1 _ q579) (B.2.2.2.1 _ q578) (B.2.2.2.1 _ q77) (Nat.le_of_ble_eq_true rfl) (Nat.le_of_ble_eq_true rfl) dX13_bits_20 ?_
  exact ct_lretR (v := x.toInt64) B (rfl) dX13_bits_23
set_option maxHeartbeats 4000000 in
set_option maxRecDepth 100000 in
theorem met_X2_value (l : Launch) (E : CE) (ad : Nat → Nat) (F : XF) (O : XO) (S : XS) (made : Nat) (all : Nat → Option Nat) (wn : Nat) (wb : Nat → Int32) (P : XP) (R : XR) (q : Nat → Nat) (cols rows k9 ln a : Nat) (f : Nat → Nat → Int32) (w : Wd) (sz : Nat) (hk9 : k9 < cols * rows) (hn : cols * rows < 2147483648) (hw : f 3 k9 = encL w) (hwl : w.1.length ≤ 40) (ha : f 2 k9 = nI a) (ht : tAt wb a w.1) (hln : ln ≤ 8) (hok : valOK ln w) : Met l yX2_value (ws_ yX2_value cX2_value 15 (some .long)) { frames := 2, cells := 0, slots := 0, locals := 47 } (ctP E [.ref (ad 3), .ref (q 0), .int (nI k9), .int (nI ln)] sz (fun H => va_P E.1 ct_cl (xw E ad F O S (made, all, wn, wb) P R) H ∧ va_P E.1 ct_cl (tw E q cols rows f) H)) (ctR (fun v => v = some (.long (valC ln w)))) 0 0 (fun _ => False) := by
  refine ct_start (by decide) (Nat.le_of_ble_eq_true rfl) ?_
  intro p e s m below meth c ls B hsz hH hl
  obtain ⟨hP, hT0⟩ := hH
  have hx := B.1
  have hb := B.2.1
  have hl : lv_has ls 15 [(0, .ref (ad 3)), (1, .ref (q 0)), (2, .int (nI k9)), (3, .int (nI ln))] := hl
  have hta := ht.2.2
  refine lv_aload_n hx hb dX2_value_0 rfl (lv_at hl 1 rfl) ?_
  refine lv_iload_n hx hb dX2_value_1 rfl (lv_at hl 2 rfl) ?_
  refine ct_callR (ct_runV (As := [.int (nI k9)]) (rest := []) B (met_X9_isMissing l E  q cols rows k9 f w s.heap.size hk9 hn hw hwl) (lw_V q436 q437 q438 q57 q439) (n := 1) ⟨by decide, by decide, by decide +kernel⟩ rfl ⟨rfl, rfl, (Nat.le_of_ble_eq_true rfl), (Nat.le_of_ble_eq_true rfl), (Nat.le_of_ble_eq_true rfl), (Nat.le_of_ble_eq_true rfl)⟩ (va_S.rf (A := fun _ => False)) (fun _ h => h.elim) (ct_recv B hT0 kX9 0 rfl) hT0 hl.1 (Nat.le_of_ble_eq_true rfl) dX2_value_2) (fun v hv => ?_)
  subst hv
  refine W.eq (g2 := F0 m 5 ls [.int (if w.1 = [] ∧ w.2 = false then 1 else 0)]) rfl ?_
  refine b_if_eq (tgt := 10) hx hb dX2_value_5 (by decide) (fun cmi => ?_) (fun cmi => ?_)
  · refine lv_aload_n hx hb dX2_value_10 rfl (lv_at hl 1 rfl) ?_
    refine ct_get (v := .ref (q 3)) B hT0 kX9 0 rfl 4 (Nat.le_of_ble_eq_true rfl) q402 rfl dX2_value_11 ?_
    refine lv_iload_n hx hb dX2_value_14 rfl (lv_at hl 2 rfl) ?_
    refine ct_iald (f := f 2) B hT0 3 rfl hk9 hn dX2_value_15 ?_
    refine W.eq (g2 := F0 m 16 ls [.int (nI a)]) (by rw [ha]) ?_
    refine lv_istore (lv' := [(4, .int (nI a)), (0, .ref (ad 3)), (1, .ref (q 0)), (2, .int (nI k9)), (3, .int (nI ln))]) hx hb dX2_value_16 hl (by decide) rfl (fun ls hl => ?_)
    refine lv_aload_n hx hb dX2_value_18 rfl (lv_at hl 2 rfl) ?_
    refine lv_iload_n hx hb dX2_value_19 rfl (lv_at hl 3 rfl) ?_
    refine ct_callR (ct_runV (As := [.int (nI k9)]) (rest := []) B (met_X9_length l E  q cols rows k9 f w s.heap.size hk9 hn hw hwl) (lw_V q452 q453 q454 q57 q455) (n := 1) ⟨by decide, by decide, by decide +kernel⟩ rfl ⟨rfl, rfl, (Nat.le_of_ble_eq_true rfl), (Nat.le_of_ble_eq_true rfl), (Nat.le_of_ble_eq_true rfl), (Nat.le_of_ble_eq_true rfl)⟩ (va_S.rf (A := fun _ => False)) (fun _ h => h.elim) (ct_recv B hT0 kX9 0 rfl) hT0 hl.1 (Nat.le_of_ble_eq_true rfl) dX2_value_20) (fun v hv => ?_)
    subst hv
    refine W.eq (g2 := F0 m 23 ls [.int (nI w.1.length)]) rfl ?_
    refine lv_istore (lv' := [(5, .int (nI w.1.length)), (4, .int (nI a)), (0, .ref (ad 3)), (1, .ref (q 0)), (2, .int (nI k9)), (3, .int (nI ln))]) hx hb dX2_value_23 hl (by decide) rfl (fun ls hl => ?_)
    refine lv_iload_n hx hb dX2_value_25 rfl (lv_at hl 5 rfl) ?_
    refine n_if_ne (tgt := 41) hx hb dX2_value_26 (by decide) (by omega) (fun cl0 => ?_) (fun cl0 => ?_)
    · obtain ⟨hq, hdg, h7⟩ := hok cmi cl0
      have hpos := miss_pos cmi hq
      refine lv_aload_n hx hb dX2_value_41 rfl (lv_at hl 2 rfl) ?_
      refine ct_get (v := .ref (ad 4)) B hP kX2 3 rfl 1 (Nat.le_of_ble_eq_true rfl) q216 rfl dX2_value_42 ?_
      refine ct_getN (v := .ref (ad 5)) B hP kX3 4 rfl 0 (Nat.le_of_ble_eq_true rfl) ct_nw_0 rfl dX2_value_45 ?_
      refine lv_iload hx hb dX2_value_48 (lv_at hl 1 rfl) ?_
      refine ct_bald (f := wb) B hP 5 rfl (by omega) (by omega) dX2_value_50 ?_
      refine W.eq (g2 := F0 m 51 ls [.int (nI (w.1.getD 0 0))]) (by rw [(show wb a = nI (w.1.getD 0 0) from ht.1 0 hpos)]) ?_
      refine lv_bipush (v := nI 45) hx hb dX2_value_51 (by decide) ?_
      refine n_icmp_ne (tgt := 60) hx hb dX2_value_53 (by decide) (by have := tAt_rg ht hpos; omega) (by omega) (fun c45 => ?_) (fun c45 => ?_)
      · refine lv_iconst (v := nI 0) hx hb dX2_value_60 (by decide) ?_
        refine lv_istore (lv' := [(6, .int (nI 0)), (5, .int (nI w.1.length)), (4, .int (nI a)), (0, .ref (ad 3)), (1, .ref (q 0)), (2, .int (nI k9)), (3, .int (nI ln))]) hx hb dX2_value_61 hl (by decide) rfl (fun ls hl => ?_)
        refine lv_lconst (v := 0) hx hb dX2_value_63 (by decide) ?_
        refine W.eq (g2 := F0 m 64 ls [.long (-(lN 0))]) (by rw [show (0 : Int64) = -(lN 0) from by decide] <;> rfl) ?_
        refine lv_lstore (lv' := [(7, .long (-(lN 0))), (6, .int (nI 0)), (5, .int (nI w.1.length)), (4, .int (nI a)), (0, .ref (ad 3)), (1, .ref (q 0)), (2, .int (nI k9)), (3, .int (nI ln))]) hx hb dX2_value_64 hl (by decide) rfl (fun ls hl => ?_)
        refine lv_iconst (v := nI 0) hx hb dX2_value_66 (by decide) ?_
        refine lv_istore (lv' := [(9, .int (nI 0)), (7, .long (-(lN 0))), (6, .int (nI 0)), (5, .int (nI w.1.length)), (4, .int (nI a)), (0, .ref (ad 3)), (1, .ref (q 0)), (2, .int (nI k9)), (3, .int (nI ln))]) hx hb dX2_value_67 hl (by decide) rfl (fun ls hl => ?_)
        refine lv_iconst (v := nI 0) hx hb dX2_value_69 (by decide) ?_
        refine lv_istore (lv' := [(10, .int (nI 0)), (9, .int (nI 0)), (7, .long (-(lN 0))), (6, .int (nI 0)), (5, .int (nI w.1.length)), (4, .int (nI a)), (0, .ref (ad 3)), (1, .ref (q 0)), (2, .int (nI k9)), (3, .int (nI ln))]) hx hb dX2_value_70 hl (by decide) rfl (fun ls hl => ?_)
        refine lv_iload hx hb dX2_value_72 (lv_at hl 3 rfl) ?_
        refine n_if_eq (tgt := 81) hx hb dX2_value_74 (by decide) (by omega) (fun c_1 => ?_) (fun c_1 => absurd c_1 (by omega))
        refine lv_iconst (v := nI 0) hx hb dX2_value_81 (by decide) ?_
        refine lv_istore (lv' := [(11, .int (nI 0)), (10, .int (nI 0)), (9, .int (nI 0)), (7, .long (-(lN 0))), (6, .int (nI 0)), (5, .int (nI w.1.length)), (4, .int (nI a)), (0, .ref (ad 3)), (1, .ref (q 0)), (2, .int (nI k9)), (3, .int (nI ln))]) hx hb dX2_value_82 hl (by decide) rfl (fun ls hl => ?_)
        refine ct_loop (σ := Nat × Nat × Nat × Nat) (fun (k, V, bh, pf) ls => lv_has ls 15 [(11, .int (nI k)), (10, .int (nI pf)), (9, .int (nI bh)), (7, .long (-(lN V))), (6, .int (nI 0)), (5, .int (nI w.1.length)), (4, .int (nI a)), (0, .ref (ad 3)), (1, .ref (q 0)), (2, .int (nI k9)), (3, .int (nI ln))] ∧ (0 ≤ k) ∧ (k ≤ w.1.length) ∧ (pf ≤ 1) ∧ (accD ((w.1.take k).drop 0) = (V, bh, decide (pf = 1)))) (fun (k, V, bh, pf) => w.1.length - k) (g := fun (k, V, bh, pf) ls => F0 m 84 ls []) (x0 := (0, 0, 0, 0)) (ls0 := ls) ?_ ⟨lv_sub hl [0, 1, 2, 3, 4, 5, 6, 7, 8, 9, 10] rfl, Nat.le_refl _, by omega, by omega, accD_0⟩
        clear hl
        intro x9 ls hI ih_2
        obtain ⟨k, V, bh, pf⟩ := x9
        obtain ⟨hl, hk1, hk2, hpf, hac⟩ := hI
        refine W.eq (g2 := F0 m 84 ls []) rfl ?_
        refine lv_iload hx hb dX2_value_84 (lv_at hl 0 rfl) ?_
        refine lv_iload hx hb dX2_value_86 (lv_at hl 5 rfl) ?_
        refine n_icmp_ge (tgt := 148) hx hb dX2_value_88 (by decide) (by omega) (by omega) (fun c_3 => ?_) (fun c_3 => ?_)
        · have hfr : frW w = 0 := if_neg c45
          have hA : accD (w.1.drop (frW w)) = (V, bh, decide (pf = 1)) := by rw [hfr, ← hac, show k = w.1.length by omega, List.take_length]
          refine lv_iload_n hx hb dX2_value_148 rfl (lv_at hl 10 rfl) ?_
          refine lv_bipush (v := nI 7) hx hb dX2_value_149 (by decide) ?_
          refine n_icmp_eq (tgt := 168) hx hb dX2_value_151 (by decide) (by omega) (by omega) (fun c7 => ?_) (fun c7 => ?_)
          · have hbh : bh ≤ 14 := by have := (h7 c7).1; rw [hA] at this; exact this
            refine lv_dconst1 hx hb dX2_value_168 ?_
            refine lv_dstore (lv' := [(11, .double FP.dconst1), (10, .int (nI pf)), (9, .int (nI bh)), (7, .long (-(lN V))), (6, .int (nI 0)), (5, .int (nI w.1.length)), (4, .int (nI a)), (0, .ref (ad 3)), (1, .ref (q 0)), (2, .int (nI k9)), (3, .int (nI ln))]) hx hb dX2_value_169 hl (by decide) rfl (fun ls hl => ?_)
            refine lv_iconst (v := nI 0) hx hb dX2_value_171 (by decide) ?_
            refine lv_istore (lv' := [(13, .int (nI 0)), (11, .double FP.dconst1), (10, .int (nI pf)), (9, .int (nI bh)), (7, .long (-(lN V))), (6, .int (nI 0)), (5, .int (nI w.1.length)), (4, .int (nI a)), (0, .ref (ad 3)), (1, .ref (q 0)), (2, .int (nI k9)), (3, .int (nI ln))]) hx hb dX2_value_172 hl (by decide) rfl (fun ls hl => ?_)
            refine ct_loop (σ := Nat) (fun j ls => lv_has ls 15 [(13, .int (nI j)), (11, .double (tenD j)), (10, .int (nI pf)), (9, .int (nI bh)), (7, .long (-(lN V))), (6, .int (nI 0)), (5, .int (nI w.1.length)), (4, .int (nI a)), (0, .ref (ad 3)), (1, .ref (q 0)), (2, .int (nI k9)), (3, .int (nI ln))] ∧ (j ≤ bh)) (fun j => bh - j) (g := fun j ls => F0 m 174 ls []) (x0 := 0) (ls0 := ls) ?_ ⟨lv_sub hl [0, 1, 2, 3, 4, 5, 6, 7, 8, 9, 10, 11] rfl, Nat.zero_le _⟩
            clear hl
            intro j ls hI ih_4
            obtain ⟨hl, hj⟩ := hI
            refine W.eq (g2 := F0 m 174 ls []) rfl ?_
            refine lv_iload hx hb dX2_value_174 (lv_at hl 0 rfl) ?_
            refine lv_iload hx hb dX2_value_176 (lv_at hl 3 rfl) ?_
            refine n_icmp_ge (tgt := 195) hx hb dX2_value_178 (by decide) (by omega) (by omega) (fun c_5 => ?_) (fun c_5 => ?_)
            · have ej : j = bh := by omega
              rw [ej] at hl
              refine lv_lload hx hb dX2_value_195 (lv_at hl 4 rfl) ?_
              refine lv_lneg hx hb dX2_value_197 ?_
              refine W.eq (g2 := F0 m 198 ls [.long (lN V)]) (by rw [i64_nn]) ?_
              refine lv_l2d hx hb dX2_value_198 ?_
              refine lv_dload hx hb dX2_value_199 (lv_at hl 1 rfl) ?_
              refine lv_ddiv hx hb dX2_value_201 (by have := (h7 c7).2; rw [hA] at this; exact this) ?_
              refine lv_dstore (lv' := [(13, .double (FP.ddiv (FP.l2d (lN V)) (tenD bh))), (11, .double (tenD bh)), (10, .int (nI pf)), (9, .int (nI bh)), (7, .long (-(lN V))), (6, .int (nI 0)), (5, .int (nI w.1.length)), (4, .int (nI a)), (0, .ref (ad 3)), (1, .ref (q 0)), (2, .int (nI k9)), (3, .int (nI ln))]) hx hb dX2_value_202 hl (by decide) rfl (fun ls hl => ?_)
              refine lv_bipush (v := nI 7) hx hb dX2_value_204 (by decide) ?_
              refine lv_iload hx hb dX2_value_206 (lv_at hl 5 rfl) ?_
              refine n_if_eq (tgt := 217) hx hb dX2_value_208 (by decide) (by omega) (fun c_6 => ?_) (fun c_6 => absurd c_6 (by omega))
              refine lv_dload hx hb dX2_value_217 (lv_at hl 0 rfl) ?_
              refine ct_callR (ct_runS (As := [.int (nI 7), .double (FP.ddiv (FP.l2d (lN V)) (tenD bh))]) (rest := []) B (met_X13_bits l E  (FP.ddiv (FP.l2d (lN V)) (tenD bh)) s.heap.size) (lw_S q570 q571 q75 q572) (n := 2) ⟨by decide, by decide, by decide +kernel⟩ rfl ⟨rfl, rfl, (Nat.le_of_ble_eq_true rfl), (Nat.le_of_ble_eq_true rfl), (Nat.le_of_ble_eq_true rfl), (Nat.le_of_ble_eq_true rfl)⟩ (va_S.rf (A := fun _ => False)) (fun _ h => h.elim) trivial hl.1 (Nat.le_of_ble_eq_true rfl) dX2_value_219) (fun v hv => ?_)
              subst hv
              refine W.eq (g2 := F0 m 222 ls [.long ((FP.ddiv (FP.l2d (lN V)) (tenD bh)).toInt64)]) rfl ?_
              exact ct_lretR (v := (FP.ddiv (FP.l2d (lN V)) (tenD bh)).toInt64) B (by rw [valC, if_neg cmi, if_neg cl0, if_neg (fun q9 => q9 c7), hA, hfr]; rfl) dX2_value_222
            · refine lv_dload hx hb dX2_value_181 (lv_at hl 1 rfl) ?_
              refine lv_ldc2d (v := 4621819117588971520) hx hb B.2.2.1 (B.2.2.2.1 _ q569) dX2_value_183 ?_
              refine lv_dmul hx hb dX2_value_186 (tenD_nn j (by omega)) ?_
              refine W.eq (g2 := F0 m 187 ls [.double (tenD (j + 1))]) rfl ?_
              refine lv_dstore (lv' := [(11, .double (tenD (j + 1))), (13, .int (nI j)), (10, .int (nI pf)), (9, .int (nI bh)), (7, .long (-(lN V))), (6, .int (nI 0)), (5, .int (nI w.1.length)), (4, .int (nI a)), (0, .ref (ad 3)), (1, .ref (q 0)), (2, .int (nI k9)), (3, .int (nI ln))]) hx hb dX2_value_187 hl (by decide) rfl (fun ls hl => ?_)
              refine n_iinc (n := 1) (lv' := [(13, .int (nI (j + 1))), (11, .double (tenD (j + 1))), (10, .int (nI pf)), (9, .int (nI bh)), (7, .long (-(lN V))), (6, .int (nI 0)), (5, .int (nI w.1.length)), (4, .int (nI a)), (0, .ref (ad 3)), (1, .ref (q 0)), (2, .int (nI k9)), (3, .int (nI ln))]) hx hb dX2_value_189 hl (k := 1) rfl rfl (by decide) (by decide) rfl (fun ls hl => ?_)
              refine lv_goto (tgt := 174) hx hb dX2_value_192 (by decide) ?_
              exact ih_4 (j + 1) ls (by omega) ⟨lv_sub hl [0, 1, 2, 3, 4, 5, 6, 7, 8, 9, 10, 11] rfl, by omega⟩
          · refine lv_iload hx hb dX2_value_154 (lv_at hl 4 rfl) ?_
            refine n_if_eq (tgt := 164) hx hb dX2_value_156 (by decide) (by omega) (fun c_7 => ?_) (fun c_7 => absurd c_7 (by omega))
            refine lv_lload hx hb dX2_value_164 (lv_at hl 3 rfl) ?_
            refine lv_lneg hx hb dX2_value_166 ?_
            exact ct_lretR (v := -(-(lN V))) B (by rw [valC, if_neg cmi, if_neg cl0, if_pos c7, hA, hfr]; rw [i64_nn]; rfl) dX2_value_167
        · refine lv_aload_n hx hb dX2_value_91 rfl (lv_at hl 7 rfl) ?_
          refine ct_get (v := .ref (ad 4)) B hP kX2 3 rfl 1 (Nat.le_of_ble_eq_true rfl) q216 rfl dX2_value_92 ?_
          refine ct_getN (v := .ref (ad 5)) B hP kX3 4 rfl 0 (Nat.le_of_ble_eq_true rfl) ct_nw_0 rfl dX2_value_95 ?_
          refine lv_iload hx hb dX2_value_98 (lv_at hl 6 rfl) ?_
          refine lv_iload hx hb dX2_value_100 (lv_at hl 0 rfl) ?_
          refine n_iadd hx hb dX2_value_102 ?_
          refine ct_bald (f := wb) B hP 5 rfl (by omega) (by omega) dX2_value_103 ?_
          refine W.eq (g2 := F0 m 104 ls [.int (nI (w.1.getD k 0))]) (by rw [ht.1 k (by omega)]) ?_
          refine lv_istore (lv' := [(12, .int (nI (w.1.getD k 0))), (11, .int (nI k)), (10, .int (nI pf)), (9, .int (nI bh)), (7, .long (-(lN V))), (6, .int (nI 0)), (5, .int (nI w.1.length)), (4, .int (nI a)), (0, .ref (ad 3)), (1, .ref (q 0)), (2, .int (nI k9)), (3, .int (nI ln))]) hx hb dX2_value_104 hl (by decide) rfl (fun ls hl => ?_)
          refine lv_iload hx hb dX2_value_106 (lv_at hl 0 rfl) ?_
          refine lv_bipush (v := nI 46) hx hb dX2_value_108 (by decide) ?_
          refine n_icmp_ne (tgt := 119) hx hb dX2_value_110 (by decide) (by have := tAt_rg ht (j := k) (by omega); omega) (by omega) (fun cpt => ?_) (fun cpt => ?_)
          · have hdk : isD (w.1.getD k 0) := by rcases hdg k (by rw [frW]; first | (rw [if_pos c45]; omega) | (rw [if_neg c45]; omega)) (by omega) with q9 | q9; exact q9; exact absurd q9 cpt
            have hdk1 := hdk.1
            refine lv_ldc2 (v := (10)) hx hb B.2.2.1 (B.2.2.2.1 _ q522) dX2_value_119 ?_
            refine lv_lload hx hb dX2_value_122 (lv_at hl 4 rfl) ?_
            refine lv_lmul hx hb dX2_value_124 ?_
            refine lv_iload hx hb dX2_value_125 (lv_at hl 0 rfl) ?_
            refine lv_bipush (v := nI 48) hx hb dX2_value_127 (by decide) ?_
            refine n_isub hx hb hdk1 dX2_value_129 ?_
            refine lv_i2l (v := lN (w.1.getD k 0 - 48)) hx hb dX2_value_130 (nI_l (by have := hdk.2; omega)) ?_
            refine lv_lsub hx hb dX2_value_131 ?_
            refine W.eq (g2 := F0 m 132 ls [.long (-(lN (10 * V + (w.1.getD k 0 - 48))))]) (by rw [acc_neg]) ?_
            refine lv_lstore (lv' := [(7, .long (-(lN (10 * V + (w.1.getD k 0 - 48))))), (12, .int (nI (w.1.getD k 0))), (11, .int (nI k)), (10, .int (nI pf)), (9, .int (nI bh)), (6, .int (nI 0)), (5, .int (nI w.1.length)), (4, .int (nI a)), (0, .ref (ad 3)), (1, .ref (q 0)), (2, .int (nI k9)), (3, .int (nI ln))]) hx hb dX2_value_132 hl (by decide) rfl (fun ls hl => ?_)
            refine lv_iload hx hb dX2_value_134 (lv_at hl 3 rfl) ?_
            refine n_if_eq (tgt := 142) hx hb dX2_value_136 (by decide) (by omega) (fun cpf => ?_) (fun cpf => ?_)
            · refine n_iinc (n := 1) (lv' := [(11, .int (nI (k + 1))), (7, .long (-(lN (10 * V + (w.1.getD k 0 - 48))))), (12, .int (nI (w.1.getD k 0))), (10, .int (nI pf)), (9, .int (nI bh)), (6, .int (nI 0)), (5, .int (nI w.1.length)), (4, .int (nI a)), (0, .ref (ad 3)), (1, .ref (q 0)), (2, .int (nI k9)), (3, .int (nI ln))]) hx hb dX2_value_142 hl (k := 2) rfl rfl (by decide) (by decide) rfl (fun ls hl => ?_)
              refine lv_goto (tgt := 84) hx hb dX2_value_145 (by decide) ?_
              exact ih_2 ((k + 1), (10 * V + (w.1.getD k 0 - 48)), bh, pf) ls (by dsimp only; omega) ⟨lv_sub hl [0, 3, 4, 1, 5, 6, 7, 8, 9, 10, 11] rfl, by omega, by omega, by omega, by rw [accD_S hk1 (by omega), hac, accS, if_neg cpt]; dsimp only; rw [if_neg (by rw [decide_eq_true_iff]; omega)]⟩
            · refine n_iinc (n := 1) (lv' := [(9, .int (nI (bh + 1))), (7, .long (-(lN (10 * V + (w.1.getD k 0 - 48))))), (12, .int (nI (w.1.getD k 0))), (11, .int (nI k)), (10, .int (nI pf)), (6, .int (nI 0)), (5, .int (nI w.1.length)), (4, .int (nI a)), (0, .ref (ad 3)), (1, .ref (q 0)), (2, .int (nI k9)), (3, .int (nI ln))]) hx hb dX2_value_139 hl (k := 4) rfl rfl (by decide) (by decide) rfl (fun ls hl => ?_)
              refine n_iinc (n := 1) (lv' := [(11, .int (nI (k + 1))), (9, .int (nI (bh + 1))), (7, .long (-(lN (10 * V + (w.1.getD k 0 - 48))))), (12, .int (nI (w.1.getD k 0))), (10, .int (nI pf)), (6, .int (nI 0)), (5, .int (nI w.1.length)), (4, .int (nI a)), (0, .ref (ad 3)), (1, .ref (q 0)), (2, .int (nI k9)), (3, .int (nI ln))]) hx hb dX2_value_142 hl (k := 3) rfl rfl (by decide) (by decide) rfl (fun ls hl => ?_)
              refine lv_goto (tgt := 84) hx hb dX2_value_145 (by decide) ?_
              exact ih_2 ((k + 1), (10 * V + (w.1.getD k 0 - 48)), (bh + 1), pf) ls (by dsimp only; omega) ⟨lv_sub hl [0, 4, 1, 2, 5, 6, 7, 8, 9, 10, 11] rfl, by omega, by omega, by omega, by rw [accD_S hk1 (by omega), hac, accS, if_neg cpt]; dsimp only; rw [if_pos (by rw [decide_eq_true_iff]; omega)]⟩
          · refine lv_iconst (v := nI 1) hx hb dX2_value_113 (by decide) ?_
            refine lv_istore (lv' := [(10, .int (nI 1)), (12, .int (nI (w.1.getD k 0))), (11, .int (nI k)), (9, .int (nI bh)), (7, .long (-(lN V))), (6, .int (nI 0)), (5, .int (nI w.1.length)), (4, .int (nI a)), (0, .ref (ad 3)), (1, .ref (q 0)), (2, .int (nI k9)), (3, .int (nI ln))]) hx hb dX2_value_114 hl (by decide) rfl (fun ls hl => ?_)
            refine lv_goto (tgt := 142) hx hb dX2_value_116 (by decide) ?_
            refine n_iinc (n := 1) (lv' := [(11, .int (nI (k + 1))), (10, .int (nI 1)), (12, .int (nI (w.1.getD k 0))), (9, .int (nI bh)), (7, .long (-(lN V))), (6, .int (nI 0)), (5, .int (nI w.1.length)), (4, .int (nI a)), (0, .ref (ad 3)), (1, .ref (q 0)), (2, .int (nI k9)), (3, .int (nI ln))]) hx hb dX2_value_142 hl (k := 2) rfl rfl (by decide) (by decide) rfl (fun ls hl => ?_)
            refine lv_goto (tgt := 84) hx hb dX2_value_145 (by decide) ?_
            exact ih_2 ((k + 1), V, bh, 1) ls (by dsimp only; omega) ⟨lv_sub hl [0, 1, 3, 4, 5, 6, 7, 8, 9, 10, 11] rfl, by omega, by omega, by omega, by rw [accD_S hk1 (by omega), hac, accS, if_pos cpt]; rfl⟩
      · refine lv_iconst (v := nI 1) hx hb dX2_value_56 (by decide) ?_
        refine lv_goto (tgt := 61) hx hb dX2_value_57 (by decide) ?_
        refine lv_istore (lv' := [(6, .int (nI 1)), (5, .int (nI w.1.length)), (4, .int (nI a)), (0, .ref (ad 3)), (1, .ref (q 0)), (2, .int (nI k9)), (3, .int (nI ln))]) hx hb dX2_value_61 hl (by decide) rfl (fun ls hl => ?_)
        refine lv_lconst (v := 0) hx hb dX2_value_63 (by decide) ?_
        refine W.eq (g2 := F0 m 64 ls [.long (-(lN 0))]) (by rw [show (0 : Int64) = -(lN 0) from by decide] <;> rfl) ?_
        refine lv_lstore (lv' := [(7, .long (-(lN 0))), (6, .int (nI 1)), (5, .int (nI w.1.length)), (4, .int (nI a)), (0, .ref (ad 3)), (1, .ref (q 0)), (2, .int (nI k9)), (3, .int (nI ln))]) hx hb dX2_value_64 hl (by decide) rfl (fun ls hl => ?_)
        refine lv_iconst (v := nI 0) hx hb dX2_value_66 (by decide) ?_
        refine lv_istore (lv' := [(9, .int (nI 0)), (7, .long (-(lN 0))), (6, .int (nI 1)), (5, .int (nI w.1.length)), (4, .int (nI a)), (0, .ref (ad 3)), (1, .ref (q 0)), (2, .int (nI k9)), (3, .int (nI ln))]) hx hb dX2_value_67 hl (by decide) rfl (fun ls hl => ?_)
        refine lv_iconst (v := nI 0) hx hb dX2_value_69 (by decide) ?_
        refine lv_istore (lv' := [(10, .int (nI 0)), (9, .int (nI 0)), (7, .long (-(lN 0))), (6, .int (nI 1)), (5, .int (nI w.1.length)), (4, .int (nI a)), (0, .ref (ad 3)), (1, .ref (q 0)), (2, .int (nI k9)), (3, .int (nI ln))]) hx hb dX2_value_70 hl (by decide) rfl (fun ls hl => ?_)
        refine lv_iload hx hb dX2_value_72 (lv_at hl 3 rfl) ?_
        refine n_if_eq (tgt := 81) hx hb dX2_value_74 (by decide) (by omega) (fun c_8 => absurd c_8 (by omega)) (fun c_8 => ?_)
        refine lv_iconst (v := nI 1) hx hb dX2_value_77 (by decide) ?_
        refine lv_goto (tgt := 82) hx hb dX2_value_78 (by decide) ?_
        refine lv_istore (lv' := [(11, .int (nI 1)), (10, .int (nI 0)), (9, .int (nI 0)), (7, .long (-(lN 0))), (6, .int (nI 1)), (5, .int (nI w.1.length)), (4, .int (nI a)), (0, .ref (ad 3)), (1, .ref (q 0)), (2, .int (nI k9)), (3, .int (nI ln))]) hx hb dX2_value_82 hl (by decide) rfl (fun ls hl => ?_)
        refine ct_loop (σ := Nat × Nat × Nat × Nat) (fun (k, V, bh, pf) ls => lv_has ls 15 [(11, .int (nI k)), (10, .int (nI pf)), (9, .int (nI bh)), (7, .long (-(lN V))), (6, .int (nI 1)), (5, .int (nI w.1.length)), (4, .int (nI a)), (0, .ref (ad 3)), (1, .ref (q 0)), (2, .int (nI k9)), (3, .int (nI ln))] ∧ (1 ≤ k) ∧ (k ≤ w.1.length) ∧ (pf ≤ 1) ∧ (accD ((w.1.take k).drop 1) = (V, bh, decide (pf = 1)))) (fun (k, V, bh, pf) => w.1.length - k) (g := fun (k, V, bh, pf) ls => F0 m 84 ls []) (x0 := (1, 0, 0, 0)) (ls0 := ls) ?_ ⟨lv_sub hl [0, 1, 2, 3, 4, 5, 6, 7, 8, 9, 10] rfl, Nat.le_refl _, by omega, by omega, accD_0⟩
        clear hl
        intro x9 ls hI ih_9
        obtain ⟨k, V, bh, pf⟩ := x9
        obtain ⟨hl, hk1, hk2, hpf, hac⟩ := hI
        refine W.eq (g2 := F0 m 84 ls []) rfl ?_
        refine lv_iload hx hb dX2_value_84 (lv_at hl 0 rfl) ?_
        refine lv_iload hx hb dX2_value_86 (lv_at hl 5 rfl) ?_
        refine n_icmp_ge (tgt := 148) hx hb dX2_value_88 (by decide) (by omega) (by omega) (fun c_10 => ?_) (fun c_10 => ?_)
        · have hfr : frW w = 1 := if_pos c45
          have hA : accD (w.1.drop (frW w)) = (V, bh, decide (pf = 1)) := by rw [hfr, ← hac, show k = w.1.length by omega, List.take_length]
          refine lv_iload_n hx hb dX2_value_148 rfl (lv_at hl 10 rfl) ?_
          refine lv_bipush (v := nI 7) hx hb dX2_value_149 (by decide) ?_
          refine n_icmp_eq (tgt := 168) hx hb dX2_value_151 (by decide) (by omega) (by omega) (fun c7 => ?_) (fun c7 => ?_)
          · have hbh : bh ≤ 14 := by have := (h7 c7).1; rw [hA] at this; exact this
            refine lv_dconst1 hx hb dX2_value_168 ?_
            refine lv_dstore (lv' := [(11, .double FP.dconst1), (10, .int (nI pf)), (9, .int (nI bh)), (7, .long (-(lN V))), (6, .int (nI 1)), (5, .int (nI w.1.length)), (4, .int (nI a)), (0, .ref (ad 3)), (1, .ref (q 0)), (2, .int (nI k9)), (3, .int (nI ln))]) hx hb dX2_value_169 hl (by decide) rfl (fun ls hl => ?_)
            refine lv_iconst (v := nI 0) hx hb dX2_value_171 (by decide) ?_
            refine lv_istore (lv' := [(13, .int (nI 0)), (11, .double FP.dconst1), (10, .int (nI pf)), (9, .int (nI bh)), (7, .long (-(lN V))), (6, .int (nI 1)), (5, .int (nI w.1.length)), (4, .int (nI a)), (0, .ref (ad 3)), (1, .ref (q 0)), (2, .int (nI k9)), (3, .int (nI ln))]) hx hb dX2_value_172 hl (by decide) rfl (fun ls hl => ?_)
            refine ct_loop (σ := Nat) (fun j ls => lv_has ls 15 [(13, .int (nI j)), (11, .double (tenD j)), (10, .int (nI pf)), (9, .int (nI bh)), (7, .long (-(lN V))), (6, .int (nI 1)), (5, .int (nI w.1.length)), (4, .int (nI a)), (0, .ref (ad 3)), (1, .ref (q 0)), (2, .int (nI k9)), (3, .int (nI ln))] ∧ (j ≤ bh)) (fun j => bh - j) (g := fun j ls => F0 m 174 ls []) (x0 := 0) (ls0 := ls) ?_ ⟨lv_sub hl [0, 1, 2, 3, 4, 5, 6, 7, 8, 9, 10, 11] rfl, Nat.zero_le _⟩
            clear hl
            intro j ls hI ih_11
            obtain ⟨hl, hj⟩ := hI
            refine W.eq (g2 := F0 m 174 ls []) rfl ?_
            refine lv_iload hx hb dX2_value_174 (lv_at hl 0 rfl) ?_
            refine lv_iload hx hb dX2_value_176 (lv_at hl 3 rfl) ?_
            refine n_icmp_ge (tgt := 195) hx hb dX2_value_178 (by decide) (by omega) (by omega) (fun c_12 => ?_) (fun c_12 => ?_)
            · have ej : j = bh := by omega
              rw [ej] at hl
              refine lv_lload hx hb dX2_value_195 (lv_at hl 4 rfl) ?_
              refine lv_lneg hx hb dX2_value_197 ?_
              refine W.eq (g2 := F0 m 198 ls [.long (lN V)]) (by rw [i64_nn]) ?_
              refine lv_l2d hx hb dX2_value_198 ?_
              refine lv_dload hx hb dX2_value_199 (lv_at hl 1 rfl) ?_
              refine lv_ddiv hx hb dX2_value_201 (by have := (h7 c7).2; rw [hA] at this; exact this) ?_
              refine lv_dstore (lv' := [(13, .double (FP.ddiv (FP.l2d (lN V)) (tenD bh))), (11, .double (tenD bh)), (10, .int (nI pf)), (9, .int (nI bh)), (7, .long (-(lN V))), (6, .int (nI 1)), (5, .int (nI w.1.length)), (4, .int (nI a)), (0, .ref (ad 3)), (1, .ref (q 0)), (2, .int (nI k9)), (3, .int (nI ln))]) hx hb dX2_value_202 hl (by decide) rfl (fun ls hl => ?_)
              refine lv_bipush (v := nI 7) hx hb dX2_value_204 (by decide) ?_
              refine lv_iload hx hb dX2_value_206 (lv_at hl 5 rfl) ?_
              refine n_if_eq (tgt := 217) hx hb dX2_value_208 (by decide) (by omega) (fun c_13 => absurd c_13 (by omega)) (fun c_13 => ?_)
              refine lv_dload hx hb dX2_value_211 (lv_at hl 0 rfl) ?_
              refine lv_dneg hx hb dX2_value_213 ?_
              refine lv_goto (tgt := 219) hx hb dX2_value_214 (by decide) ?_
              refine ct_callR (ct_runS (As := [.int (nI 7), .double (FP.dneg (FP.ddiv (FP.l2d (lN V)) (tenD bh)))]) (rest := []) B (met_X13_bits l E  (FP.dneg (FP.ddiv (FP.l2d (lN V)) (tenD bh))) s.heap.size) (lw_S q570 q571 q75 q572) (n := 2) ⟨by decide, by decide, by decide +kernel⟩ rfl ⟨rfl, rfl, (Nat.le_of_ble_eq_true rfl), (Nat.le_of_ble_eq_true rfl), (Nat.le_of_ble_eq_true rfl), (Nat.le_of_ble_eq_true rfl)⟩ (va_S.rf (A := fun _ => False)) (fun _ h => h.elim) trivial hl.1 (Nat.le_of_ble_eq_true rfl) dX2_value_219) (fun v hv => ?_)
              subst hv
              refine W.eq (g2 := F0 m 222 ls [.long ((FP.dneg (FP.ddiv (FP.l2d (lN V)) (tenD bh))).toInt64)]) rfl ?_
              exact ct_lretR (v := (FP.dneg (FP.ddiv (FP.l2d (lN V)) (tenD bh))).toInt64) B (by rw [valC, if_neg cmi, if_neg cl0, if_neg (fun q9 => q9 c7), hA, hfr]; rfl) dX2_value_222
            · refine lv_dload hx hb dX2_value_181 (lv_at hl 1 rfl) ?_
              refine lv_ldc2d (v := 4621819117588971520) hx hb B.2.2.1 (B.2.2.2.1 _ q569) dX2_value_183 ?_
              refine lv_dmul hx hb dX2_value_186 (tenD_nn j (by omega)) ?_
              refine W.eq (g2 := F0 m 187 ls [.double (tenD (j + 1))]) rfl ?_
              refine lv_dstore (lv' := [(11, .double (tenD (j + 1))), (13, .int (nI j)), (10, .int (nI pf)), (9, .int (nI bh)), (7, .long (-(lN V))), (6, .int (nI 1)), (5, .int (nI w.1.length)), (4, .int (nI a)), (0, .ref (ad 3)), (1, .ref (q 0)), (2, .int (nI k9)), (3, .int (nI ln))]) hx hb dX2_value_187 hl (by decide) rfl (fun ls hl => ?_)
              refine n_iinc (n := 1) (lv' := [(13, .int (nI (j + 1))), (11, .double (tenD (j + 1))), (10, .int (nI pf)), (9, .int (nI bh)), (7, .long (-(lN V))), (6, .int (nI 1)), (5, .int (nI w.1.length)), (4, .int (nI a)), (0, .ref (ad 3)), (1, .ref (q 0)), (2, .int (nI k9)), (3, .int (nI ln))]) hx hb dX2_value_189 hl (k := 1) rfl rfl (by decide) (by decide) rfl (fun ls hl => ?_)
              refine lv_goto (tgt := 174) hx hb dX2_value_192 (by decide) ?_
              exact ih_11 (j + 1) ls (by omega) ⟨lv_sub hl [0, 1, 2, 3, 4, 5, 6, 7, 8, 9, 10, 11] rfl, by omega⟩
          · refine lv_iload hx hb dX2_value_154 (lv_at hl 4 rfl) ?_
            refine n_if_eq (tgt := 164) hx hb dX2_value_156 (by decide) (by omega) (fun c_14 => absurd c_14 (by omega)) (fun c_14 => ?_)
            refine lv_lload hx hb dX2_value_159 (lv_at hl 3 rfl) ?_
            refine lv_goto (tgt := 167) hx hb dX2_value_161 (by decide) ?_
            exact ct_lretR (v := (-(lN V))) B (by rw [valC, if_neg cmi, if_neg cl0, if_pos c7, hA, hfr]; rfl) dX2_value_167
        · refine lv_aload_n hx hb dX2_value_91 rfl (lv_at hl 7 rfl) ?_
          refine ct_get (v := .ref (ad 4)) B hP kX2 3 rfl 1 (Nat.le_of_ble_eq_true rfl) q216 rfl dX2_value_92 ?_
          refine ct_getN (v := .ref (ad 5)) B hP kX3 4 rfl 0 (Nat.le_of_ble_eq_true rfl) ct_nw_0 rfl dX2_value_95 ?_
          refine lv_iload hx hb dX2_value_98 (lv_at hl 6 rfl) ?_
          refine lv_iload hx hb dX2_value_100 (lv_at hl 0 rfl) ?_
          refine n_iadd hx hb dX2_value_102 ?_
          refine ct_bald (f := wb) B hP 5 rfl (by omega) (by omega) dX2_value_103 ?_
          refine W.eq (g2 := F0 m 104 ls [.int (nI (w.1.getD k 0))]) (by rw [ht.1 k (by omega)]) ?_
          refine lv_istore (lv' := [(12, .int (nI (w.1.getD k 0))), (11, .int (nI k)), (10, .int (nI pf)), (9, .int (nI bh)), (7, .long (-(lN V))), (6, .int (nI 1)), (5, .int (nI w.1.length)), (4, .int (nI a)), (0, .ref (ad 3)), (1, .ref (q 0)), (2, .int (nI k9)), (3, .int (nI ln))]) hx hb dX2_value_104 hl (by decide) rfl (fun ls hl => ?_)
          refine lv_iload hx hb dX2_value_106 (lv_at hl 0 rfl) ?_
          refine lv_bipush (v := nI 46) hx hb dX2_value_108 (by decide) ?_
          refine n_icmp_ne (tgt := 119) hx hb dX2_value_110 (by decide) (by have := tAt_rg ht (j := k) (by omega); omega) (by omega) (fun cpt => ?_) (fun cpt => ?_)
          · have hdk : isD (w.1.getD k 0) := by rcases hdg k (by rw [frW]; first | (rw [if_pos c45]; omega) | (rw [if_neg c45]; omega)) (by omega) with q9 | q9; exact q9; exact absurd q9 cpt
            have hdk1 := hdk.1
            refine lv_ldc2 (v := (10)) hx hb B.2.2.1 (B.2.2.2.1 _ q522) dX2_value_119 ?_
            refine lv_lload hx hb dX2_value_122 (lv_at hl 4 rfl) ?_
            refine lv_lmul hx hb dX2_value_124 ?_
            refine lv_iload hx hb dX2_value_125 (lv_at hl 0 rfl) ?_
            refine lv_bipush (v := nI 48) hx hb dX2_value_127 (by decide) ?_
            refine n_isub hx hb hdk1 dX2_value_129 ?_
            refine lv_i2l (v := lN (w.1.getD k 0 - 48)) hx hb dX2_value_130 (nI_l (by have := hdk.2; omega)) ?_
            refine lv_lsub hx hb dX2_value_131 ?_
            refine W.eq (g2 := F0 m 132 ls [.long (-(lN (10 * V + (w.1.getD k 0 - 48))))]) (by rw [acc_neg]) ?_
            refine lv_lstore (lv' := [(7, .long (-(lN (10 * V + (w.1.getD k 0 - 48))))), (12, .int (nI (w.1.getD k 0))), (11, .int (nI k)), (10, .int (nI pf)), (9, .int (nI bh)), (6, .int (nI 1)), (5, .int (nI w.1.length)), (4, .int (nI a)), (0, .ref (ad 3)), (1, .ref (q 0)), (2, .int (nI k9)), (3, .int (nI ln))]) hx hb dX2_value_132 hl (by decide) rfl (fun ls hl => ?_)
            refine lv_iload hx hb dX2_value_134 (lv_at hl 3 rfl) ?_
            refine n_if_eq (tgt := 142) hx hb dX2_value_136 (by decide) (by omega) (fun cpf => ?_) (fun cpf => ?_)
            · refine n_iinc (n := 1) (lv' := [(11, .int (nI (k + 1))), (7, .long (-(lN (10 * V + (w.1.getD k 0 - 48))))), (12, .int (nI (w.1.getD k 0))), (10, .int (nI pf)), (9, .int (nI bh)), (6, .int (nI 1)), (5, .int (nI w.1.length)), (4, .int (nI a)), (0, .ref (ad 3)), (1, .ref (q 0)), (2, .int (nI k9)), (3, .int (nI ln))]) hx hb dX2_value_142 hl (k := 2) rfl rfl (by decide) (by decide) rfl (fun ls hl => ?_)
              refine lv_goto (tgt := 84) hx hb dX2_value_145 (by decide) ?_
              exact ih_9 ((k + 1), (10 * V + (w.1.getD k 0 - 48)), bh, pf) ls (by dsimp only; omega) ⟨lv_sub hl [0, 3, 4, 1, 5, 6, 7, 8, 9, 10, 11] rfl, by omega, by omega, by omega, by rw [accD_S hk1 (by omega), hac, accS, if_neg cpt]; dsimp only; rw [if_neg (by rw [decide_eq_true_iff]; omega)]⟩
            · refine n_iinc (n := 1) (lv' := [(9, .int (nI (bh + 1))), (7, .long (-(lN (10 * V + (w.1.getD k 0 - 48))))), (12, .int (nI (w.1.getD k 0))), (11, .int (nI k)), (10, .int (nI pf)), (6, .int (nI 1)), (5, .int (nI w.1.length)), (4, .int (nI a)), (0, .ref (ad 3)), (1, .ref (q 0)), (2, .int (nI k9)), (3, .int (nI ln))]) hx hb dX2_value_139 hl (k := 4) rfl rfl (by decide) (by decide) rfl (fun ls hl => ?_)
              refine n_iinc (n := 1) (lv' := [(11, .int (nI (k + 1))), (9, .int (nI (bh + 1))), (7, .long (-(lN (10 * V + (w.1.getD k 0 - 48))))), (12, .int (nI (w.1.getD k 0))), (10, .int (nI pf)), (6, .int (nI 1)), (5, .int (nI w.1.length)), (4, .int (nI a)), (0, .ref (ad 3)), (1, .ref (q 0)), (2, .int (nI k9)), (3, .int (nI ln))]) hx hb dX2_value_142 hl (k := 3) rfl rfl (by decide) (by decide) rfl (fun ls hl => ?_)
              refine lv_goto (tgt := 84) hx hb dX2_value_145 (by decide) ?_
              exact ih_9 ((k + 1), (10 * V + (w.1.getD k 0 - 48)), (bh + 1), pf) ls (by dsimp only; omega) ⟨lv_sub hl [0, 4, 1, 2, 5, 6, 7, 8, 9, 10, 11] rfl, by omega, by omega, by omega, by rw [accD_S hk1 (by omega), hac, accS, if_neg cpt]; dsimp only; rw [if_pos (by rw [decide_eq_true_iff]; omega)]⟩
          · refine lv_iconst (v := nI 1) hx hb dX2_value_113 (by decide) ?_
            refine lv_istore (lv' := [(10, .int (nI 1)), (12, .int (nI (w.1.getD k 0))), (11, .int (nI k)), (9, .int (nI bh)), (7, .long (-(lN V))), (6, .int (nI 1)), (5, .int (nI w.1.length)), (4, .int (nI a)), (0, .ref (ad 3)), (1, .ref (q 0)), (2, .int (nI k9)), (3, .int (nI ln))]) hx hb dX2_value_114 hl (by decide) rfl (fun ls hl => ?_)
            refine lv_goto (tgt := 142) hx hb dX2_value_116 (by decide) ?_
            refine n_iinc (n := 1) (lv' := [(11, .int (nI (k + 1))), (10, .int (nI 1)), (12, .int (nI (w.1.getD k 0))), (9, .int (nI bh)), (7, .long (-(lN V))), (6, .int (nI 1)), (5, .int (nI w.1.length)), (4, .int (nI a)), (0, .ref (ad 3)), (1, .ref (q 0)), (2, .int (nI k9)), (3, .int (nI ln))]) hx hb dX2_value_142 hl (k := 2) rfl rfl (by decide) (by decide) rfl (fun ls hl => ?_)
            refine lv_goto (tgt := 84) hx hb dX2_value_145 (by decide) ?_
            exact ih_9 ((k + 1), V, bh, 1) ls (by dsimp only; omega) ⟨lv_sub hl [0, 1, 3, 4, 5, 6, 7, 8, 9, 10, 11] rfl, by omega, by omega, by omega, by rw [accD_S hk1 (by omega), hac, accS, if_pos cpt]; rfl⟩
    · refine lv_iload hx hb dX2_value_29 (lv_at hl 0 rfl) ?_
      refine lv_iconst (v := nI 4) hx hb dX2_value_31 (by decide) ?_
      refine n_icmp_ne (tgt := 39) hx hb dX2_value_32 (by decide) (by omega) (by omega) (fun c4 => ?_) (fun c4 => ?_)
      · refine lv_lconst (v := 0) hx hb dX2_value_39 (by decide) ?_
        exact ct_lretR (v := 0) B (by rw [valC, if_neg cmi, if_pos cl0, if_neg c4]) dX2_value_40
      · refine lv_lconst (v := 1) hx hb dX2_value_35 (by decide) ?_
        refine lv_goto (tgt := 40) hx hb dX2_value_36 (by decide) ?_
        exact ct_lretR (v := 1) B (by rw [valC, if_neg cmi, if_pos cl0, if_pos c4]) dX2_value_40
  · refine lv_lconst (v := 0) hx hb dX2_value_8 (by decide) ?_
    exact ct_lretR (v := 0) B (by rw [valC, if_pos cmi]) dX2_value_9
