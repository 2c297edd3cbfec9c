set_option maxHeartbeats 4000000 in
set_option maxRecDepth 100000 in
theorem met_X2_needsMarks (l : Launch) (E : CE) (ad : Nat → Nat) (F : XF) (O : XO) (S : XS) (made : Nat) (all : Nat → Option Nat) (wn : Nat) (wb : Nat → Int32) (P : XP) (R : XR) (a : Nat) (t : List Nat) (sz : Nat) (ht : tAt wb a t) : Met l yX2_needsMarks (ws_ yX2_needsMarks cX2_needsMarks 4 (some .boolean)) { frames := 0, cells := 0, slots := 0, locals := 0 } (ctP E [.ref (ad 3), .int (nI a), .int (nI t.length)] sz (fun H => va_P E.1 ct_cl (xw E ad F O S (made, all, wn, wb) P R) H)) (ctR (fun v => v = some (.int (if nMk t then 1 else 0)))) 0 0 (fun _ => False) := by
  refine ct_start (by decide) (Nat.le_of_ble_eq_true rfl) ?_
  intro p e s m below meth c ls B hsz hH hl
  have hP := hH
  have hx := B.1
  have hb := B.2.1
  have hl : lv_has ls 4 [(0, .ref (ad 3)), (1, .int (nI a)), (2, .int (nI t.length))] := hl
  have hta := ht.2.2
  refine lv_iload_n hx hb dX2_needsMarks_0 rfl (lv_at hl 2 rfl) ?_
  refine n_if_eq (tgt := 36) hx hb dX2_needsMarks_1 (by decide) (by omega) (fun c0 => ?_) (fun c0 => ?_)
  · refine lv_iconst (v := nI 1) hx hb dX2_needsMarks_36 (by decide) ?_
    exact ct_iretR (ty := .boolean) (v := (nI 1)) B rfl rfl (by rw [if_pos (Or.inl c0)] <;> rfl) dX2_needsMarks_37
  · refine lv_aload_n hx hb dX2_needsMarks_4 rfl (lv_at hl 0 rfl) ?_
    refine ct_get (v := .ref (ad 4)) B hP kX2 3 rfl 1 (Nat.le_of_ble_eq_true rfl) q216 rfl dX2_needsMarks_5 ?_
    refine ct_getN (v := .ref (ad 5)) B hP kX3 4 rfl 0 (Nat.le_of_ble_eq_true rfl) ct_nw_0 rfl dX2_needsMarks_8 ?_
    refine lv_iload_n hx hb dX2_needsMarks_11 rfl (lv_at hl 1 rfl) ?_
    refine ct_bald (f := wb) B hP 5 rfl (by omega) (by omega) dX2_needsMarks_12 ?_
    refine W.eq (g2 := F0 m 13 ls [.int (nI (t.getD 0 0))]) (by rw [(show wb a = nI (t.getD 0 0) from ht.1 0 (by omega))]) ?_
    refine lv_bipush (v := nI 32) hx hb dX2_needsMarks_13 (by decide) ?_
    refine n_icmp_eq (tgt := 36) hx hb dX2_needsMarks_15 (by decide) (by have := tAt_rg ht (j := 0) (by omega); omega) (by omega) (fun c1 => ?_) (fun c1 => ?_)
    · refine lv_iconst (v := nI 1) hx hb dX2_needsMarks_36 (by decide) ?_
      exact ct_iretR (ty := .boolean) (v := (nI 1)) B rfl rfl (by rw [if_pos (Or.inr (Or.inl c1))] <;> rfl) dX2_needsMarks_37
    · refine lv_aload_n hx hb dX2_needsMarks_18 rfl (lv_at hl 0 rfl) ?_
      refine ct_get (v := .ref (ad 4)) B hP kX2 3 rfl 1 (Nat.le_of_ble_eq_true rfl) q216 rfl dX2_needsMarks_19 ?_
      refine ct_getN (v := .ref (ad 5)) B hP kX3 4 rfl 0 (Nat.le_of_ble_eq_true rfl) ct_nw_0 rfl dX2_needsMarks_22 ?_
      refine lv_iload_n hx hb dX2_needsMarks_25 rfl (lv_at hl 1 rfl) ?_
      refine lv_iload_n hx hb dX2_needsMarks_26 rfl (lv_at hl 2 rfl) ?_
      refine n_iadd hx hb dX2_needsMarks_27 ?_
      refine lv_iconst (v := nI 1) hx hb dX2_needsMarks_28 (by decide) ?_
      refine n_isub hx hb (by omega) dX2_needsMarks_29 ?_
      refine ct_bald (f := wb) B hP 5 rfl (by omega) (by omega) dX2_needsMarks_30 ?_
      refine W.eq (g2 := F0 m 31 ls [.int (nI (t.getD (t.length - 1) 0))]) (by rw [(show wb (a + t.length - 1) = nI (t.getD (t.length - 1) 0) from by have e9 := ht.1 (t.length - 1) (by omega); rwa [show a + (t.length - 1) = a + t.length - 1 by omega] at e9)]) ?_
      refine lv_bipush (v := nI 32) hx hb dX2_needsMarks_31 (by decide) ?_
      refine n_icmp_ne (tgt := 38) hx hb dX2_needsMarks_33 (by decide) (by have := tAt_rg ht (j := t.length - 1) (by omega); omega) (by omega) (fun c2 => ?_) (fun c2 => ?_)
      · refine lv_iconst (v := nI 0) hx hb dX2_needsMarks_38 (by decide) ?_
        refine lv_istore_n (lv' := [(3, .int (nI 0)), (0, .ref (ad 3)), (1, .int (nI a)), (2, .int (nI t.length))]) hx hb dX2_needsMarks_39 rfl hl (by decide) rfl (fun ls hl => ?_)
        refine ct_loop (σ := Nat) (fun k ls => lv_has ls 4 [(3, .int (nI k)), (0, .ref (ad 3)), (1, .int (nI a)), (2, .int (nI t.length))] ∧ (k ≤ t.length) ∧ (∀ j, j < k → ¬ (t.getD j 0 = 34 ∨ t.getD j 0 = 44))) (fun k => t.length - k) (g := fun k ls => F0 m 40 ls []) (x0 := 0) (ls0 := ls) ?_ ⟨lv_sub hl [0, 1, 2, 3] rfl, Nat.zero_le _, fun j hj => absurd hj (Nat.not_lt_zero j)⟩
        clear hl
        intro k ls hI ih_1
        obtain ⟨hl, hk, hno⟩ := hI
        refine W.eq (g2 := F0 m 40 ls []) rfl ?_
        refine lv_iload_n hx hb dX2_needsMarks_40 rfl (lv_at hl 0 rfl) ?_
        refine lv_iload_n hx hb dX2_needsMarks_41 rfl (lv_at hl 3 rfl) ?_
        refine n_icmp_ge (tgt := 85) hx hb dX2_needsMarks_42 (by decide) (by omega) (by omega) (fun c_2 => ?_) (fun c_2 => ?_)
        · refine lv_iconst (v := nI 0) hx hb dX2_needsMarks_85 (by decide) ?_
          exact ct_iretR (ty := .boolean) (v := (nI 0)) B rfl rfl (by rw [if_neg (fun q9 => by rcases q9 with q9 | q9 | q9 | ⟨j, hj, q9⟩; exact c0 q9; exact c1 q9; exact c2 q9; exact hno j (by omega) q9)] <;> rfl) dX2_needsMarks_86
        · refine lv_aload_n hx hb dX2_needsMarks_45 rfl (lv_at hl 1 rfl) ?_
          refine ct_get (v := .ref (ad 4)) B hP kX2 3 rfl 1 (Nat.le_of_ble_eq_true rfl) q216 rfl dX2_needsMarks_46 ?_
          refine ct_getN (v := .ref (ad 5)) B hP kX3 4 rfl 0 (Nat.le_of_ble_eq_true rfl) ct_nw_0 rfl dX2_needsMarks_49 ?_
          refine lv_iload_n hx hb dX2_needsMarks_52 rfl (lv_at hl 2 rfl) ?_
          refine lv_iload_n hx hb dX2_needsMarks_53 rfl (lv_at hl 0 rfl) ?_
          refine n_iadd hx hb dX2_needsMarks_54 ?_
          refine ct_bald (f := wb) B hP 5 rfl (by omega) (by omega) dX2_needsMarks_55 ?_
          refine W.eq (g2 := F0 m 56 ls [.int (nI (t.getD k 0))]) (by rw [ht.1 k (by omega)]) ?_
          refine lv_bipush (v := nI 34) hx hb dX2_needsMarks_56 (by decide) ?_
          refine n_icmp_eq (tgt := 77) hx hb dX2_needsMarks_58 (by decide) (by have := tAt_rg ht (j := k) (by omega); omega) (by omega) (fun c34 => ?_) (fun c34 => ?_)
          · refine lv_iconst (v := nI 1) hx hb dX2_needsMarks_77 (by decide) ?_
            exact ct_iretR (ty := .boolean) (v := (nI 1)) B rfl rfl (by rw [if_pos (Or.inr (Or.inr (Or.inr ⟨k, by omega, Or.inl c34⟩)))] <;> rfl) dX2_needsMarks_78
          · refine lv_aload_n hx hb dX2_needsMarks_61 rfl (lv_at hl 1 rfl) ?_
            refine ct_get (v := .ref (ad 4)) B hP kX2 3 rfl 1 (Nat.le_of_ble_eq_true rfl) q216 rfl dX2_needsMarks_62 ?_
            refine ct_getN (v := .ref (ad 5)) B hP kX3 4 rfl 0 (Nat.le_of_ble_eq_true rfl) ct_nw_0 rfl dX2_needsMarks_65 ?_
            refine lv_iload_n hx hb dX2_needsMarks_68 rfl (lv_at hl 2 rfl) ?_
            refine lv_iload_n hx hb dX2_needsMarks_69 rfl (lv_at hl 0 rfl) ?_
            refine n_iadd hx hb dX2_needsMarks_70 ?_
            refine ct_bald (f := wb) B hP 5 rfl (by omega) (by omega) dX2_needsMarks_71 ?_
            refine W.eq (g2 := F0 m 72 ls [.int (nI (t.getD k 0))]) (by rw [ht.1 k (by omega)]) ?_
            refine lv_bipush (v := nI 44) hx hb dX2_needsMarks_72 (by decide) ?_
            refine n_icmp_ne (tgt := 79) hx hb dX2_needsMarks_74 (by decide) (by have := tAt_rg ht (j := k) (by omega); omega) (by omega) (fun c44 => ?_) (fun c44 => ?_)
            · refine n_iinc (n := 1) (lv' := [(3, .int (nI (k + 1))), (0, .ref (ad 3)), (1, .int (nI a)), (2, .int (nI t.length))]) hx hb dX2_needsMarks_79 hl (k := 0) rfl rfl (by decide) (by decide) rfl (fun ls hl => ?_)
              refine lv_goto (tgt := 40) hx hb dX2_needsMarks_82 (by decide) ?_
              exact ih_1 (k + 1) ls (by omega) ⟨lv_sub hl [0, 1, 2, 3] rfl, by omega, fun j hj => by rcases Nat.lt_succ_iff_lt_or_eq.mp hj with q9 | q9; exact hno j q9; rw [q9]; intro q8; rcases q8 with q8 | q8; exact c34 q8; exact c44 q8⟩
            · refine lv_iconst (v := nI 1) hx hb dX2_needsMarks_77 (by decide) ?_
              exact ct_iretR (ty := .boolean) (v := (nI 1)) B rfl rfl (by rw [if_pos (Or.inr (Or.inr (Or.inr ⟨k, by omega, Or.inr c44⟩)))] <;> rfl) dX2_needsMarks_78
      · refine lv_iconst (v := nI 1) hx hb dX2_needsMarks_36 (by decide) ?_
        exact ct_iretR (ty := .boolean) (v := (nI 1)) B rfl rfl (by rw [if_pos (Or.inr (Or.inr (Or.inl c2)))] <;> rfl) dX2_needsMarks_37
set_option maxHeartbeats 4000000 in
set_option maxRecDepth 100000 in
theorem met_X2_isMarked (l : Launch) (E : CE) (ad : Nat → Nat) (F : XF) (O : XO) (S : XS) (made : Nat) (all : Nat → Option Nat) (wn : Nat) (wb : Nat → Int32) (P : XP) (R : XR) (q : Nat → Nat) (cols rows co k a ln : Nat) (f : Nat → Nat → Int32) (w : Wd) (sz : Nat) (hk : k < cols * rows) (hn : cols * rows < 2147483648) (hw : f 3 k = encL w) (hwl : w.1.length ≤ 40) (ha : f 2 k = nI a) (ht : tAt wb a w.1) (hco : co < cols) (hcs : cols ≤ 16) (hl4 : f 4 co = nI ln) (hln : ln ≤ 8) : Met l yX2_isMarked (ws_ yX2_isMarked cX2_isMarked 4 (some .boolean)) { frames := 1, cells := 0, slots := 0, locals := 23 } (ctP E [.ref (ad 3), .ref (q 0), .int (nI co), .int (nI k)] sz (fun H => va_P E.1 ct_cl (xw E ad F O S (made, all, wn, wb) P R) H ∧ va_P E.1 ct_cl (tw E q cols rows f) H)) (ctR (fun v => v = some (.int (if nMk w.1 ∨ (ln = 8 ∧ w.2 = true) then 1 else 0)))) 0 0 (fun _ => False) := by
  refine ct_start (by decide) (Nat.le_of_ble_eq_true rfl) ?_
  intro p e s m below meth c ls B hsz hH hl
  obtain ⟨hP, hT0⟩ := hH
  have hx := B.1
  have hb := B.2.1
  have hl : lv_has ls 4 [(0, .ref (ad 3)), (1, .ref (q 0)), (2, .int (nI co)), (3, .int (nI k))] := hl
  refine lv_aload_n hx hb dX2_isMarked_0 rfl (lv_at hl 0 rfl) ?_
  refine lv_aload_n hx hb dX2_isMarked_1 rfl (lv_at hl 1 rfl) ?_
  refine ct_get (v := .ref (q 3)) B hT0 kX9 0 rfl 4 (Nat.le_of_ble_eq_true rfl) q402 rfl dX2_isMarked_2 ?_
  refine lv_iload_n hx hb dX2_isMarked_5 rfl (lv_at hl 3 rfl) ?_
  refine ct_iald (f := f 2) B hT0 3 rfl hk hn dX2_isMarked_6 ?_
  refine W.eq (g2 := F0 m 7 ls [.int (nI a), .ref (ad 3)]) (by rw [ha]) ?_
  refine lv_aload_n hx hb dX2_isMarked_7 rfl (lv_at hl 1 rfl) ?_
  refine lv_iload_n hx hb dX2_isMarked_8 rfl (lv_at hl 3 rfl) ?_
  refine ct_callR (ct_runV (As := [.int (nI k)]) (rest := [.int (nI a), .ref (ad 3)]) B (met_X9_length l E  q cols rows k f w s.heap.size hk hn hw hwl) (lw_V q452 q453 q454 q57 q455) (n := 1) ⟨by decide, by decide, by decide +kernel⟩ rfl ⟨rfl, rfl, (Nat.le_of_ble_eq_true rfl), (Nat.le_of_ble_eq_true rfl), (Nat.le_of_ble_eq_true rfl), (Nat.le_of_ble_eq_true rfl)⟩ (va_S.rf (A := fun _ => False)) (fun _ h => h.elim) (ct_recv B hT0 kX9 0 rfl) hT0 hl.1 (Nat.le_of_ble_eq_true rfl) dX2_isMarked_9) (fun v hv => ?_)
  subst hv
  refine W.eq (g2 := F0 m 12 ls [.int (nI w.1.length), .int (nI a), .ref (ad 3)]) rfl ?_
  refine ct_callR (ct_runV (As := [.int (nI a), .int (nI w.1.length)]) (rest := []) B (met_X2_needsMarks l E ad F O S made all wn wb P R a w.1 s.heap.size ht) (lw_V q677 q679 qs23 q50 q680) (n := 2) ⟨by decide, by decide, by decide +kernel⟩ rfl ⟨rfl, rfl, (Nat.le_of_ble_eq_true rfl), (Nat.le_of_ble_eq_true rfl), (Nat.le_of_ble_eq_true rfl), (Nat.le_of_ble_eq_true rfl)⟩ (va_S.rf (A := fun _ => False)) (fun _ h => h.elim) (ct_recv B hP kX2 3 rfl) hP hl.1 (Nat.le_of_ble_eq_true rfl) dX2_isMarked_12) (fun v hv => ?_)
  subst hv
  refine W.eq (g2 := F0 m 15 ls [.int (if nMk w.1 then 1 else 0)]) rfl ?_
  refine b_if_eq (tgt := 20) hx hb dX2_isMarked_15 (by decide) (fun cn => ?_) (fun cn => ?_)
  · refine lv_aload_n hx hb dX2_isMarked_20 rfl (lv_at hl 1 rfl) ?_
    refine ct_get (v := .ref (q 5)) B hT0 kX9 0 rfl 6 (Nat.le_of_ble_eq_true rfl) q408 rfl dX2_isMarked_21 ?_
    refine lv_iload_n hx hb dX2_isMarked_24 rfl (lv_at hl 2 rfl) ?_
    refine ct_iald (f := f 4) B hT0 5 rfl (by omega) (by omega) dX2_isMarked_25 ?_
    refine W.eq (g2 := F0 m 26 ls [.int (nI ln)]) (by rw [hl4]) ?_
    refine lv_bipush (v := nI 8) hx hb dX2_isMarked_26 (by decide) ?_
    refine n_icmp_ne (tgt := 43) hx hb dX2_isMarked_28 (by decide) (by omega) (by omega) (fun c8 => ?_) (fun c8 => ?_)
    · refine lv_iconst (v := nI 0) hx hb dX2_isMarked_43 (by decide) ?_
      exact ct_iretR (ty := .boolean) (v := (nI 0)) B rfl rfl (by rw [if_neg (fun q9 => by rcases q9 with q9 | q9; exact cn q9; exact c8 q9.1)] <;> rfl) dX2_isMarked_44
    · refine lv_aload_n hx hb dX2_isMarked_31 rfl (lv_at hl 1 rfl) ?_
      refine lv_iload_n hx hb dX2_isMarked_32 rfl (lv_at hl 3 rfl) ?_
      refine ct_callR (ct_runV (As := [.int (nI k)]) (rest := []) B (met_X9_isQuoted l E  q cols rows k f w s.heap.size hk hn hw hwl) (lw_V q456 q457 q458 q57 q459) (n := 1) ⟨by decide, by decide, by decide +kernel⟩ rfl ⟨rfl, rfl, (Nat.le_of_ble_eq_true rfl), (Nat.le_of_ble_eq_true rfl), (Nat.le_of_ble_eq_true rfl), (Nat.le_of_ble_eq_true rfl)⟩ (va_S.rf (A := fun _ => False)) (fun _ h => h.elim) (ct_recv B hT0 kX9 0 rfl) hT0 hl.1 (Nat.le_of_ble_eq_true rfl) dX2_isMarked_33) (fun v hv => ?_)
      subst hv
      refine W.eq (g2 := F0 m 36 ls [.int (if w.2 = true then 1 else 0)]) rfl ?_
      refine b_if_eq (tgt := 43) hx hb dX2_isMarked_36 (by decide) (fun cq => ?_) (fun cq => ?_)
      · refine lv_iconst (v := nI 0) hx hb dX2_isMarked_43 (by decide) ?_
        exact ct_iretR (ty := .boolean) (v := (nI 0)) B rfl rfl (by rw [if_neg (fun q9 => by rcases q9 with q9 | q9; exact cn q9; exact cq q9.2)] <;> rfl) dX2_isMarked_44
      · refine lv_iconst (v := nI 1) hx hb dX2_isMarked_39 (by decide) ?_
        refine lv_goto (tgt := 44) hx hb dX2_isMarked_40 (by decide) ?_
        exact ct_iretR (ty := .boolean) (v := (nI 1)) B rfl rfl (by rw [if_pos (Or.inr ⟨c8, cq⟩)] <;> rfl) dX2_isMarked_44
  · refine lv_iconst (v := nI 1) hx hb dX2_isMarked_18 (by decide) ?_
    exact ct_iretR (ty := .boolean) (v := (nI 1)) B rfl rfl (by rw [if_pos (Or.inl cn)] <;> rfl) dX2_isMarked_19
set_option maxHeartbeats 4000000 in
set_option maxRecDepth 100000 in
theorem met_X2_say (l : Launch) (E : CE) (ad : Nat → Nat) (F : XF) (ob : Nat → Int32) (on : Nat) (db : Nat → Int32) (dn : Nat) (S : XS) (made : Nat) (all : Nat → Option Nat) (wn : Nat) (wb : Nat → Int32) (P : XP) (R : XR) (a : Nat) (t : List Nat) (mk : Int32) (o : List Nat) (sz : Nat) (ht : tAt wb a t) (ho : outR db dn o) : Met l yX2_say (ws_ yX2_say cX2_say 7 (some .boolean)) { frames := 1, cells := 0, slots := 0, locals := 21 } (ctP E [.ref (ad 3), .ref (ad 18), .int (nI a), .int (nI t.length), .int mk] sz (fun H => va_P E.1 ct_cl (xw E ad F (ob, on, db, dn) S (made, all, wn, wb) P R) H ∧ va_D (fun q => E.2.2.1 ≤ q) (xw E ad F (ob, on, db, dn) S (made, all, wn, wb) P R))) (ctQ (fun v H => ∃ db2 : Nat → Int32, ∃ dn2 : Nat, v = some (.int (if (sayO t mk).length = 0 ∨ o.length + (sayO t mk).length ≤ 30000 then 1 else 0)) ∧ va_P E.1 ct_cl (xw E ad F (ob, on, db2, dn2) S (made, all, wn, wb) P R) H ∧ outR db2 dn2 (o ++ sayO t mk)) (va_A (xw E ad F (ob, on, db, dn) S (made, all, wn, wb) P R) sz)) 0 0 (va_A (xw E ad F (ob, on, db, dn) S (made, all, wn, wb) P R) sz) := by
  refine ct_start (by decide) (Nat.le_of_ble_eq_true rfl) ?_
  intro p e s m below meth c ls B hsz hH hl
  obtain ⟨hP, hD⟩ := hH
  obtain ⟨A, hAe, h, hA, hAn⟩ := ct_enter B.2.2.2.2.2.2.2.2 hsz hP hD
  rw [hAe]
  refine ct_gen h (fun H locs h => ?_)
  have hx := B.1
  have hb := B.2.1
  have hl : lv_has ls 7 [(0, .ref (ad 3)), (1, .ref (ad 18)), (2, .int (nI a)), (3, .int (nI t.length)), (4, .int mk)] := hl
  have hta := ht.2.2
  refine ct_joinH (σ := Nat × Nat × (Nat → Int32) × Nat × List Nat) (P := fun (gf, xn, d1, n1, px) H locs ls => lv_has ls 7 [(0, .ref (ad 3)), (1, .ref (ad 18)), (2, .int (nI a)), (3, .int (nI t.length)), (4, .int mk), (5, .int (nI gf))] ∧ Hs E A s.heap (xw E ad F (ob, on, d1, n1) S (made, all, wn, wb) P R) H locs ∧ (px = (if mk = 0 then [] else [34])) ∧ (xn = px.length) ∧ (outR d1 n1 (o ++ px)) ∧ ((gf = 1 ∧ (xn = 0 ∨ o.length + xn ≤ 30000)) ∨ (gf = 0 ∧ ¬ (xn = 0 ∨ o.length + xn ≤ 30000)))) (g := fun (gf, xn, d1, n1, px) ls => F0 m 21 ls []) (c1 := 0) (s1 := 0) (fun x9 H locs ls hI => ?_) (fun hJ_1 => ?_)
  · obtain ⟨gf, xn, d1, n1, px⟩ := x9
    obtain ⟨hl, h, hpx, hxn, hor, hfl⟩ := hI
    refine W.eq (g2 := F0 m 21 ls []) rfl ?_
    refine lv_iconst (v := nI 0) hx hb dX2_say_21 (by decide) ?_
    refine lv_istore (lv' := [(6, .int (nI 0)), (0, .ref (ad 3)), (1, .ref (ad 18)), (2, .int (nI a)), (3, .int (nI t.length)), (4, .int mk), (5, .int (nI gf))]) hx hb dX2_say_22 hl (by decide) rfl (fun ls hl => ?_)
    refine ct_loopH (σ := Nat × Nat × Nat × (Nat → Int32) × Nat) (fun (k, gf, xn, d1, n1) H locs ls => lv_has ls 7 [(6, .int (nI k)), (0, .ref (ad 3)), (1, .ref (ad 18)), (2, .int (nI a)), (3, .int (nI t.length)), (4, .int mk), (5, .int (nI gf))] ∧ Hs E A s.heap (xw E ad F (ob, on, d1, n1) S (made, all, wn, wb) P R) H locs ∧ (k ≤ t.length) ∧ (xn = (px ++ esc (t.take k)).length) ∧ (outR d1 n1 (o ++ (px ++ esc (t.take k)))) ∧ ((gf = 1 ∧ (xn = 0 ∨ o.length + xn ≤ 30000)) ∨ (gf = 0 ∧ ¬ (xn = 0 ∨ o.length + xn ≤ 30000)))) (fun (k, gf, xn, d1, n1) => t.length - k) (fun _ => 0) (fun _ => 0) (g := fun (k, gf, xn, d1, n1) ls => F0 m 24 ls []) (x0 := (0, gf, xn, d1, n1)) (ls0 := ls) ?_ ⟨lv_sub hl [0, 1, 2, 3, 4, 5, 6] rfl, h, Nat.zero_le _, by rw [show esc (t.take 0) = [] from rfl, List.append_nil]; exact hxn, by rw [show esc (t.take 0) = [] from rfl, List.append_nil]; exact hor, hfl⟩
    clear hl h
    intro x9 H locs ls hI ih_2
    obtain ⟨k, gf, xn, d1, n1⟩ := x9
    obtain ⟨hl, h, hk, hxn, hor, hfl⟩ := hI
    refine W.eq (g2 := F0 m 24 ls []) rfl ?_
    refine lv_iload hx hb dX2_say_24 (lv_at hl 0 rfl) ?_
    refine lv_iload_n hx hb dX2_say_26 rfl (lv_at hl 4 rfl) ?_
    refine n_icmp_ge (tgt := 105) hx hb dX2_say_27 (by decide) (by omega) (by omega) (fun c_3 => ?_) (fun c_3 => ?_)
    · refine lv_iload hx hb dX2_say_105 (lv_at hl 5 rfl) ?_
      refine lv_if_eq (tgt := 119) hx hb dX2_say_107 (by decide) (fun cme => ?_) (fun cme => ?_)
      · refine lv_iload hx hb dX2_say_119 (lv_at hl 6 rfl) ?_
        refine n_if_eq (tgt := 128) hx hb dX2_say_121 (by decide) (by omega) (fun cg3 => ?_) (fun cg3 => ?_)
        · refine lv_iconst (v := nI 0) hx hb dX2_say_128 (by decide) ?_
          have e5 : px ++ esc (t.take k) = px ++ esc t := by rw [show k = t.length by omega, List.take_length]
          rw [e5] at hxn hor
          rw [List.length_append] at hxn
          have e6 : sayO t mk = px ++ esc t := by unfold sayO; rw [if_pos cme, hpx, if_pos cme]; rfl
          have e7 : (sayO t mk).length = xn := by rw [e6, List.length_append, hxn]
          exact ct_iret (ty := .boolean) (v := (nI 0)) B rfl rfl h.2.2 ⟨_, _, by rw [if_neg (by rw [e7]; omega)] <;> rfl, h.1, by rw [e6]; exact hor⟩ dX2_say_129
        · refine lv_iconst (v := nI 1) hx hb dX2_say_124 (by decide) ?_
          refine lv_goto (tgt := 129) hx hb dX2_say_125 (by decide) ?_
          have e5 : px ++ esc (t.take k) = px ++ esc t := by rw [show k = t.length by omega, List.take_length]
          rw [e5] at hxn hor
          rw [List.length_append] at hxn
          have e6 : sayO t mk = px ++ esc t := by unfold sayO; rw [if_pos cme, hpx, if_pos cme]; rfl
          have e7 : (sayO t mk).length = xn := by rw [e6, List.length_append, hxn]
          exact ct_iret (ty := .boolean) (v := (nI 1)) B rfl rfl h.2.2 ⟨_, _, by rw [if_pos (by rw [e7]; omega)] <;> rfl, h.1, by rw [e6]; exact hor⟩ dX2_say_129
      · refine lv_aload_n hx hb dX2_say_110 rfl (lv_at hl 2 rfl) ?_
        refine lv_bipush (v := nI 34) hx hb dX2_say_111 (by decide) ?_
        refine ct_callQ (ct_runV (As := [.int (nI 34)]) (rest := []) B (met_X5_put l E ad F ob on d1 n1 S (made, all, wn, wb) P R 34 (o ++ (px ++ esc (t.take k))) H.size (by omega) hor) (lw_V q673 q674 q675 q53 q676) (n := 1) ⟨by decide, by decide, by decide +kernel⟩ rfl ⟨rfl, rfl, (Nat.le_of_ble_eq_true rfl), (Nat.le_of_ble_eq_true rfl), (Nat.le_of_ble_eq_true rfl), (Nat.le_of_ble_eq_true rfl)⟩ h.2.2 hA (ct_recv B h.1 kX5 18 rfl) ⟨h.1, (ct_D0 h hA)⟩ hl.1 (Nat.le_of_ble_eq_true rfl) dX2_say_113) h.2.2 (ct_sub h hAn) (ct_sub h hAn) (fun v H locs hv hz hk hS => ?_)
        obtain ⟨db2_4, dn2_5, rfl, hP1, ho3⟩ := hv
        have h : Hs E A s.heap (xw E ad F (ob, on, db2_4, dn2_5) S (made, all, wn, wb) P R) H locs := ct_again h hP1 rfl hS
        clear hP1 hS hz hk
        refine W.eq (g2 := F0 m 116 ls [.int (if (o ++ (px ++ esc (t.take k))).length < 30000 then 1 else 0)]) rfl ?_
        refine b_if_eq (tgt := 128) hx hb dX2_say_116 (by decide) (fun cp3 => ?_) (fun cp3 => ?_)
        · rw [List.length_append, ← hxn] at cp3
          refine lv_iconst (v := nI 0) hx hb dX2_say_128 (by decide) ?_
          have e5 : px ++ esc (t.take k) = px ++ esc t := by rw [show k = t.length by omega, List.take_length]
          rw [e5] at hxn hor
          rw [List.length_append] at hxn
          rw [e5] at ho3
          have e6 : sayO t mk = (px ++ esc t) ++ [34] := by unfold sayO; rw [if_neg cme, hpx, if_neg cme, List.append_assoc]
          have e7 : (sayO t mk).length = xn + 1 := by rw [e6, List.length_append, List.length_append, hxn]; rfl
          exact ct_iret (ty := .boolean) (v := (nI 0)) B rfl rfl h.2.2 ⟨_, _, by rw [if_neg (by rw [e7]; omega)] <;> rfl, h.1, by rw [e6, ← List.append_assoc]; exact ho3⟩ dX2_say_129
        · rw [List.length_append, ← hxn] at cp3
          refine lv_iload hx hb dX2_say_119 (lv_at hl 6 rfl) ?_
          refine n_if_eq (tgt := 128) hx hb dX2_say_121 (by decide) (by omega) (fun cg3 => ?_) (fun cg3 => ?_)
          · refine lv_iconst (v := nI 0) hx hb dX2_say_128 (by decide) ?_
            have e5 : px ++ esc (t.take k) = px ++ esc t := by rw [show k = t.length by omega, List.take_length]
            rw [e5] at hxn hor
            rw [List.length_append] at hxn
            rw [e5] at ho3
            have e6 : sayO t mk = (px ++ esc t) ++ [34] := by unfold sayO; rw [if_neg cme, hpx, if_neg cme, List.append_assoc]
            have e7 : (sayO t mk).length = xn + 1 := by rw [e6, List.length_append, List.length_append, hxn]; rfl
            exact ct_iret (ty := .boolean) (v := (nI 0)) B rfl rfl h.2.2 ⟨_, _, by rw [if_neg (by rw [e7]; omega)] <;> rfl, h.1, by rw [e6, ← List.append_assoc]; exact ho3⟩ dX2_say_129
          · refine lv_iconst (v := nI 1) hx hb dX2_say_124 (by decide) ?_
            refine lv_goto (tgt := 129) hx hb dX2_say_125 (by decide) ?_
            have e5 : px ++ esc (t.take k) = px ++ esc t := by rw [show k = t.length by omega, List.take_length]
            rw [e5] at hxn hor
            rw [List.length_append] at hxn
            rw [e5] at ho3
            have e6 : sayO t mk = (px ++ esc t) ++ [34] := by unfold sayO; rw [if_neg cme, hpx, if_neg cme, List.append_assoc]
            have e7 : (sayO t mk).length = xn + 1 := by rw [e6, List.length_append, List.length_append, hxn]; rfl
            exact ct_iret (ty := .boolean) (v := (nI 1)) B rfl rfl h.2.2 ⟨_, _, by rw [if_pos (by rw [e7]; omega)] <;> rfl, h.1, by rw [e6, ← List.append_assoc]; exact ho3⟩ dX2_say_129
    · refine ct_joinH (σ := Nat × Nat × (Nat → Int32) × Nat × List Nat) (P := fun (gf, yn, d1, n1, es) H locs ls => lv_has ls 7 [(6, .int (nI k)), (0, .ref (ad 3)), (1, .ref (ad 18)), (2, .int (nI a)), (3, .int (nI t.length)), (4, .int mk), (5, .int (nI gf))] ∧ Hs E A s.heap (xw E ad F (ob, on, d1, n1) S (made, all, wn, wb) P R) H locs ∧ (esc1 (t.getD k 0) = es ++ [t.getD k 0]) ∧ (yn = ((px ++ esc (t.take k)) ++ es).length) ∧ (outR d1 n1 (o ++ ((px ++ esc (t.take k)) ++ es))) ∧ ((gf = 1 ∧ (yn = 0 ∨ o.length + yn ≤ 30000)) ∨ (gf = 0 ∧ ¬ (yn = 0 ∨ o.length + yn ≤ 30000)))) (g := fun (gf, yn, d1, n1, es) ls => F0 m 68 ls []) (c1 := 0) (s1 := 0) (fun x9 H locs ls hI => ?_) (fun hJ_6 => ?_)
      · obtain ⟨gf, yn, d1, n1, es⟩ := x9
        obtain ⟨hl, h, hes, hyn, hor, hfl⟩ := hI
        refine W.eq (g2 := F0 m 68 ls []) rfl ?_
        refine lv_aload_n hx hb dX2_say_68 rfl (lv_at hl 2 rfl) ?_
        refine lv_aload_n hx hb dX2_say_69 rfl (lv_at hl 1 rfl) ?_
        refine ct_get (v := .ref (ad 4)) B h.1 kX2 3 rfl 1 (Nat.le_of_ble_eq_true rfl) q216 rfl dX2_say_70 ?_
        refine ct_getN (v := .ref (ad 5)) B h.1 kX3 4 rfl 0 (Nat.le_of_ble_eq_true rfl) ct_nw_0 rfl dX2_say_73 ?_
        refine lv_iload_n hx hb dX2_say_76 rfl (lv_at hl 3 rfl) ?_
        refine lv_iload hx hb dX2_say_77 (lv_at hl 0 rfl) ?_
        refine n_iadd hx hb dX2_say_79 ?_
        refine ct_bald (f := wb) B h.1 5 rfl (by omega) (by omega) dX2_say_80 ?_
        refine W.eq (g2 := F0 m 81 ls [.int (nI (t.getD k 0)), .ref (ad 18)]) (by rw [ht.1 k (by omega)]) ?_
        refine ct_callQ (ct_runV (As := [.int (nI (t.getD k 0))]) (rest := []) B (met_X5_put l E ad F ob on d1 n1 S (made, all, wn, wb) P R (t.getD k 0) (o ++ ((px ++ esc (t.take k)) ++ es)) H.size (by have := tAt_rg ht (j := k) (by omega); omega) hor) (lw_V q673 q674 q675 q53 q676) (n := 1) ⟨by decide, by decide, by decide +kernel⟩ rfl ⟨rfl, rfl, (Nat.le_of_ble_eq_true rfl), (Nat.le_of_ble_eq_true rfl), (Nat.le_of_ble_eq_true rfl), (Nat.le_of_ble_eq_true rfl)⟩ h.2.2 hA (ct_recv B h.1 kX5 18 rfl) ⟨h.1, (ct_D0 h hA)⟩ hl.1 (Nat.le_of_ble_eq_true rfl) dX2_say_81) h.2.2 (ct_sub h hAn) (ct_sub h hAn) (fun v H locs hv hz hk hS => ?_)
        obtain ⟨db2_7, dn2_8, rfl, hP1, ho2⟩ := hv
        have h : Hs E A s.heap (xw E ad F (ob, on, db2_7, dn2_8) S (made, all, wn, wb) P R) H locs := ct_again h hP1 rfl hS
        clear hP1 hS hz hk
        refine W.eq (g2 := F0 m 84 ls [.int (if (o ++ ((px ++ esc (t.take k)) ++ es)).length < 30000 then 1 else 0)]) rfl ?_
        refine b_if_eq (tgt := 96) hx hb dX2_say_84 (by decide) (fun cp2 => ?_) (fun cp2 => ?_)
        · rw [List.length_append, ← hyn] at cp2
          refine lv_iconst (v := nI 0) hx hb dX2_say_96 (by decide) ?_
          refine lv_istore (lv' := [(5, .int (nI 0)), (6, .int (nI k)), (0, .ref (ad 3)), (1, .ref (ad 18)), (2, .int (nI a)), (3, .int (nI t.length)), (4, .int mk)]) hx hb dX2_say_97 hl (by decide) rfl (fun ls hl => ?_)
          refine n_iinc (n := 1) (lv' := [(6, .int (nI (k + 1))), (5, .int (nI 0)), (0, .ref (ad 3)), (1, .ref (ad 18)), (2, .int (nI a)), (3, .int (nI t.length)), (4, .int mk)]) hx hb dX2_say_99 hl (k := 1) rfl rfl (by decide) (by decide) rfl (fun ls hl => ?_)
          refine lv_goto (tgt := 24) hx hb dX2_say_102 (by decide) ?_
          exact ih_2 ((k + 1), 0, (yn + 1), db2_7, dn2_8) H locs ls (by dsimp only; omega) ⟨lv_sub hl [0, 2, 3, 4, 5, 6, 1] rfl, h, by omega, by rw [esc_S (by omega), ← List.append_assoc, hes, ← List.append_assoc, List.length_append, ← hyn]; rfl, by rw [esc_S (by omega), hes]; simp only [List.append_assoc] at ho2 ⊢; exact ho2, by omega⟩
        · rw [List.length_append, ← hyn] at cp2
          refine lv_iload hx hb dX2_say_87 (lv_at hl 6 rfl) ?_
          refine n_if_eq (tgt := 96) hx hb dX2_say_89 (by decide) (by omega) (fun cg2 => ?_) (fun cg2 => ?_)
          · refine lv_iconst (v := nI 0) hx hb dX2_say_96 (by decide) ?_
            refine lv_istore (lv' := [(5, .int (nI 0)), (6, .int (nI k)), (0, .ref (ad 3)), (1, .ref (ad 18)), (2, .int (nI a)), (3, .int (nI t.length)), (4, .int mk)]) hx hb dX2_say_97 hl (by decide) rfl (fun ls hl => ?_)
            refine n_iinc (n := 1) (lv' := [(6, .int (nI (k + 1))), (5, .int (nI 0)), (0, .ref (ad 3)), (1, .ref (ad 18)), (2, .int (nI a)), (3, .int (nI t.length)), (4, .int mk)]) hx hb dX2_say_99 hl (k := 1) rfl rfl (by decide) (by decide) rfl (fun ls hl => ?_)
            refine lv_goto (tgt := 24) hx hb dX2_say_102 (by decide) ?_
            exact ih_2 ((k + 1), 0, (yn + 1), db2_7, dn2_8) H locs ls (by dsimp only; omega) ⟨lv_sub hl [0, 2, 3, 4, 5, 6, 1] rfl, h, by omega, by rw [esc_S (by omega), ← List.append_assoc, hes, ← List.append_assoc, List.length_append, ← hyn]; rfl, by rw [esc_S (by omega), hes]; simp only [List.append_assoc] at ho2 ⊢; exact ho2, by omega⟩
          · refine lv_iconst (v := nI 1) hx hb dX2_say_92 (by decide) ?_
            refine lv_goto (tgt := 97) hx hb dX2_say_93 (by decide) ?_
            refine lv_istore (lv' := [(5, .int (nI 1)), (6, .int (nI k)), (0, .ref (ad 3)), (1, .ref (ad 18)), (2, .int (nI a)), (3, .int (nI t.length)), (4, .int mk)]) hx hb dX2_say_97 hl (by decide) rfl (fun ls hl => ?_)
            refine n_iinc (n := 1) (lv' := [(6, .int (nI (k + 1))), (5, .int (nI 1)), (0, .ref (ad 3)), (1, .ref (ad 18)), (2, .int (nI a)), (3, .int (nI t.length)), (4, .int mk)]) hx hb dX2_say_99 hl (k := 1) rfl rfl (by decide) (by decide) rfl (fun ls hl => ?_)
            refine lv_goto (tgt := 24) hx hb dX2_say_102 (by decide) ?_
            exact ih_2 ((k + 1), 1, (yn + 1), db2_7, dn2_8) H locs ls (by dsimp only; omega) ⟨lv_sub hl [0, 2, 3, 4, 5, 6, 1] rfl, h, by omega, by rw [esc_S (by omega), ← List.append_assoc, hes, ← List.append_assoc, List.length_append, ← hyn]; rfl, by rw [esc_S (by omega), hes]; simp only [List.append_assoc] at ho2 ⊢; exact ho2, by omega⟩
      · refine lv_aload_n hx hb dX2_say_30 rfl (lv_at hl 1 rfl) ?_
        refine ct_get (v := .ref (ad 4)) B h.1 kX2 3 rfl 1 (Nat.le_of_ble_eq_true rfl) q216 rfl dX2_say_31 ?_
        refine ct_getN (v := .ref (ad 5)) B h.1 kX3 4 rfl 0 (Nat.le_of_ble_eq_true rfl) ct_nw_0 rfl dX2_say_34 ?_
        refine lv_iload_n hx hb dX2_say_37 rfl (lv_at hl 3 rfl) ?_
        refine lv_iload hx hb dX2_say_38 (lv_at hl 0 rfl) ?_
        refine n_iadd hx hb dX2_say_40 ?_
        refine ct_bald (f := wb) B h.1 5 rfl (by omega) (by omega) dX2_say_41 ?_
        refine W.eq (g2 := F0 m 42 ls [.int (nI (t.getD k 0))]) (by rw [ht.1 k (by omega)]) ?_
        refine lv_bipush (v := nI 34) hx hb dX2_say_42 (by decide) ?_
        refine n_icmp_ne (tgt := 68) hx hb dX2_say_44 (by decide) (by have := tAt_rg ht (j := k) (by omega); omega) (by omega) (fun c34 => ?_) (fun c34 => ?_)
        · exact hJ_6 (gf, xn, d1, n1, ([])) H locs ls ⟨lv_sub hl [0, 1, 2, 3, 4, 5, 6] rfl, h, by unfold esc1; rw [if_neg c34]; rfl, by rw [List.append_nil]; exact hxn, by rw [List.append_nil]; exact hor, by omega⟩
        · refine lv_aload_n hx hb dX2_say_47 rfl (lv_at hl 2 rfl) ?_
          refine lv_bipush (v := nI 34) hx hb dX2_say_48 (by decide) ?_
          refine ct_callQ (ct_runV (As := [.int (nI 34)]) (rest := []) B (met_X5_put l E ad F ob on d1 n1 S (made, all, wn, wb) P R 34 (o ++ (px ++ esc (t.take k))) H.size (by omega) hor) (lw_V q673 q674 q675 q53 q676) (n := 1) ⟨by decide, by decide, by decide +kernel⟩ rfl ⟨rfl, rfl, (Nat.le_of_ble_eq_true rfl), (Nat.le_of_ble_eq_true rfl), (Nat.le_of_ble_eq_true rfl), (Nat.le_of_ble_eq_true rfl)⟩ h.2.2 hA (ct_recv B h.1 kX5 18 rfl) ⟨h.1, (ct_D0 h hA)⟩ hl.1 (Nat.le_of_ble_eq_true rfl) dX2_say_50) h.2.2 (ct_sub h hAn) (ct_sub h hAn) (fun v H locs hv hz hk hS => ?_)
          obtain ⟨db2_9, dn2_10, rfl, hP1, ho1⟩ := hv
          have h : Hs E A s.heap (xw E ad F (ob, on, db2_9, dn2_10) S (made, all, wn, wb) P R) H locs := ct_again h hP1 rfl hS
          clear hP1 hS hz hk
          refine W.eq (g2 := F0 m 53 ls [.int (if (o ++ (px ++ esc (t.take k))).length < 30000 then 1 else 0)]) rfl ?_
          refine b_if_eq (tgt := 65) hx hb dX2_say_53 (by decide) (fun cp1 => ?_) (fun cp1 => ?_)
          · rw [List.length_append, ← hxn] at cp1
            refine lv_iconst (v := nI 0) hx hb dX2_say_65 (by decide) ?_
            refine lv_istore (lv' := [(5, .int (nI 0)), (6, .int (nI k)), (0, .ref (ad 3)), (1, .ref (ad 18)), (2, .int (nI a)), (3, .int (nI t.length)), (4, .int mk)]) hx hb dX2_say_66 hl (by decide) rfl (fun ls hl => ?_)
            exact hJ_6 (0, (xn + 1), db2_9, dn2_10, ([34])) H locs ls ⟨lv_sub hl [1, 2, 3, 4, 5, 6, 0] rfl, h, by unfold esc1; rw [if_pos c34, c34]; rfl, by rw [List.length_append, ← hxn]; rfl, by rw [← List.append_assoc]; exact ho1, by omega⟩
          · rw [List.length_append, ← hxn] at cp1
            refine lv_iload hx hb dX2_say_56 (lv_at hl 6 rfl) ?_
            refine n_if_eq (tgt := 65) hx hb dX2_say_58 (by decide) (by omega) (fun cg1 => ?_) (fun cg1 => ?_)
            · refine lv_iconst (v := nI 0) hx hb dX2_say_65 (by decide) ?_
              refine lv_istore (lv' := [(5, .int (nI 0)), (6, .int (nI k)), (0, .ref (ad 3)), (1, .ref (ad 18)), (2, .int (nI a)), (3, .int (nI t.length)), (4, .int mk)]) hx hb dX2_say_66 hl (by decide) rfl (fun ls hl => ?_)
              exact hJ_6 (0, (xn + 1), db2_9, dn2_10, ([34])) H locs ls ⟨lv_sub hl [1, 2, 3, 4, 5, 6, 0] rfl, h, by unfold esc1; rw [if_pos c34, c34]; rfl, by rw [List.length_append, ← hxn]; rfl, by rw [← List.append_assoc]; exact ho1, by omega⟩
            · refine lv_iconst (v := nI 1) hx hb dX2_say_61 (by decide) ?_
              refine lv_goto (tgt := 66) hx hb dX2_say_62 (by decide) ?_
              refine lv_istore (lv' := [(5, .int (nI 1)), (6, .int (nI k)), (0, .ref (ad 3)), (1, .ref (ad 18)), (2, .int (nI a)), (3, .int (nI t.length)), (4, .int mk)]) hx hb dX2_say_66 hl (by decide) rfl (fun ls hl => ?_)
              exact hJ_6 (1, (xn + 1), db2_9, dn2_10, ([34])) H locs ls ⟨lv_sub hl [1, 2, 3, 4, 5, 6, 0] rfl, h, by unfold esc1; rw [if_pos c34, c34]; rfl, by rw [List.length_append, ← hxn]; rfl, by rw [← List.append_assoc]; exact ho1, by omega⟩
  · refine lv_iload hx hb dX2_say_0 (lv_at hl 4 rfl) ?_
    refine lv_if_eq (tgt := 14) hx hb dX2_say_2 (by decide) (fun cm => ?_) (fun cm => ?_)
    · refine lv_iconst (v := nI 1) hx hb dX2_say_14 (by decide) ?_
      refine lv_goto (tgt := 19) hx hb dX2_say_15 (by decide) ?_
      refine lv_istore (lv' := [(5, .int (nI 1)), (0, .ref (ad 3)), (1, .ref (ad 18)), (2, .int (nI a)), (3, .int (nI t.length)), (4, .int mk)]) hx hb dX2_say_19 hl (by decide) rfl (fun ls hl => ?_)
      exact hJ_1 (1, 0, db, dn, ([])) H locs ls ⟨lv_sub hl [1, 2, 3, 4, 5, 0] rfl, h, by rw [if_pos cm], rfl, by first | (rw [List.append_nil]; exact ho) | exact ho1, by omega⟩
    · refine lv_aload_n hx hb dX2_say_5 rfl (lv_at hl 1 rfl) ?_
      refine lv_bipush (v := nI 34) hx hb dX2_say_6 (by decide) ?_
      refine ct_callQ (ct_runV (As := [.int (nI 34)]) (rest := []) B (met_X5_put l E ad F ob on db dn S (made, all, wn, wb) P R 34 o H.size (by omega) ho) (lw_V q673 q674 q675 q53 q676) (n := 1) ⟨by decide, by decide, by decide +kernel⟩ rfl ⟨rfl, rfl, (Nat.le_of_ble_eq_true rfl), (Nat.le_of_ble_eq_true rfl), (Nat.le_of_ble_eq_true rfl), (Nat.le_of_ble_eq_true rfl)⟩ h.2.2 hA (ct_recv B h.1 kX5 18 rfl) ⟨h.1, (ct_D0 h hA)⟩ hl.1 (Nat.le_of_ble_eq_true rfl) dX2_say_8) h.2.2 (ct_sub h hAn) (ct_sub h hAn) (fun v H locs hv hz hk hS => ?_)
      obtain ⟨db2_11, dn2_12, rfl, hP1, ho1⟩ := hv
      have h : Hs E A s.heap (xw E ad F (ob, on, db2_11, dn2_12) S (made, all, wn, wb) P R) H locs := ct_again h hP1 rfl hS
      clear hP1 hS hz hk
      refine W.eq (g2 := F0 m 11 ls [.int (if o.length < 30000 then 1 else 0)]) rfl ?_
      refine b_if_eq (tgt := 18) hx hb dX2_say_11 (by decide) (fun cp1 => ?_) (fun cp1 => ?_)
      · refine lv_iconst (v := nI 0) hx hb dX2_say_18 (by decide) ?_
        refine lv_istore (lv' := [(5, .int (nI 0)), (0, .ref (ad 3)), (1, .ref (ad 18)), (2, .int (nI a)), (3, .int (nI t.length)), (4, .int mk)]) hx hb dX2_say_19 hl (by decide) rfl (fun ls hl => ?_)
        exact hJ_1 (0, 1, db2_11, dn2_12, ([34])) H locs ls ⟨lv_sub hl [1, 2, 3, 4, 5, 0] rfl, h, by rw [if_neg cm], rfl, by first | (rw [List.append_nil]; exact ho) | exact ho1, by omega⟩
      · refine lv_iconst (v := nI 1) hx hb dX2_say_14 (by decide) ?_
        refine lv_goto (tgt := 19) hx hb dX2_say_15 (by decide) ?_
        refine lv_istore (lv' := [(5, .int (nI 1)), (0, .ref (ad 3)), (1, .ref (ad 18)), (2, .int (nI a)), (3, .int (nI t.length)), (4, .int mk)]) hx hb dX2_say_19 hl (by decide) rfl (fun ls hl => ?_)
        exact hJ_1 (1, 1, db2_11, dn2_12, ([34])) H locs ls ⟨lv_sub hl [1, 2, 3, 4, 5, 0] rfl, h, by rw [if_neg cm], rfl, by first | (rw [List.append_nil]; exact ho) | exact ho1, by omega⟩
