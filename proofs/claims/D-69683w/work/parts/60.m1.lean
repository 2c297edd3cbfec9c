theorem c_bool {n : Nat} (h : n ≤ 1) : narrow .boolean (.int (nI n)) = .int (nI n) ∧ fits .boolean (.int (nI n)) = true := by
  rcases (show n = 0 ∨ n = 1 by omega) with q | q <;> subst q <;> exact ⟨rfl, rfl⟩
/-! texts that are alike; cells and tables of the reference; its exception -/
theorem tx_ext {t u : List Nat} (hl : t.length = u.length) (h : ∀ j, j < t.length → t.getD j 0 = u.getD j 0) : t = u := by
  refine List.ext_getElem hl (fun i h1 h2 => ?_)
  have e3 := h i h1
  rw [List.getD_eq_getElem?_getD, List.getD_eq_getElem?_getD, List.getElem?_eq_getElem h1, List.getElem?_eq_getElem h2] at e3
  exact e3
set_option maxHeartbeats 4000000 in
set_option maxRecDepth 100000 in
theorem met_J5_equals (l : Launch) (E : CE) (va vb : Nat) (t u : List Nat) (sz : Nat)  : Met l yJ5_equals (ws_ yJ5_equals cJ5_equals 3 (some .boolean)) { frames := 0, cells := 0, slots := 0, locals := 0 } (ctP E [.ref va, .ref vb] sz (fun H => ct_SB E H va t ∧ ct_SB E H vb u)) (ctR (fun v => v = some (.int (if t = u then 1 else 0)))) 0 0 (fun _ => False) := by
  refine ct_start (by decide) (Nat.le_of_ble_eq_true rfl) ?_
  intro p e s m below meth c ls B hsz hH hl
  obtain ⟨hS0B, hS1B⟩ := hH
  have hx := B.1
  have hb := B.2.1
  have hl : lv_has ls 3 [(0, .ref va), (1, .ref vb)] := hl
  have hs1 := hS1B.small
  have hs0 := hS0B.small
  refine lv_aload_n hx hb dJ5_equals_0 rfl (lv_at hl 0 rfl) ?_
  refine ct_Slen B hS0B dJ5_equals_1 ?_
  refine lv_aload_n hx hb dJ5_equals_2 rfl (lv_at hl 1 rfl) ?_
  refine ct_Slen B hS1B dJ5_equals_3 ?_
  refine n_icmp_ne (tgt := 34) hx hb dJ5_equals_4 (by decide) (by omega) (by omega) (fun clen => ?_) (fun clen => ?_)
  · refine lv_iconst (v := nI 0) hx hb dJ5_equals_34 (by decide) ?_
    exact ct_iretR (ty := .boolean) (v := (nI 0)) B rfl rfl (by rw [if_neg (fun q9 => clen (by rw [q9]))] <;> rfl) dJ5_equals_35
  · refine lv_iconst (v := nI 0) hx hb dJ5_equals_7 (by decide) ?_
    refine lv_istore_n (lv' := [(2, .int (nI 0)), (0, .ref va), (1, .ref vb)]) hx hb dJ5_equals_8 rfl hl (by decide) rfl (fun ls hl => ?_)
    refine ct_loop (σ := Nat) (fun k ls => lv_has ls 3 [(2, .int (nI k)), (0, .ref va), (1, .ref vb)] ∧ (k ≤ t.length) ∧ (∀ j, j < k → t.getD j 0 = u.getD j 0)) (fun k => t.length - k) (g := fun k ls => F0 m 9 ls []) (x0 := 0) (ls0 := ls) ?_ ⟨lv_sub hl [0, 1, 2] rfl, Nat.zero_le _, fun j hj => absurd hj (Nat.not_lt_zero j)⟩
    clear hl
    intro k ls hI ih_1
    obtain ⟨hl, hk, hal⟩ := hI
    refine W.eq (g2 := F0 m 9 ls []) rfl ?_
    refine lv_iload_n hx hb dJ5_equals_9 rfl (lv_at hl 0 rfl) ?_
    refine lv_aload_n hx hb dJ5_equals_10 rfl (lv_at hl 1 rfl) ?_
    refine ct_Slen B hS0B dJ5_equals_11 ?_
    refine n_icmp_ge (tgt := 32) hx hb dJ5_equals_12 (by decide) (by omega) (by omega) (fun c_2 => ?_) (fun c_2 => ?_)
    · refine lv_iconst (v := nI 1) hx hb dJ5_equals_32 (by decide) ?_
      exact ct_iretR (ty := .boolean) (v := (nI 1)) B rfl rfl (by rw [if_pos (tx_ext (by omega) (fun j hj => hal j (by omega)))] <;> rfl) dJ5_equals_33
    · refine lv_aload_n hx hb dJ5_equals_15 rfl (lv_at hl 1 rfl) ?_
      refine lv_iload_n hx hb dJ5_equals_16 rfl (lv_at hl 0 rfl) ?_
      refine ct_Sald B hS0B (by omega) dJ5_equals_17 ?_
      refine lv_aload_n hx hb dJ5_equals_18 rfl (lv_at hl 2 rfl) ?_
      refine lv_iload_n hx hb dJ5_equals_19 rfl (lv_at hl 0 rfl) ?_
      refine ct_Sald B hS1B (by omega) dJ5_equals_20 ?_
      refine n_icmp_eq (tgt := 26) hx hb dJ5_equals_21 (by decide) (by have := tx_lt hs0.2 k; omega) (by have := tx_lt hs1.2 k; omega) (fun csame => ?_) (fun csame => ?_)
      · refine n_iinc (n := 1) (lv' := [(2, .int (nI (k + 1))), (0, .ref va), (1, .ref vb)]) hx hb dJ5_equals_26 hl (k := 0) rfl rfl (by decide) (by decide) rfl (fun ls hl => ?_)
        refine lv_goto (tgt := 9) hx hb dJ5_equals_29 (by decide) ?_
        exact ih_1 (k + 1) ls (by omega) ⟨lv_sub hl [0, 1, 2] rfl, by omega, fun j hj => by rcases Nat.lt_succ_iff_lt_or_eq.mp hj with q9 | q9; exact hal j q9; rw [q9]; exact csame⟩
      · refine lv_iconst (v := nI 0) hx hb dJ5_equals_24 (by decide) ?_
        exact ct_iretR (ty := .boolean) (v := (nI 0)) B rfl rfl (by rw [if_neg (fun q9 => csame (by rw [q9]))] <;> rfl) dJ5_equals_25
set_option maxHeartbeats 4000000 in
set_option maxRecDepth 100000 in
theorem met_J4_equals (l : Launch) (E : CE) (A1 : Nat → Prop) (A0 : Nat → Prop) (a b : Nat) (t u : List Nat) (sz : Nat)  : Met l yJ4_equals (ws_ yJ4_equals cJ4_equals 3 (some .boolean)) { frames := 1, cells := 0, slots := 0, locals := 22 } (ctP E [.ref a, .ref b] sz (fun H => ct_S E A0 H a t ∧ ct_S E A1 H b u)) (ctR (fun v => v = some (.int (if t = u then 1 else 0)))) 0 0 (fun _ => False) := by
  refine ct_start (by decide) (Nat.le_of_ble_eq_true rfl) ?_
  intro p e s m below meth c ls B hsz hH hl
  obtain ⟨hS0, hS1⟩ := hH
  have hx := B.1
  have hb := B.2.1
  have hl : lv_has ls 3 [(0, .ref a), (1, .ref b)] := hl
  obtain ⟨v1, hV1⟩ := hS1.val
  have hs1 := hS1.small
  obtain ⟨v0, hV0⟩ := hS0.val
  have hs0 := hS0.small
  refine lv_aload_n hx hb dJ4_equals_0 rfl (lv_at hl 0 rfl) ?_
  refine lv_aload_n hx hb dJ4_equals_1 rfl (lv_at hl 1 rfl) ?_
  refine lv_acmp_ne (rx := (some a)) (ry := (some b)) (tgt := 7) hx hb dJ4_equals_2 (by decide) (fun cab => ?_) (fun cab => ?_)
  · refine lv_aload_n hx hb dJ4_equals_7 rfl (lv_at hl 1 rfl) ?_
    refine va_instE hx hb B.2.2.1 (B.2.2.2.1 _ q1054) (ct_Srecv B hV1.str) dJ4_equals_8 ?_
    refine W.eq (g2 := F0 m 11 ls [.int (nI 1)]) rfl ?_
    refine n_if_eq (tgt := 54) hx hb dJ4_equals_11 (by decide) (by omega) (fun c_1 => absurd c_1 (by omega)) (fun c_1 => ?_)
    refine lv_aload_n hx hb dJ4_equals_14 rfl (lv_at hl 1 rfl) ?_
    refine va_castE hx hb B.2.2.1 (B.2.2.2.1 _ q1054) (ct_Srecv B hV1.str) dJ4_equals_15 ?_
    refine lv_astore_n (lv' := [(2, .ref b), (0, .ref a), (1, .ref b)]) hx hb dJ4_equals_18 rfl hl (by decide) rfl (fun ls hl => ?_)
    refine ct_gsC B (va_S.rf (A := fun _ => False)) (fun _ h => h.elim) q473 dJ4_equals_19 ?_
    refine n_if_eq (tgt := 36) hx hb dJ4_equals_22 (by decide) (by omega) (fun c_2 => absurd c_2 (by omega)) (fun c_2 => ?_)
    refine lv_aload_n hx hb dJ4_equals_25 rfl (lv_at hl 1 rfl) ?_
    refine ct_SgC B hV0 q1018 dJ4_equals_26 ?_
    refine lv_aload_n hx hb dJ4_equals_29 rfl (lv_at hl 0 rfl) ?_
    refine ct_SgC B hV1 q1018 dJ4_equals_30 ?_
    refine n_icmp_ne (tgt := 54) hx hb dJ4_equals_33 (by decide) (by omega) (by omega) (fun c_3 => absurd c_3 (by omega)) (fun c_3 => ?_)
    refine lv_aload_n hx hb dJ4_equals_36 rfl (lv_at hl 1 rfl) ?_
    refine ct_SgV B hV0 q1017 dJ4_equals_37 ?_
    refine lv_aload_n hx hb dJ4_equals_40 rfl (lv_at hl 0 rfl) ?_
    refine ct_SgV B hV1 q1017 dJ4_equals_41 ?_
    refine ct_callR (ct_runS (As := [.ref v0, .ref v1]) (rest := []) B (met_J5_equals l E v0 v1 t u s.heap.size) (lw_S q1055 q1056 q59 q1057) (n := 2) ⟨by decide, by decide, by decide +kernel⟩ rfl ⟨rfl, rfl, (Nat.le_of_ble_eq_true rfl), (Nat.le_of_ble_eq_true rfl), (Nat.le_of_ble_eq_true rfl), (Nat.le_of_ble_eq_true rfl)⟩ (va_S.rf (A := fun _ => False)) (fun _ h => h.elim) ⟨hV0.bytes, hV1.bytes⟩ hl.1 (Nat.le_of_ble_eq_true rfl) dJ4_equals_44) (fun v hv => ?_)
    subst hv
    refine W.eq (g2 := F0 m 47 ls [.int (if t = u then 1 else 0)]) rfl ?_
    refine b_if_eq (tgt := 54) hx hb dJ4_equals_47 (by decide) (fun csm => ?_) (fun csm => ?_)
    · refine lv_iconst (v := nI 0) hx hb dJ4_equals_54 (by decide) ?_
      exact ct_iretR (ty := .boolean) (v := (nI 0)) B rfl rfl (by rw [if_neg csm] <;> rfl) dJ4_equals_55
    · refine lv_iconst (v := nI 1) hx hb dJ4_equals_50 (by decide) ?_
      refine lv_goto (tgt := 55) hx hb dJ4_equals_51 (by decide) ?_
      exact ct_iretR (ty := .boolean) (v := (nI 1)) B rfl rfl (by rw [if_pos csm] <;> rfl) dJ4_equals_55
  · refine lv_iconst (v := nI 1) hx hb dJ4_equals_5 (by decide) ?_
    exact ct_iretR (ty := .boolean) (v := (nI 1)) B rfl rfl (by rw [if_pos (by have e9 : a = b := Option.some.inj cab; rw [e9] at hS0; exact hS0.one hS1)] <;> rfl) dJ4_equals_6
set_option maxHeartbeats 4000000 in
set_option maxRecDepth 100000 in
theorem met_X12_init (l : Launch) (E : CE) (x s9 q9 : Nat) (sz : Nat) (hq : q9 ≤ 1) : Met l yX12_init (ws_ yX12_init cX12_init 3 none) { frames := 1, cells := 0, slots := 0, locals := 20 } (ctP E [.ref x, .ref s9, .int (nI q9)] sz (fun H => va_P E.1 ct_cl ([(x, .inr (12, [.null, .int 0]))]) H ∧ va_D (fun q => E.2.2.1 ≤ q) ([(x, .inr (12, [.null, .int 0]))]))) (ctQ (fun v H => v = none ∧ va_P E.1 ct_cl ([(x, .inr (12, [.ref s9, .int (nI q9)]))]) H ∧ va_D (va_A ([(x, .inr (12, [.null, .int 0]))]) sz) ([(x, .inr (12, [.ref s9, .int (nI q9)]))])) (va_A ([(x, .inr (12, [.null, .int 0]))]) sz)) 0 0 (va_A ([(x, .inr (12, [.null, .int 0]))]) sz) := by
  refine ct_start (by decide) (Nat.le_of_ble_eq_true rfl) ?_
  intro p e s m below meth c ls B hsz hH hl
  obtain ⟨hP, hD⟩ := hH
  obtain ⟨A, hAe, h, hA, hAn⟩ := ct_enter B.2.2.2.2.2.2.2.2 hsz hP hD
  rw [hAe]
  refine ct_gen h (fun H locs h => ?_)
  have hx := B.1
  have hb := B.2.1
  have hl : lv_has ls 3 [(0, .ref x), (1, .ref s9), (2, .int (nI q9))] := hl
  refine lv_aload_n hx hb dX12_init_0 rfl (lv_at hl 0 rfl) ?_
  refine ct_objInit B q1116 q87 q88 hl.1 dX12_init_1 (Nat.le_of_ble_eq_true rfl) (Nat.le_of_ble_eq_true rfl) ?_
  refine lv_aload_n hx hb dX12_init_4 rfl (lv_at hl 0 rfl) ?_
  refine lv_aload_n hx hb dX12_init_5 rfl (lv_at hl 1 rfl) ?_
  refine ct_putF (ws' := [(x, .inr (12, [.ref s9, .int 0]))]) B h kX12 0 rfl 0 (Nat.le_of_ble_eq_true rfl) q1117 rfl rfl rfl rfl (Nat.le_of_ble_eq_true rfl) rfl dX12_init_6 (fun H locs h => ?_)
  refine lv_aload_n hx hb dX12_init_9 rfl (lv_at hl 0 rfl) ?_
  refine lv_iload_n hx hb dX12_init_10 rfl (lv_at hl 2 rfl) ?_
  refine ct_putF (ws' := [(x, .inr (12, [.ref s9, .int (nI q9)]))]) B h kX12 0 rfl 1 (Nat.le_of_ble_eq_true rfl) q1119 rfl rfl (c_bool hq).1 (c_bool hq).2 (Nat.le_of_ble_eq_true rfl) rfl dX12_init_11 (fun H locs h => ?_)
  have h : Hs E A s.heap ([(x, .inr (12, [.ref s9, .int (nI q9)]))]) H locs := h
  exact ct_vret B h.2.2 ⟨rfl, h.1, h.2.1⟩ dX12_init_14
set_option maxHeartbeats 4000000 in
set_option maxRecDepth 100000 in
theorem met_X12_isMissing (l : Launch) (E : CE) (A0 : Nat → Prop) (x s9 q9 : Nat) (t : List Nat) (sz : Nat) (hq : q9 ≤ 1) : Met l yX12_isMissing (ws_ yX12_isMissing cX12_isMissing 1 (some .boolean)) { frames := 1, cells := 0, slots := 0, locals := 20 } (ctP E [.ref x] sz (fun H => va_P E.1 ct_cl [(x, .inr (12, [.ref s9, .int (nI q9)]))] H ∧ ct_S E A0 H s9 t)) (ctR (fun v => v = some (.int (if q9 = 0 ∧ t.length = 0 then 1 else 0)))) 0 0 (fun _ => False) := by
  refine ct_start (by decide) (Nat.le_of_ble_eq_true rfl) ?_
  intro p e s m below meth c ls B hsz hH hl
  obtain ⟨hC, hS0⟩ := hH
  have hx := B.1
  have hb := B.2.1
  have hl : lv_has ls 1 [(0, .ref x)] := hl
  obtain ⟨v0, hV0⟩ := hS0.val
  have hs0 := hS0.small
  refine lv_aload_n hx hb dX12_isMissing_0 rfl (lv_at hl 0 rfl) ?_
  refine ct_get (v := .int (nI q9)) B hC kX12 0 rfl 1 (Nat.le_of_ble_eq_true rfl) q1119 rfl dX12_isMissing_1 ?_
  refine n_if_ne (tgt := 21) hx hb dX12_isMissing_4 (by decide) (by omega) (fun cq => ?_) (fun cq => ?_)
  · refine lv_iconst (v := nI 0) hx hb dX12_isMissing_21 (by decide) ?_
    exact ct_iretR (ty := .boolean) (v := (nI 0)) B rfl rfl (by rw [if_neg (fun z9 => by have := z9.1; omega)] <;> rfl) dX12_isMissing_22
  · refine lv_aload_n hx hb dX12_isMissing_7 rfl (lv_at hl 0 rfl) ?_
    refine ct_get (v := .ref s9) B hC kX12 0 rfl 0 (Nat.le_of_ble_eq_true rfl) q1117 rfl dX12_isMissing_8 ?_
    refine ct_callR (ct_runV (As := []) (rest := []) B (met_J4_isEmpty l E  _ s9 t s.heap.size) (lw_V q1173 q1033 q1034 q58 q1035) (n := 0) ⟨by decide, by decide, by decide +kernel⟩ rfl ⟨rfl, rfl, (Nat.le_of_ble_eq_true rfl), (Nat.le_of_ble_eq_true rfl), (Nat.le_of_ble_eq_true rfl), (Nat.le_of_ble_eq_true rfl)⟩ (va_S.rf (A := fun _ => False)) (fun _ h => h.elim) (ct_Srecv B hV0.str) hV0.str hl.1 (Nat.le_of_ble_eq_true rfl) dX12_isMissing_11) (fun v hv => ?_)
    subst hv
    refine W.eq (g2 := F0 m 14 ls [.int (if t.length = 0 then 1 else 0)]) rfl ?_
    refine b_if_eq (tgt := 21) hx hb dX12_isMissing_14 (by decide) (fun ct => ?_) (fun ct => ?_)
    · refine lv_iconst (v := nI 0) hx hb dX12_isMissing_21 (by decide) ?_
      exact ct_iretR (ty := .boolean) (v := (nI 0)) B rfl rfl (by rw [if_neg (fun z9 => ct z9.2)] <;> rfl) dX12_isMissing_22
    · refine lv_iconst (v := nI 1) hx hb dX12_isMissing_17 (by decide) ?_
      refine lv_goto (tgt := 22) hx hb dX12_isMissing_18 (by decide) ?_
      exact ct_iretR (ty := .boolean) (v := (nI 1)) B rfl rfl (by rw [if_pos ⟨by omega, ct⟩] <;> rfl) dX12_isMissing_22
set_option maxHeartbeats 4000000 in
set_option maxRecDepth 100000 in
theorem met_X11_init (l : Launch) (E : CE) (t9 : Nat) (sz : Nat)  : Met l yX11_init (ws_ yX11_init cX11_init 1 none) { frames := 4, cells := 2, slots := 6, locals := 80 } (ctP E [.ref t9] sz (fun H => va_P E.1 ct_cl ([(t9, .inr (11, [.null, .null, .null]))]) H ∧ va_D (fun q => E.2.2.1 ≤ q) ([(t9, .inr (11, [.null, .null, .null]))]))) (ctQ (fun v H => ∃ n2 : Nat, ∃ c2 : Nat, v = none ∧ va_P E.1 ct_cl ([(t9, .inr (11, [.ref n2, .ref c2, .null])), (n2, .inr (14, [.int 0, .ref (E.2.2.2 3), .int (nI 0)])), (c2, .inr (14, [.int 0, .ref (E.2.2.2 3), .int (nI 0)]))]) H ∧ va_D (va_A ([(t9, .inr (11, [.null, .null, .null]))]) sz) ([(t9, .inr (11, [.ref n2, .ref c2, .null])), (n2, .inr (14, [.int 0, .ref (E.2.2.2 3), .int (nI 0)])), (c2, .inr (14, [.int 0, .ref (E.2.2.2 3), .int (nI 0)]))])) (va_A ([(t9, .inr (11, [.null, .null, .null]))]) sz)) 2 6 (va_A ([(t9, .inr (11, [.null, .null, .null]))]) sz) := by
  refine ct_start (by decide) (Nat.le_of_ble_eq_true rfl) ?_
  intro p e s m below meth c ls B hsz hH hl
  obtain ⟨hP, hD⟩ := hH
  obtain ⟨A, hAe, h, hA, hAn⟩ := ct_enter B.2.2.2.2.2.2.2.2 hsz hP hD
  rw [hAe]
  refine ct_gen h (fun H locs h => ?_)
  have hx := B.1
  have hb := B.2.1
  have hl : lv_has ls 1 [(0, .ref t9)] := hl
  refine lv_aload_n hx hb dX11_init_0 rfl (lv_at hl 0 rfl) ?_
  refine ct_objInit B q801 q87 q88 hl.1 dX11_init_1 (Nat.le_of_ble_eq_true rfl) (Nat.le_of_ble_eq_true rfl) ?_
  refine lv_aload_n hx hb dX11_init_4 rfl (lv_at hl 0 rfl) ?_
  refine ct_new (fs := [.int 0, .null, .int 0]) B h hAn kJ10 q802 q803 q66 (by intro j9 hj9; rcases j9 with _ | _ | _ | j9 <;> first | rfl | omega) (by first | omega | (dsimp only; omega)) (by first | omega | (dsimp only; omega)) dX11_init_5 (fun n1 H h hn1 => ?_)
  have h : Hs E A s.heap ([(n1, .inr (14, [.int 0, .null, .int 0]))] ++ ([(t9, .inr (11, [.null, .null, .null]))])) H locs := ct_Hc h
  have h : Hs E A s.heap ([(n1, .inr (14, [.int 0, .null, .int 0])), (t9, .inr (11, [.null, .null, .null]))]) H locs := h
  refine lv_dup hx hb dX11_init_8 rfl ?_
  have h : Hs E A s.heap ([(n1, .inr (14, [.int 0, .null, .int 0]))] ++ ([(t9, .inr (11, [.null, .null, .null]))])) H locs := h
  refine ct_callQ (ct_runI (b := n1) (As := []) (rest := [.ref n1, .ref t9]) B (met_J10_init l E n1 H.size) q806 q66 q804 q805 rfl (n := 0) ⟨by decide, by decide, by decide +kernel⟩ rfl ⟨rfl, rfl, (Nat.le_of_ble_eq_true rfl), (Nat.le_of_ble_eq_true rfl), (by first | omega | (dsimp only; omega)), (by first | omega | (dsimp only; omega))⟩ h.2.2 hA ⟨(ct_Pl h.1), (ct_Dl (ct_D0 h hA))⟩ hl.1 (Nat.le_of_ble_eq_true rfl) dX11_init_9) h.2.2 (ct_subL h hAn) (ct_subL h hAn) (fun v H locs hv hz hk hS => ?_)
  obtain ⟨rfl, hP1, hD1⟩ := hv
  have h : Hs E A s.heap ([(n1, .inr (14, [.int 0, .ref (E.2.2.2 3), .int (nI 0)]))] ++ ([(t9, .inr (11, [.null, .null, .null]))])) H locs := ct_frL h hP1 hD1 hk hS hAn
  have h : Hs E A s.heap ([(n1, .inr (14, [.int 0, .ref (E.2.2.2 3), .int (nI 0)])), (t9, .inr (11, [.null, .null, .null]))]) H locs := h
  clear hP1 hD1 hS hz hk
  refine W.eq (g2 := F0 m 12 ls [.ref n1, .ref t9]) rfl ?_
  refine ct_putF (ws' := [(n1, .inr (14, [.int 0, .ref (E.2.2.2 3), .int (nI 0)])), (t9, .inr (11, [.ref n1, .null, .null]))]) B h kX11 1 rfl 0 (Nat.le_of_ble_eq_true rfl) q828 rfl rfl rfl rfl (Nat.le_of_ble_eq_true rfl) rfl dX11_init_12 (fun H locs h => ?_)
  refine lv_aload_n hx hb dX11_init_15 rfl (lv_at hl 0 rfl) ?_
  refine ct_new (fs := [.int 0, .null, .int 0]) B h hAn kJ10 q802 q803 q66 (by intro j9 hj9; rcases j9 with _ | _ | _ | j9 <;> first | rfl | omega) (by first | omega | (dsimp only; omega)) (by first | omega | (dsimp only; omega)) dX11_init_16 (fun c1 H h hc1 => ?_)
  have h : Hs E A s.heap ([(c1, .inr (14, [.int 0, .null, .int 0]))] ++ ([(n1, .inr (14, [.int 0, .ref (E.2.2.2 3), .int (nI 0)])), (t9, .inr (11, [.ref n1, .null, .null]))])) H locs := ct_Hc h
  have h : Hs E A s.heap ([(c1, .inr (14, [.int 0, .null, .int 0])), (n1, .inr (14, [.int 0, .ref (E.2.2.2 3), .int (nI 0)])), (t9, .inr (11, [.ref n1, .null, .null]))]) H locs := h
  refine lv_dup hx hb dX11_init_19 rfl ?_
  have h : Hs E A s.heap ([(c1, .inr (14, [.int 0, .null, .int 0]))] ++ ([(n1, .inr (14, [.int 0, .ref (E.2.2.2 3), .int (nI 0)])), (t9, .inr (11, [.ref n1, .null, .null]))])) H locs := h
  refine ct_callQ (ct_runI (b := c1) (As := []) (rest := [.ref c1, .ref t9]) B (met_J10_init l E c1 H.size) q806 q66 q804 q805 rfl (n := 0) ⟨by decide, by decide, by decide +kernel⟩ rfl ⟨rfl, rfl, (Nat.le_of_ble_eq_true rfl), (Nat.le_of_ble_eq_true rfl), (by first | omega | (dsimp only; omega)), (by first | omega | (dsimp only; omega))⟩ h.2.2 hA ⟨(ct_Pl h.1), (ct_Dl (ct_D0 h hA))⟩ hl.1 (Nat.le_of_ble_eq_true rfl) dX11_init_20) h.2.2 (ct_subL h hAn) (ct_subL h hAn) (fun v H locs hv hz hk hS => ?_)
  obtain ⟨rfl, hP1, hD1⟩ := hv
  have h : Hs E A s.heap ([(c1, .inr (14, [.int 0, .ref (E.2.2.2 3), .int (nI 0)]))] ++ ([(n1, .inr (14, [.int 0, .ref (E.2.2.2 3), .int (nI 0)])), (t9, .inr (11, [.ref n1, .null, .null]))])) H locs := ct_frL h hP1 hD1 hk hS hAn
  have h : Hs E A s.heap ([(c1, .inr (14, [.int 0, .ref (E.2.2.2 3), .int (nI 0)])), (n1, .inr (14, [.int 0, .ref (E.2.2.2 3), .int (nI 0)])), (t9, .inr (11, [.ref n1, .null, .null]))]) H locs := h
  clear hP1 hD1 hS hz hk
  refine W.eq (g2 := F0 m 23 ls [.ref c1, .ref t9]) rfl ?_
  refine ct_putF (ws' := [(c1, .inr (14, [.int 0, .ref (E.2.2.2 3), .int (nI 0)])), (n1, .inr (14, [.int 0, .ref (E.2.2.2 3), .int (nI 0)])), (t9, .inr (11, [.ref n1, .ref c1, .null]))]) B h kX11 2 rfl 1 (Nat.le_of_ble_eq_true rfl) q831 rfl rfl rfl rfl (Nat.le_of_ble_eq_true rfl) rfl dX11_init_23 (fun H locs h => ?_)
  have h : Hs E A s.heap ([(t9, .inr (11, [.ref n1, .ref c1, .null])), (n1, .inr (14, [.int 0, .ref (E.2.2.2 3), .int (nI 0)])), (c1, .inr (14, [.int 0, .ref (E.2.2.2 3), .int (nI 0)]))]) H locs := ct_part0 h [2, 1, 0] rfl rfl
  refine W.widen (k := 2) (n := 6) (by first | omega | (dsimp only; omega)) (by first | omega | (dsimp only; omega)) ?_
  exact ct_vret B h.2.2 ⟨n1, c1, rfl, h.1, h.2.1⟩ dX11_init_26
set_option maxHeartbeats 4000000 in
set_option maxRecDepth 100000 in
theorem met_X11_rows (l : Launch) (E : CE) (im : va_W) (t9 n9 c9 : Nat) (ln : Option Nat) (tb : Tab) (sz : Nat) (hT : tL E im n9 c9 tb) (hok : tabOK tb) : Met l yX11_rows (ws_ yX11_rows cX11_rows 1 (some .int)) { frames := 1, cells := 0, slots := 0, locals := 20 } (ctP E [.ref t9] sz (fun H => va_P E.1 ct_cl [(t9, .inr (11, [.ref n9, .ref c9, va_rf ln]))] H ∧ va_P E.1 ct_cl im H)) (ctR (fun v => v = some (.int (nI (tRows tb))))) 0 0 (fun _ => False) := by
  refine ct_start (by decide) (Nat.le_of_ble_eq_true rfl) ?_
  intro p e s m below meth c ls B hsz hH hl
  obtain ⟨hC, hI⟩ := hH
  have hx := B.1
  have hb := B.2.1
  have hl : lv_has ls 1 [(0, .ref t9)] := hl
  obtain ⟨fn, fc, hln, hlc, hnm, hce⟩ := hT
  obtain ⟨mdn, en, hmn⟩ := hln.obj
  obtain ⟨mdc, ec, hmc⟩ := hlc.obj
  obtain ⟨hcs, hrs, htl, hn20, hc40⟩ := hok
  have hmul := mul_cs hcs.2 hrs
  have hc1 : tb.1.length = tCols tb := rfl
  refine lv_aload_n hx hb dX11_rows_0 rfl (lv_at hl 0 rfl) ?_
  refine ct_get (v := .ref c9) B hC kX11 0 rfl 1 (Nat.le_of_ble_eq_true rfl) q831 rfl dX11_rows_1 ?_
  refine ct_callR (ct_runV (As := []) (rest := []) B (met_J10_size l E c9 ec tb.2.length mdc s.heap.size) (lw_V q1162 q847 q848 q66 q849) (n := 0) ⟨by decide, by decide, by decide +kernel⟩ rfl ⟨rfl, rfl, (Nat.le_of_ble_eq_true rfl), (Nat.le_of_ble_eq_true rfl), (Nat.le_of_ble_eq_true rfl), (Nat.le_of_ble_eq_true rfl)⟩ (va_S.rf (A := fun _ => False)) (fun _ h => h.elim) (ct_recv B (ct_sel hI hmc) kJ10 0 rfl) ((ct_sel hI hmc).sub [0] rfl) hl.1 (Nat.le_of_ble_eq_true rfl) dX11_rows_4) (fun v hv => ?_)
  subst hv
  refine W.eq (g2 := F0 m 7 ls [.int (nI tb.2.length)]) rfl ?_
  refine lv_aload_n hx hb dX11_rows_7 rfl (lv_at hl 0 rfl) ?_
  refine ct_get (v := .ref n9) B hC kX11 0 rfl 0 (Nat.le_of_ble_eq_true rfl) q828 rfl dX11_rows_8 ?_
  refine ct_callR (ct_runV (As := []) (rest := [.int (nI tb.2.length)]) B (met_J10_size l E n9 en tb.1.length mdn s.heap.size) (lw_V q1162 q847 q848 q66 q849) (n := 0) ⟨by decide, by decide, by decide +kernel⟩ rfl ⟨rfl, rfl, (Nat.le_of_ble_eq_true rfl), (Nat.le_of_ble_eq_true rfl), (Nat.le_of_ble_eq_true rfl), (Nat.le_of_ble_eq_true rfl)⟩ (va_S.rf (A := fun _ => False)) (fun _ h => h.elim) (ct_recv B (ct_sel hI hmn) kJ10 0 rfl) ((ct_sel hI hmn).sub [0] rfl) hl.1 (Nat.le_of_ble_eq_true rfl) dX11_rows_11) (fun v hv => ?_)
  subst hv
  refine W.eq (g2 := F0 m 14 ls [.int (nI tb.1.length), .int (nI tb.2.length)]) rfl ?_
  refine n_idiv hx hb (by omega) (by omega) (by omega) dX11_rows_14 ?_
  refine W.eq (g2 := F0 m 15 ls [.int (nI (tRows tb))]) (by rw [(show tb.2.length / tb.1.length = tRows tb by rw [htl, hc1, Nat.mul_div_cancel_left _ (by omega)])]) ?_
  exact ct_iretR (ty := .int) (v := (nI (tRows tb))) B rfl rfl (rfl) dX11_rows_15
set_option maxHeartbeats 4000000 in
set_option maxRecDepth 100000 in
theorem met_X11_at (l : Launch) (E : CE) (im : va_W) (t9 n9 c9 : Nat) (ln : Option Nat) (tb : Tab) (r9 k9 : Nat) (sz : Nat) (hT : tL E im n9 c9 tb) (hok : tabOK tb) (hr : r9 < tRows tb) (hk : k9 < tCols tb) : Met l yX11_at (ws_ yX11_at cX11_at 3 (some (.object "CommaTablesModel$Cell"))) { frames := 3, cells := 0, slots := 0, locals := 64 } (ctP E [.ref t9, .int (nI r9), .int (nI k9)] sz (fun H => va_P E.1 ct_cl [(t9, .inr (11, [.ref n9, .ref c9, va_rf ln]))] H ∧ va_P E.1 ct_cl im H)) (ctR (fun v => ∃ x : Nat, v = some (.ref x) ∧ cI E im x (cellW tb (tCols tb * r9 + k9)))) 0 0 (fun _ => False) := by
  refine ct_start (by decide) (Nat.le_of_ble_eq_true rfl) ?_
  intro p e s m below meth c ls B hsz hH hl
  obtain ⟨hC, hI⟩ := hH
  have hx := B.1
  have hb := B.2.1
  have hl : lv_has ls 3 [(0, .ref t9), (1, .int (nI r9)), (2, .int (nI k9))] := hl
  obtain ⟨fn, fc, hln, hlc, hnm, hce⟩ := hT
  obtain ⟨mdn, en, hmn⟩ := hln.obj
  obtain ⟨mdc, ec, hmc⟩ := hlc.obj
  obtain ⟨hcs, hrs, htl, hn20, hc40⟩ := hok
  have hmul := mul_cs hcs.2 hrs
  have hc1 : tb.1.length = tCols tb := rfl
  have hix := ix_lt hk hr
  obtain ⟨md1, d1, cap1, hcap, hcap2, hm1⟩ := hlc.get (by omega)
  obtain ⟨x, hfx, hcx⟩ := hce (tCols tb * r9 + k9) (by omega)
  obtain ⟨s1, hx1, hs1⟩ := hcx
  refine lv_aload_n hx hb dX11_at_0 rfl (lv_at hl 0 rfl) ?_
  refine ct_get (v := .ref c9) B hC kX11 0 rfl 1 (Nat.le_of_ble_eq_true rfl) q831 rfl dX11_at_1 ?_
  refine lv_iload_n hx hb dX11_at_4 rfl (lv_at hl 1 rfl) ?_
  refine lv_aload_n hx hb dX11_at_5 rfl (lv_at hl 0 rfl) ?_
  refine ct_get (v := .ref n9) B hC kX11 0 rfl 0 (Nat.le_of_ble_eq_true rfl) q828 rfl dX11_at_6 ?_
  refine ct_callR (ct_runV (As := []) (rest := [.int (nI r9), .ref c9]) B (met_J10_size l E n9 en tb.1.length mdn s.heap.size) (lw_V q1162 q847 q848 q66 q849) (n := 0) ⟨by decide, by decide, by decide +kernel⟩ rfl ⟨rfl, rfl, (Nat.le_of_ble_eq_true rfl), (Nat.le_of_ble_eq_true rfl), (Nat.le_of_ble_eq_true rfl), (Nat.le_of_ble_eq_true rfl)⟩ (va_S.rf (A := fun _ => False)) (fun _ h => h.elim) (ct_recv B (ct_sel hI hmn) kJ10 0 rfl) ((ct_sel hI hmn).sub [0] rfl) hl.1 (Nat.le_of_ble_eq_true rfl) dX11_at_9) (fun v hv => ?_)
  subst hv
  refine W.eq (g2 := F0 m 12 ls [.int (nI tb.1.length), .int (nI r9), .ref c9]) rfl ?_
  refine n_imul hx hb dX11_at_12 ?_
  refine W.eq (g2 := F0 m 13 ls [.int (nI (tCols tb * r9)), .ref c9]) (by rw [(show r9 * tb.1.length = tCols tb * r9 by rw [hc1, Nat.mul_comm])]) ?_
  refine lv_iload_n hx hb dX11_at_13 rfl (lv_at hl 2 rfl) ?_
  refine n_iadd hx hb dX11_at_14 ?_
  refine ct_callR (ct_runV (As := [.int (nI (tCols tb * r9 + k9))]) (rest := []) B (met_J10_get l E c9 d1 tb.2.length cap1 md1 fc (tCols tb * r9 + k9) s.heap.size (by omega) ⟨hcap, hcap2⟩) (lw_V q1167 q1038 q1039 q66 q1040) (n := 1) ⟨by decide, by decide, by decide +kernel⟩ rfl ⟨rfl, rfl, (Nat.le_of_ble_eq_true rfl), (Nat.le_of_ble_eq_true rfl), (Nat.le_of_ble_eq_true rfl), (Nat.le_of_ble_eq_true rfl)⟩ (va_S.rf (A := fun _ => False)) (fun _ h => h.elim) (ct_recv B (ct_sel hI hm1) kJ10 0 rfl) ((ct_sel hI hm1).sub [0, 1] rfl) hl.1 (Nat.le_of_ble_eq_true rfl) dX11_at_15) (fun v hv => ?_)
  subst hv
  refine W.eq (g2 := F0 m 18 ls [va_rf (fc (tCols tb * r9 + k9))]) rfl ?_
  refine W.eq (g2 := F0 m 18 ls [.ref x]) (by rw [hfx] <;> rfl) ?_
  refine va_castE hx hb B.2.2.1 (B.2.2.2.1 _ q1168) (ct_recv B (ct_sel hI (L := [(x, .inr (12, [.ref s1, .int (nI (if (cellW tb (tCols tb * r9 + k9)).2 = true then 1 else 0))]))]) (by intro z9 h9; rw [List.mem_singleton.mp h9]; exact hx1)) kX12 0 rfl) dX11_at_18 ?_
  exact ct_aretR (r := some (x)) B rfl (Or.inl ⟨_, rfl⟩) (⟨x, rfl, s1, hx1, hs1⟩) dX11_at_21
set_option maxHeartbeats 4000000 in
set_option maxRecDepth 100000 in
theorem met_X7_init (l : Launch) (E : CE) (tr : Nat) (sz : Nat)  : Met l yX7_init (ws_ yX7_init cX7_init 1 none) { frames := 1, cells := 0, slots := 0, locals := 20 } (ctP E [.ref tr] sz (fun H => va_P E.1 ct_cl ([(tr, .inr (7, [.int 0]))]) H ∧ va_D (fun q => E.2.2.1 ≤ q) ([(tr, .inr (7, [.int 0]))]))) (ctQ (fun v H => v = none ∧ va_P E.1 ct_cl ([(tr, .inr (7, [.int 0]))]) H ∧ va_D (va_A ([(tr, .inr (7, [.int 0]))]) sz) ([(tr, .inr (7, [.int 0]))])) (va_A ([(tr, .inr (7, [.int 0]))]) sz)) 0 0 (va_A ([(tr, .inr (7, [.int 0]))]) sz) := by
  refine ct_start (by decide) (Nat.le_of_ble_eq_true rfl) ?_
  intro p e s m below meth c ls B hsz hH hl
  obtain ⟨hP, hD⟩ := hH
  obtain ⟨A, hAe, h, hA, hAn⟩ := ct_enter B.2.2.2.2.2.2.2.2 hsz hP hD
  rw [hAe]
  refine ct_gen h (fun H locs h => ?_)
  have hx := B.1
  have hb := B.2.1
  have hl : lv_has ls 1 [(0, .ref tr)] := hl
  refine lv_aload_n hx hb dX7_init_0 rfl (lv_at hl 0 rfl) ?_
  refine ct_objInit B q704 q87 q88 hl.1 dX7_init_1 (Nat.le_of_ble_eq_true rfl) (Nat.le_of_ble_eq_true rfl) ?_
  have h : Hs E A s.heap ([(tr, .inr (7, [.int 0]))]) H locs := h
  exact ct_vret B h.2.2 ⟨rfl, h.1, h.2.1⟩ dX7_init_4
set_option maxHeartbeats 4000000 in
set_option maxRecDepth 100000 in
theorem met_X7_at (l : Launch) (E : CE) (tr : Nat) (kd pl p0 : Int32) (sz : Nat) (htr : l.stackTraces = false) : Met l yX7_at (ws_ yX7_at cX7_at 3 (some (.object "java/lang/IllegalStateException"))) { frames := 6, cells := 1, slots := 6, locals := 95 } (ctP E [.ref tr, .int kd, .int pl] sz (fun H => va_P E.1 ct_cl ([(tr, .inr (7, [.int p0]))]) H ∧ va_D (fun q => E.2.2.1 ≤ q) ([(tr, .inr (7, [.int p0]))]))) (ctQ (fun v H => ∃ x2 : Nat, v = some (.ref x2) ∧ va_P E.1 ct_cl ([(tr, .inr (7, [.int pl]))]) H ∧ va_D (va_A ([(tr, .inr (7, [.int p0]))]) sz) ([(tr, .inr (7, [.int pl]))]) ∧ (exC E H x2)) (va_A ([(tr, .inr (7, [.int p0]))]) sz)) 1 6 (va_A ([(tr, .inr (7, [.int p0]))]) sz) := by
  refine ct_start (by decide) (Nat.le_of_ble_eq_true rfl) ?_
  intro p e s m below meth c ls B hsz hH hl
  obtain ⟨hP, hD⟩ := hH
  obtain ⟨A, hAe, h, hA, hAn⟩ := ct_enter B.2.2.2.2.2.2.2.2 hsz hP hD
  rw [hAe]
  refine ct_gen h (fun H locs h => ?_)
  have hx := B.1
  have hb := B.2.1
  have hl : lv_has ls 3 [(0, .ref tr), (1, .int kd), (2, .int pl)] := hl
  refine lv_aload_n hx hb dX7_at_0 rfl (lv_at hl 0 rfl) ?_
  refine lv_iload_n hx hb dX7_at_1 rfl (lv_at hl 2 rfl) ?_
  refine ct_put (ws' := [(tr, .inr (7, [.int pl]))]) B h kX7 0 rfl 0 (Nat.le_of_ble_eq_true rfl) q705 rfl rfl rfl (Nat.le_of_ble_eq_true rfl) rfl dX7_at_2 (fun H locs h => ?_)
  refine ct_newex B htr h hA hAn q858 q859 hl.1 (Nat.le_of_ble_eq_true rfl) (Nat.le_of_ble_eq_true rfl) (by first | omega | (dsimp only; omega)) (by first | omega | (dsimp only; omega)) dX7_at_5 dX7_at_8 dX7_at_9 (fun x1 H locs h hex_ hxs hxz => ?_)
  have h : Hs E A s.heap ([(tr, .inr (7, [.int pl]))]) H locs := h
  refine W.widen (k := 1) (n := 6) (by first | omega | (dsimp only; omega)) (by first | omega | (dsimp only; omega)) ?_
  exact ct_aretQ (r := some (x1)) B rfl (Or.inl ⟨_, rfl⟩) h.2.2 ⟨x1, rfl, h.1, h.2.1, hex_⟩ dX7_at_12
