/-! the JDK's texts -/
theorem c_shl0 (n : Nat) : nI n <<< (nI 0 &&& 31) = nI n := sb_shl0 _
theorem c_subLe {a b : Nat} (h : a ≤ b) (hb : b < 2 ^ 30) : nI a - nI b ≤ 0 := by
  rcases Nat.lt_or_eq_of_le h with q | q
  · exact Int32.le_of_lt (pk_sneg hb q)
  · rw [q, Int32.sub_self]; decide
theorem c_byte128 : ∀ n, n < 128 → (nI n).toInt8.toInt32 = nI n := by decide +kernel
theorem c_fit : ∀ n, n < 128 → fits .byte (.int (nI n)) = true := by decide +kernel
set_option maxHeartbeats 4000000 in
set_option maxRecDepth 100000 in
theorem met_J13_newLength (l : Launch) (E : CE) (o mn pf : Nat) (sz : Nat) (hs : 0 < o + max mn pf ∧ o + max mn pf ≤ 2147483639) (hb9 : mn < 2147483648 ∧ pf < 2147483648) : Met l yJ13_newLength (ws_ yJ13_newLength cJ13_newLength 4 (some .int)) { frames := 1, cells := 0, slots := 0, locals := 25 } (ctP E [.int (nI o), .int (nI mn), .int (nI pf)] sz (fun H => True)) (ctR (fun v => v = some (.int (nI (o + max mn pf))))) 0 0 (fun _ => False) := by
  refine ct_start (by decide) (Nat.le_of_ble_eq_true rfl) ?_
  intro p e s m below meth c ls B hsz hH hl
  have hx := B.1
  have hb := B.2.1
  have hl : lv_has ls 4 [(0, .int (nI o)), (1, .int (nI mn)), (2, .int (nI pf))] := hl
  refine lv_iload_n hx hb dJ13_newLength_0 rfl (lv_at hl 0 rfl) ?_
  refine lv_iload_n hx hb dJ13_newLength_1 rfl (lv_at hl 1 rfl) ?_
  refine lv_iload_n hx hb dJ13_newLength_2 rfl (lv_at hl 2 rfl) ?_
  refine n_max B q916 q917 q70 q918 hl.1 (Nat.le_of_ble_eq_true rfl) (Nat.le_of_ble_eq_true rfl) (Nat.le_of_ble_eq_true rfl) (Nat.le_of_ble_eq_true rfl) (by omega) (by omega) dJ13_newLength_3 ?_
  refine W.eq (g2 := F0 m 6 ls [.int (nI (max mn pf)), .int (nI o)]) rfl ?_
  refine n_iadd hx hb dJ13_newLength_6 ?_
  refine lv_istore_n (lv' := [(3, .int (nI (o + (max mn pf)))), (0, .int (nI o)), (1, .int (nI mn)), (2, .int (nI pf))]) hx hb dJ13_newLength_7 rfl hl (by decide) rfl (fun ls hl => ?_)
  refine lv_iconst (v := nI 0) hx hb dJ13_newLength_8 (by decide) ?_
  refine lv_iload_n hx hb dJ13_newLength_9 rfl (lv_at hl 0 rfl) ?_
  refine n_icmp_ge (tgt := 21) hx hb dJ13_newLength_10 (by decide) (by omega) (by omega) (fun c_1 => absurd c_1 (by omega)) (fun c_1 => ?_)
  refine lv_iload_n hx hb dJ13_newLength_13 rfl (lv_at hl 0 rfl) ?_
  refine lv_ldc (v := nI 2147483639) hx hb B.2.2.1 (B.2.2.2.1 _ q919) dJ13_newLength_14 ?_
  refine n_icmp_gt (tgt := 21) hx hb dJ13_newLength_16 (by decide) (by omega) (by omega) (fun c_2 => absurd c_2 (by omega)) (fun c_2 => ?_)
  refine lv_iload_n hx hb dJ13_newLength_19 rfl (lv_at hl 0 rfl) ?_
  exact ct_iretR (ty := .int) (v := (nI (o + (max mn pf)))) B rfl rfl (rfl) dJ13_newLength_20
set_option maxHeartbeats 4000000 in
set_option maxRecDepth 100000 in
theorem met_J5_canEncode (l : Launch) (E : CE) (c9 : Nat) (sz : Nat) (hc : c9 ≤ 255) : Met l yJ5_canEncode (ws_ yJ5_canEncode cJ5_canEncode 1 (some .boolean)) { frames := 0, cells := 0, slots := 0, locals := 0 } (ctP E [.int (nI c9)] sz (fun H => True)) (ctR (fun v => v = some (.int (nI 1)))) 0 0 (fun _ => False) := by
  refine ct_start (by decide) (Nat.le_of_ble_eq_true rfl) ?_
  intro p e s m below meth c ls B hsz hH hl
  have hx := B.1
  have hb := B.2.1
  have hl : lv_has ls 1 [(0, .int (nI c9))] := hl
  refine lv_iload_n hx hb dJ5_canEncode_0 rfl (lv_at hl 0 rfl) ?_
  refine lv_sipush (v := nI 255) hx hb dJ5_canEncode_1 (by decide) ?_
  refine n_icmp_gt (tgt := 11) hx hb dJ5_canEncode_4 (by decide) (by omega) (by omega) (fun c_1 => absurd c_1 (by omega)) (fun c_1 => ?_)
  refine lv_iconst (v := nI 1) hx hb dJ5_canEncode_7 (by decide) ?_
  refine lv_goto (tgt := 12) hx hb dJ5_canEncode_8 (by decide) ?_
  exact ct_iretR (ty := .boolean) (v := (nI 1)) B rfl rfl (rfl) dJ5_canEncode_12
set_option maxHeartbeats 4000000 in
set_option maxRecDepth 100000 in
theorem met_J11_isLatin1 (l : Launch) (E : CE) (a va : Nat) (ml : Int32) (k : Nat) (sz : Nat)  : Met l yJ11_isLatin1 (ws_ yJ11_isLatin1 cJ11_isLatin1 1 (some .boolean)) { frames := 0, cells := 0, slots := 0, locals := 0 } (ctP E [.ref a] sz (fun H => va_P E.1 ct_cl [(a, .inr (15, [.ref va, .int (nI 0), .int ml, .int (nI k)]))] H)) (ctR (fun v => v = some (.int (nI 1)))) 0 0 (fun _ => False) := by
  refine ct_start (by decide) (Nat.le_of_ble_eq_true rfl) ?_
  intro p e s m below meth c ls B hsz hH hl
  have hC := hH
  have hx := B.1
  have hb := B.2.1
  have hl : lv_has ls 1 [(0, .ref a)] := hl
  refine ct_gsC B (va_S.rf (A := fun _ => False)) (fun _ h => h.elim) q873 dJ11_isLatin1_0 ?_
  refine n_if_eq (tgt := 17) hx hb dJ11_isLatin1_3 (by decide) (by omega) (fun c_1 => absurd c_1 (by omega)) (fun c_1 => ?_)
  refine lv_aload_n hx hb dJ11_isLatin1_6 rfl (lv_at hl 0 rfl) ?_
  refine ct_get (v := .int (nI 0)) B hC kJ12 0 rfl 1 (Nat.le_of_ble_eq_true rfl) q882 rfl dJ11_isLatin1_7 ?_
  refine n_if_ne (tgt := 17) hx hb dJ11_isLatin1_10 (by decide) (by omega) (fun c_2 => absurd c_2 (by omega)) (fun c_2 => ?_)
  refine lv_iconst (v := nI 1) hx hb dJ11_isLatin1_13 (by decide) ?_
  refine lv_goto (tgt := 18) hx hb dJ11_isLatin1_14 (by decide) ?_
  exact ct_iretR (ty := .boolean) (v := (nI 1)) B rfl rfl (rfl) dJ11_isLatin1_18
set_option maxHeartbeats 4000000 in
set_option maxRecDepth 100000 in
theorem met_J11_getValue (l : Launch) (E : CE) (a va : Nat) (ml : Int32) (k : Nat) (sz : Nat)  : Met l yJ11_getValue (ws_ yJ11_getValue cJ11_getValue 1 (some (.array .byte))) { frames := 0, cells := 0, slots := 0, locals := 0 } (ctP E [.ref a] sz (fun H => va_P E.1 ct_cl [(a, .inr (15, [.ref va, .int (nI 0), .int ml, .int (nI k)]))] H)) (ctR (fun v => v = some (.ref va))) 0 0 (fun _ => False) := by
  refine ct_start (by decide) (Nat.le_of_ble_eq_true rfl) ?_
  intro p e s m below meth c ls B hsz hH hl
  have hC := hH
  have hx := B.1
  have hb := B.2.1
  have hl : lv_has ls 1 [(0, .ref a)] := hl
  refine lv_aload_n hx hb dJ11_getValue_0 rfl (lv_at hl 0 rfl) ?_
  refine ct_get (v := .ref va) B hC kJ12 0 rfl 0 (Nat.le_of_ble_eq_true rfl) q881 rfl dJ11_getValue_1 ?_
  exact ct_aretR (r := some (va)) B rfl (Or.inr ⟨_, rfl⟩) (rfl) dJ11_getValue_4
set_option maxHeartbeats 4000000 in
set_option maxRecDepth 100000 in
theorem met_J11_length (l : Launch) (E : CE) (a va : Nat) (ml : Int32) (k : Nat) (sz : Nat)  : Met l yJ11_length (ws_ yJ11_length cJ11_length 1 (some .int)) { frames := 0, cells := 0, slots := 0, locals := 0 } (ctP E [.ref a] sz (fun H => va_P E.1 ct_cl [(a, .inr (15, [.ref va, .int (nI 0), .int ml, .int (nI k)]))] H)) (ctR (fun v => v = some (.int (nI k)))) 0 0 (fun _ => False) := by
  refine ct_start (by decide) (Nat.le_of_ble_eq_true rfl) ?_
  intro p e s m below meth c ls B hsz hH hl
  have hC := hH
  have hx := B.1
  have hb := B.2.1
  have hl : lv_has ls 1 [(0, .ref a)] := hl
  refine lv_aload_n hx hb dJ11_length_0 rfl (lv_at hl 0 rfl) ?_
  refine ct_get (v := .int (nI k)) B hC kJ12 0 rfl 3 (Nat.le_of_ble_eq_true rfl) q884 rfl dJ11_length_1 ?_
  exact ct_iretR (ty := .int) (v := (nI k)) B rfl rfl (rfl) dJ11_length_4
set_option maxHeartbeats 4000000 in
set_option maxRecDepth 100000 in
theorem met_J12_length (l : Launch) (E : CE) (a va : Nat) (ml : Int32) (k : Nat) (sz : Nat)  : Met l yJ12_length (ws_ yJ12_length cJ12_length 1 (some .int)) { frames := 1, cells := 0, slots := 0, locals := 20 } (ctP E [.ref a] sz (fun H => va_P E.1 ct_cl [(a, .inr (15, [.ref va, .int (nI 0), .int ml, .int (nI k)]))] H)) (ctR (fun v => v = some (.int (nI k)))) 0 0 (fun _ => False) := by
  refine ct_start (by decide) (Nat.le_of_ble_eq_true rfl) ?_
  intro p e s m below meth c ls B hsz hH hl
  have hC := hH
  have hx := B.1
  have hb := B.2.1
  have hl : lv_has ls 1 [(0, .ref a)] := hl
  refine lv_aload_n hx hb dJ12_length_0 rfl (lv_at hl 0 rfl) ?_
  refine ct_callR (ct_runSU (As := []) (rest := []) (B.2.2.2.2.2.2.2.2.1.1 15 _ kJ12.1).2 B (met_J11_length l E a va ml k s.heap.size) q995 q991 q893 q990 q67 q996 (by decide) (n := 0) ⟨by decide, by decide, by decide +kernel⟩ rfl ⟨rfl, rfl, (Nat.le_of_ble_eq_true rfl), (Nat.le_of_ble_eq_true rfl), (Nat.le_of_ble_eq_true rfl), (Nat.le_of_ble_eq_true rfl)⟩ (va_S.rf (A := fun _ => False)) (fun _ h => h.elim) (ct_recv B hC kJ12 0 rfl) (hC.sub [0] rfl) hl.1 (Nat.le_of_ble_eq_true rfl) dJ12_length_1) (fun v hv => ?_)
  subst hv
  refine W.eq (g2 := F0 m 4 ls [.int (nI k)]) rfl ?_
  exact ct_iretR (ty := .int) (v := (nI k)) B rfl rfl (rfl) dJ12_length_4
set_option maxHeartbeats 4000000 in
set_option maxRecDepth 100000 in
theorem met_J11_newCapacity (l : Launch) (E : CE) (a va : Nat) (ml : Int32) (k cap : Nat) (f : Nat → Int32) (mn : Nat) (sz : Nat) (hc : cap ≤ 100000) (hm : cap < mn ∧ mn ≤ cap + 1) : Met l yJ11_newCapacity (ws_ yJ11_newCapacity cJ11_newCapacity 6 (some .int)) { frames := 2, cells := 0, slots := 0, locals := 48 } (ctP E [.ref a, .int (nI mn)] sz (fun H => va_P E.1 ct_cl [(a, .inr (15, [.ref va, .int (nI 0), .int ml, .int (nI k)])), (va, .inl (E.2.1 0, cap, .inl f))] H)) (ctR (fun v => v = some (.int (nI (cap + max (mn - cap) (cap + 2)))))) 0 0 (fun _ => False) := by
  refine ct_start (by decide) (Nat.le_of_ble_eq_true rfl) ?_
  intro p e s m below meth c ls B hsz hH hl
  have hC := hH
  have hx := B.1
  have hb := B.2.1
  have hl : lv_has ls 6 [(0, .ref a), (1, .int (nI mn))] := hl
  refine lv_aload_n hx hb dJ11_newCapacity_0 rfl (lv_at hl 0 rfl) ?_
  refine ct_get (v := .ref va) B hC kJ12 0 rfl 0 (Nat.le_of_ble_eq_true rfl) q881 rfl dJ11_newCapacity_1 ?_
  refine ct_alen B hC 1 0 rfl rfl dJ11_newCapacity_4 ?_
  refine lv_istore_n (lv' := [(2, .int (nI cap)), (0, .ref a), (1, .int (nI mn))]) hx hb dJ11_newCapacity_5 rfl hl (by decide) rfl (fun ls hl => ?_)
  refine lv_iload_n hx hb dJ11_newCapacity_6 rfl (lv_at hl 2 rfl) ?_
  refine lv_aload_n hx hb dJ11_newCapacity_7 rfl (lv_at hl 1 rfl) ?_
  refine ct_get (v := .int (nI 0)) B hC kJ12 0 rfl 1 (Nat.le_of_ble_eq_true rfl) q882 rfl dJ11_newCapacity_8 ?_
  refine lv_ishl hx hb dJ11_newCapacity_11 ?_
  refine W.eq (g2 := F0 m 12 ls [.int (nI mn)]) (by rw [c_shl0]) ?_
  refine lv_istore_n (lv' := [(3, .int (nI mn)), (2, .int (nI cap)), (0, .ref a), (1, .int (nI mn))]) hx hb dJ11_newCapacity_12 rfl hl (by decide) rfl (fun ls hl => ?_)
  refine lv_iload_n hx hb dJ11_newCapacity_13 rfl (lv_at hl 0 rfl) ?_
  refine lv_iload_n hx hb dJ11_newCapacity_14 rfl (lv_at hl 1 rfl) ?_
  refine n_isub hx hb (by omega) dJ11_newCapacity_15 ?_
  refine lv_istore (lv' := [(4, .int (nI (mn - cap))), (3, .int (nI mn)), (2, .int (nI cap)), (0, .ref a), (1, .int (nI mn))]) hx hb dJ11_newCapacity_16 hl (by decide) rfl (fun ls hl => ?_)
  refine lv_iload_n hx hb dJ11_newCapacity_18 rfl (lv_at hl 2 rfl) ?_
  refine lv_iload hx hb dJ11_newCapacity_19 (lv_at hl 0 rfl) ?_
  refine lv_iload_n hx hb dJ11_newCapacity_21 rfl (lv_at hl 2 rfl) ?_
  refine lv_iconst (v := nI 2) hx hb dJ11_newCapacity_22 (by decide) ?_
  refine lv_aload_n hx hb dJ11_newCapacity_23 rfl (lv_at hl 3 rfl) ?_
  refine ct_get (v := .int (nI 0)) B hC kJ12 0 rfl 1 (Nat.le_of_ble_eq_true rfl) q882 rfl dJ11_newCapacity_24 ?_
  refine lv_ishl hx hb dJ11_newCapacity_27 ?_
  refine W.eq (g2 := F0 m 28 ls [.int (nI 2), .int (nI cap), .int (nI (mn - cap)), .int (nI cap)]) (by rw [c_shl0]) ?_
  refine n_iadd hx hb dJ11_newCapacity_28 ?_
  refine ct_callR (ct_runS (As := [.int (nI cap), .int (nI (mn - cap)), .int (nI (cap + 2))]) (rest := []) B (met_J13_newLength l E cap (mn - cap) (cap + 2) s.heap.size (by omega) (by omega)) (lw_S q913 q914 q69 q915) (n := 3) ⟨by decide, by decide, by decide +kernel⟩ rfl ⟨rfl, rfl, (Nat.le_of_ble_eq_true rfl), (Nat.le_of_ble_eq_true rfl), (Nat.le_of_ble_eq_true rfl), (Nat.le_of_ble_eq_true rfl)⟩ (va_S.rf (A := fun _ => False)) (fun _ h => h.elim) trivial hl.1 (Nat.le_of_ble_eq_true rfl) dJ11_newCapacity_29) (fun v hv => ?_)
  subst hv
  refine W.eq (g2 := F0 m 32 ls [.int (nI (cap + max (mn - cap) (cap + 2)))]) rfl ?_
  refine lv_istore (lv' := [(5, .int (nI (cap + max (mn - cap) (cap + 2)))), (4, .int (nI (mn - cap))), (3, .int (nI mn)), (2, .int (nI cap)), (0, .ref a), (1, .int (nI mn))]) hx hb dJ11_newCapacity_32 hl (by decide) rfl (fun ls hl => ?_)
  refine lv_iload hx hb dJ11_newCapacity_34 (lv_at hl 0 rfl) ?_
  refine lv_ldc (v := nI 2147483647) hx hb B.2.2.1 (B.2.2.2.1 _ q923) dJ11_newCapacity_36 ?_
  refine n_icmp_ne (tgt := 51) hx hb dJ11_newCapacity_38 (by decide) (by omega) (by omega) (fun c_1 => ?_) (fun c_1 => absurd c_1 (by omega))
  refine lv_iload hx hb dJ11_newCapacity_51 (lv_at hl 0 rfl) ?_
  refine lv_aload_n hx hb dJ11_newCapacity_53 rfl (lv_at hl 4 rfl) ?_
  refine ct_get (v := .int (nI 0)) B hC kJ12 0 rfl 1 (Nat.le_of_ble_eq_true rfl) q882 rfl dJ11_newCapacity_54 ?_
  refine lv_ishr hx hb dJ11_newCapacity_57 ?_
  refine W.eq (g2 := F0 m 58 ls [.int (nI (cap + max (mn - cap) (cap + 2)))]) (by rw [c_shr0]) ?_
  exact ct_iretR (ty := .int) (v := (nI (cap + max (mn - cap) (cap + 2)))) B rfl rfl (rfl) dJ11_newCapacity_58
set_option maxHeartbeats 4000000 in
set_option maxRecDepth 100000 in
theorem met_J15_copyOf (l : Launch) (E : CE) (va cap n2 : Nat) (f : Nat → Int32) (sz : Nat) (hn : cap < n2 ∧ n2 ≤ 300000) (hf : ∀ i, i < cap → fits .byte (.int (f i)) = true) : Met l yJ15_copyOf (ws_ yJ15_copyOf cJ15_copyOf 3 (some (.array .byte))) { frames := 1, cells := 1, slots := n2, locals := 60 } (ctP E [.ref va, .int (nI n2)] sz (fun H => va_P E.1 ct_cl ([(va, .inl (E.2.1 0, cap, .inl f))]) H ∧ va_D (fun q => E.2.2.1 ≤ q) ([(va, .inl (E.2.1 0, cap, .inl f))]))) (ctQ (fun v H => ∃ q2 : Nat, v = some (.ref q2) ∧ va_P E.1 ct_cl ([(va, .inl (E.2.1 0, cap, .inl f)), (q2, .inl (E.2.1 0, n2, .inl (va_cpy f (fun _ => 0) 0 0 cap)))]) H ∧ va_D (va_A ([(va, .inl (E.2.1 0, cap, .inl f))]) sz) ([(va, .inl (E.2.1 0, cap, .inl f)), (q2, .inl (E.2.1 0, n2, .inl (va_cpy f (fun _ => 0) 0 0 cap)))])) (va_A ([(va, .inl (E.2.1 0, cap, .inl f))]) sz)) 1 n2 (va_A ([(va, .inl (E.2.1 0, cap, .inl f))]) sz) := by
  refine ct_start (by decide) (Nat.le_of_ble_eq_true rfl) ?_
  intro p e s m below meth c ls B hsz hH hl
  obtain ⟨hP, hD⟩ := hH
  obtain ⟨A, hAe, h, hA, hAn⟩ := ct_enter B.2.2.2.2.2.2.2.2 hsz hP hD
  rw [hAe]
  refine ct_gen h (fun H locs h => ?_)
  have hx := B.1
  have hb := B.2.1
  have hl : lv_has ls 3 [(0, .ref va), (1, .int (nI n2))] := hl
  refine lv_iload_n hx hb dJ15_copyOf_0 rfl (lv_at hl 1 rfl) ?_
  refine lv_aload_n hx hb dJ15_copyOf_1 rfl (lv_at hl 0 rfl) ?_
  refine ct_alen B h.1 0 0 rfl rfl dJ15_copyOf_2 ?_
  refine n_icmp_ne (tgt := 14) hx hb dJ15_copyOf_3 (by decide) (by omega) (by omega) (fun c_1 => ?_) (fun c_1 => absurd c_1 (by omega))
  refine lv_iload_n hx hb dJ15_copyOf_14 rfl (lv_at hl 1 rfl) ?_
  refine ct_newa (atype := .byte) (ty := .byte) (a0 := (n2, .inl (fun _ => 0))) B h hAn 0 rfl q156 rfl rfl (fun _ => rfl) (by omega) (by simp only [componentBytes]; omega) (Nat.le_of_ble_eq_true rfl) (by dsimp only; omega) dJ15_copyOf_15 (fun q1 H h hq1 => ?_)
  have h : Hs E A s.heap ([(q1, .inl (E.2.1 0, n2, .inl (fun _ => 0)))] ++ ([(va, .inl (E.2.1 0, cap, .inl f))])) H locs := ct_Hc h
  have h : Hs E A s.heap ([(q1, .inl (E.2.1 0, n2, .inl (fun _ => 0))), (va, .inl (E.2.1 0, cap, .inl f))]) H locs := h
  refine lv_astore_n (lv' := [(2, .ref q1), (0, .ref va), (1, .int (nI n2))]) hx hb dJ15_copyOf_17 rfl hl (by decide) rfl (fun ls hl => ?_)
  refine lv_aload_n hx hb dJ15_copyOf_18 rfl (lv_at hl 1 rfl) ?_
  refine lv_iconst (v := nI 0) hx hb dJ15_copyOf_19 (by decide) ?_
  refine lv_aload_n hx hb dJ15_copyOf_20 rfl (lv_at hl 0 rfl) ?_
  refine lv_iconst (v := nI 0) hx hb dJ15_copyOf_21 (by decide) ?_
  refine lv_aload_n hx hb dJ15_copyOf_22 rfl (lv_at hl 1 rfl) ?_
  refine ct_alen B h.1 1 0 rfl rfl dJ15_copyOf_23 ?_
  refine lv_iload_n hx hb dJ15_copyOf_24 rfl (lv_at hl 2 rfl) ?_
  refine n_min B q934 q590 q70 q591 hl.1 (Nat.le_of_ble_eq_true rfl) (Nat.le_of_ble_eq_true rfl) (by first | omega | (dsimp only; omega)) (by first | omega | (dsimp only; omega)) (by omega) (by omega) dJ15_copyOf_25 ?_
  refine W.eq (g2 := F0 m 28 ls [.int (nI (min cap n2)), .int (nI 0), .ref q1, .int (nI 0), .ref va]) rfl ?_
  refine W.eq (g2 := F0 m 28 ls [.int (nI cap), .int (nI 0), .ref q1, .int (nI 0), .ref va]) (by rw [Nat.min_eq_left (show cap ≤ n2 by omega)] <;> rfl) ?_
  refine ct_copyB (ws' := [(q1, .inl (E.2.1 0, n2, .inl (va_cpy f (fun _ => 0) 0 0 cap))), (va, .inl (E.2.1 0, cap, .inl f))]) B hl.1 h q935 q937 q936 q72 1 0 rfl rfl (by omega) (by omega) (by omega) hf rfl (Nat.le_of_ble_eq_true rfl) (Nat.le_of_ble_eq_true rfl) dJ15_copyOf_28 (fun H locs h => ?_)
  refine lv_aload_n hx hb dJ15_copyOf_31 rfl (lv_at hl 0 rfl) ?_
  have h : Hs E A s.heap ([(va, .inl (E.2.1 0, cap, .inl f)), (q1, .inl (E.2.1 0, n2, .inl (va_cpy f (fun _ => 0) 0 0 cap)))]) H locs := ct_part0 h [1, 0] rfl rfl
  refine W.widen (k := 1) (n := n2) (by first | omega | (dsimp only; omega)) (by first | omega | (dsimp only; omega)) ?_
  exact ct_aretQ (r := some (q1)) B rfl (Or.inr ⟨_, rfl⟩) h.2.2 ⟨q1, rfl, h.1, h.2.1⟩ dJ15_copyOf_32
set_option maxHeartbeats 4000000 in
set_option maxRecDepth 100000 in
theorem met_J15_checkLength (l : Launch) (E : CE) (k : Nat) (sz : Nat) (hk : k ≤ 100000) : Met l yJ15_checkLength (ws_ yJ15_checkLength cJ15_checkLength 2 none) { frames := 0, cells := 0, slots := 0, locals := 0 } (ctP E [.int (nI 0), .int (nI k)] sz (fun H => True)) (ctR (fun v => v = none)) 0 0 (fun _ => False) := by
  refine ct_start (by decide) (Nat.le_of_ble_eq_true rfl) ?_
  intro p e s m below meth c ls B hsz hH hl
  have hx := B.1
  have hb := B.2.1
  have hl : lv_has ls 2 [(0, .int (nI 0)), (1, .int (nI k))] := hl
  refine lv_iload_n hx hb dJ15_checkLength_0 rfl (lv_at hl 1 rfl) ?_
  refine lv_iload_n hx hb dJ15_checkLength_1 rfl (lv_at hl 0 rfl) ?_
  refine n_icmp_ge (tgt := 37) hx hb dJ15_checkLength_2 (by decide) (by omega) (by omega) (fun c_1 => ?_) (fun c_1 => absurd c_1 (by omega))
  exact ct_vretR B (rfl) dJ15_checkLength_37
set_option maxHeartbeats 4000000 in
set_option maxRecDepth 100000 in
theorem met_J15_copyOfRangeByte (l : Launch) (E : CE) (va cap k : Nat) (f : Nat → Int32) (sz : Nat) (hc : k ≤ cap ∧ cap ≤ 300000) (hk : k ≤ 100000) (hf : ∀ i, i < cap → fits .byte (.int (f i)) = true) : Met l yJ15_copyOfRangeByte (ws_ yJ15_copyOfRangeByte cJ15_copyOfRangeByte 5 (some (.array .byte))) { frames := 1, cells := 1, slots := k, locals := 60 } (ctP E [.ref va, .int (nI 0), .int (nI k)] sz (fun H => va_P E.1 ct_cl ([(va, .inl (E.2.1 0, cap, .inl f))]) H ∧ va_D (fun q => E.2.2.1 ≤ q) ([(va, .inl (E.2.1 0, cap, .inl f))]))) (ctQ (fun v H => ∃ q2 : Nat, v = some (.ref q2) ∧ va_P E.1 ct_cl ([(va, .inl (E.2.1 0, cap, .inl f)), (q2, .inl (E.2.1 0, k, .inl (va_cpy f (fun _ => 0) 0 0 k)))]) H ∧ va_D (va_A ([(va, .inl (E.2.1 0, cap, .inl f))]) sz) ([(va, .inl (E.2.1 0, cap, .inl f)), (q2, .inl (E.2.1 0, k, .inl (va_cpy f (fun _ => 0) 0 0 k)))])) (va_A ([(va, .inl (E.2.1 0, cap, .inl f))]) sz)) 1 k (va_A ([(va, .inl (E.2.1 0, cap, .inl f))]) sz) := by
  refine ct_start (by decide) (Nat.le_of_ble_eq_true rfl) ?_
  intro p e s m below meth c ls B hsz hH hl
  obtain ⟨hP, hD⟩ := hH
  obtain ⟨A, hAe, h, hA, hAn⟩ := ct_enter B.2.2.2.2.2.2.2.2 hsz hP hD
  rw [hAe]
  refine ct_gen h (fun H locs h => ?_)
  have hx := B.1
  have hb := B.2.1
  have hl : lv_has ls 5 [(0, .ref va), (1, .int (nI 0)), (2, .int (nI k))] := hl
  refine lv_iload_n hx hb dJ15_copyOfRangeByte_0 rfl (lv_at hl 1 rfl) ?_
  refine lv_iload_n hx hb dJ15_copyOfRangeByte_1 rfl (lv_at hl 2 rfl) ?_
  refine ct_callR (ct_runS (As := [.int (nI 0), .int (nI k)]) (rest := []) B (met_J15_checkLength l E k H.size (by omega)) (lw_S q1004 q1005 q71 q1006) (n := 2) ⟨by decide, by decide, by decide +kernel⟩ rfl ⟨rfl, rfl, (Nat.le_of_ble_eq_true rfl), (Nat.le_of_ble_eq_true rfl), (by first | omega | (dsimp only; omega)), (by first | omega | (dsimp only; omega))⟩ h.2.2 hA trivial hl.1 (Nat.le_of_ble_eq_true rfl) dJ15_copyOfRangeByte_2) (fun v hv => ?_)
  subst hv
  refine W.eq (g2 := F0 m 5 ls []) rfl ?_
  refine lv_iload_n hx hb dJ15_copyOfRangeByte_5 rfl (lv_at hl 2 rfl) ?_
  refine lv_iload_n hx hb dJ15_copyOfRangeByte_6 rfl (lv_at hl 1 rfl) ?_
  refine n_isub hx hb (by omega) dJ15_copyOfRangeByte_7 ?_
  refine W.eq (g2 := F0 m 8 ls [.int (nI k)]) (by rw [Nat.sub_zero]) ?_
  refine lv_istore_n (lv' := [(3, .int (nI k)), (0, .ref va), (1, .int (nI 0)), (2, .int (nI k))]) hx hb dJ15_copyOfRangeByte_8 rfl hl (by decide) rfl (fun ls hl => ?_)
  refine lv_iload_n hx hb dJ15_copyOfRangeByte_9 rfl (lv_at hl 0 rfl) ?_
  refine ct_newa (atype := .byte) (ty := .byte) (a0 := (k, .inl (fun _ => 0))) B h hAn 0 rfl q156 rfl rfl (fun _ => rfl) (by omega) (by simp only [componentBytes]; omega) (Nat.le_of_ble_eq_true rfl) (by dsimp only; omega) dJ15_copyOfRangeByte_10 (fun q1 H h hq1 => ?_)
  have h : Hs E A s.heap ([(q1, .inl (E.2.1 0, k, .inl (fun _ => 0)))] ++ ([(va, .inl (E.2.1 0, cap, .inl f))])) H locs := ct_Hc h
  have h : Hs E A s.heap ([(q1, .inl (E.2.1 0, k, .inl (fun _ => 0))), (va, .inl (E.2.1 0, cap, .inl f))]) H locs := h
  refine lv_astore (lv' := [(4, .ref q1), (3, .int (nI k)), (0, .ref va), (1, .int (nI 0)), (2, .int (nI k))]) hx hb dJ15_copyOfRangeByte_12 hl (by decide) rfl (fun ls hl => ?_)
  refine lv_aload_n hx hb dJ15_copyOfRangeByte_14 rfl (lv_at hl 2 rfl) ?_
  refine lv_iload_n hx hb dJ15_copyOfRangeByte_15 rfl (lv_at hl 3 rfl) ?_
  refine lv_aload hx hb dJ15_copyOfRangeByte_16 (lv_at hl 0 rfl) ?_
  refine lv_iconst (v := nI 0) hx hb dJ15_copyOfRangeByte_18 (by decide) ?_
  refine lv_aload_n hx hb dJ15_copyOfRangeByte_19 rfl (lv_at hl 2 rfl) ?_
  refine ct_alen B h.1 1 0 rfl rfl dJ15_copyOfRangeByte_20 ?_
  refine lv_iload_n hx hb dJ15_copyOfRangeByte_21 rfl (lv_at hl 3 rfl) ?_
  refine n_isub hx hb (by omega) dJ15_copyOfRangeByte_22 ?_
  refine W.eq (g2 := F0 m 23 ls [.int (nI cap), .int (nI 0), .ref q1, .int (nI 0), .ref va]) (by rw [Nat.sub_zero]) ?_
  refine lv_iload_n hx hb dJ15_copyOfRangeByte_23 rfl (lv_at hl 1 rfl) ?_
  refine n_min B q934 q590 q70 q591 hl.1 (Nat.le_of_ble_eq_true rfl) (Nat.le_of_ble_eq_true rfl) (by first | omega | (dsimp only; omega)) (by first | omega | (dsimp only; omega)) (by omega) (by omega) dJ15_copyOfRangeByte_24 ?_
  refine W.eq (g2 := F0 m 27 ls [.int (nI (min cap k)), .int (nI 0), .ref q1, .int (nI 0), .ref va]) rfl ?_
  refine W.eq (g2 := F0 m 27 ls [.int (nI k), .int (nI 0), .ref q1, .int (nI 0), .ref va]) (by rw [Nat.min_eq_right (show k ≤ cap by omega)] <;> rfl) ?_
  refine ct_copyB (ws' := [(q1, .inl (E.2.1 0, k, .inl (va_cpy f (fun _ => 0) 0 0 k))), (va, .inl (E.2.1 0, cap, .inl f))]) B hl.1 h q935 q937 q936 q72 1 0 rfl rfl (by omega) (by omega) (by omega) (fun i9 h9 => hf i9 (by omega)) rfl (Nat.le_of_ble_eq_true rfl) (Nat.le_of_ble_eq_true rfl) dJ15_copyOfRangeByte_27 (fun H locs h => ?_)
  refine lv_aload hx hb dJ15_copyOfRangeByte_30 (lv_at hl 0 rfl) ?_
  have h : Hs E A s.heap ([(va, .inl (E.2.1 0, cap, .inl f)), (q1, .inl (E.2.1 0, k, .inl (va_cpy f (fun _ => 0) 0 0 k)))]) H locs := ct_part0 h [1, 0] rfl rfl
  refine W.widen (k := 1) (n := k) (by first | omega | (dsimp only; omega)) (by first | omega | (dsimp only; omega)) ?_
  exact ct_aretQ (r := some (q1)) B rfl (Or.inr ⟨_, rfl⟩) h.2.2 ⟨q1, rfl, h.1, h.2.1⟩ dJ15_copyOfRangeByte_32
set_option maxHeartbeats 4000000 in
set_option maxRecDepth 100000 in
theorem met_J15_copyOfRange (l : Launch) (E : CE) (va cap k : Nat) (f : Nat → Int32) (sz : Nat) (hc : k ≤ cap ∧ cap ≤ 300000) (hk : k ≤ 100000) (hf : ∀ i, i < cap → fits .byte (.int (f i)) = true) : Met l yJ15_copyOfRange (ws_ yJ15_copyOfRange cJ15_copyOfRange 3 (some (.array .byte))) { frames := 2, cells := 1, slots := k, locals := 84 } (ctP E [.ref va, .int (nI 0), .int (nI k)] sz (fun H => va_P E.1 ct_cl ([(va, .inl (E.2.1 0, cap, .inl f))]) H ∧ va_D (fun q => E.2.2.1 ≤ q) ([(va, .inl (E.2.1 0, cap, .inl f))]))) (ctQ (fun v H => ∃ q2 : Nat, ∃ g2 : Nat → Int32, v = some (.ref q2) ∧ va_P E.1 ct_cl ([(va, .inl (E.2.1 0, cap, .inl f)), (q2, .inl (E.2.1 0, k, .inl g2))]) H ∧ va_D (va_A ([(va, .inl (E.2.1 0, cap, .inl f))]) sz) ([(va, .inl (E.2.1 0, cap, .inl f)), (q2, .inl (E.2.1 0, k, .inl g2))]) ∧ (∀ j, j < k → g2 j = f j)) (va_A ([(va, .inl (E.2.1 0, cap, .inl f))]) sz)) 1 k (va_A ([(va, .inl (E.2.1 0, cap, .inl f))]) sz) := by
  refine ct_start (by decide) (Nat.le_of_ble_eq_true rfl) ?_
  intro p e s m below meth c ls B hsz hH hl
  obtain ⟨hP, hD⟩ := hH
  obtain ⟨A, hAe, h, hA, hAn⟩ := ct_enter B.2.2.2.2.2.2.2.2 hsz hP hD
  rw [hAe]
  refine ct_gen h (fun H locs h => ?_)
  have hx := B.1
  have hb := B.2.1
  have hl : lv_has ls 3 [(0, .ref va), (1, .int (nI 0)), (2, .int (nI k))] := hl
  refine lv_iload_n hx hb dJ15_copyOfRange_0 rfl (lv_at hl 1 rfl) ?_
  refine n_if_ne (tgt := 10) hx hb dJ15_copyOfRange_1 (by decide) (by omega) (fun c_1 => absurd c_1 (by omega)) (fun c_1 => ?_)
  refine lv_iload_n hx hb dJ15_copyOfRange_4 rfl (lv_at hl 2 rfl) ?_
  refine lv_aload_n hx hb dJ15_copyOfRange_5 rfl (lv_at hl 0 rfl) ?_
  refine ct_alen B h.1 0 0 rfl rfl dJ15_copyOfRange_6 ?_
  refine n_icmp_eq (tgt := 17) hx hb dJ15_copyOfRange_7 (by decide) (by omega) (by omega) (fun ck => ?_) (fun ck => ?_)
  · refine lv_aload_n hx hb dJ15_copyOfRange_17 rfl (lv_at hl 0 rfl) ?_
    refine ct_cloneB B hl.1 h hAn q927 q928 q929 q930 q931 0 rfl hf (Nat.le_of_ble_eq_true rfl) (Nat.le_of_ble_eq_true rfl) (by first | omega | (dsimp only; omega)) (by first | omega | (dsimp only; omega)) dJ15_copyOfRange_18 (fun q1 H h => ?_)
    have h : Hs E A s.heap ([(q1, .inl (E.2.1 0, cap, .inl f))] ++ ([(va, .inl (E.2.1 0, cap, .inl f))])) H locs := ct_Hc h
    have h : Hs E A s.heap ([(q1, .inl (E.2.1 0, cap, .inl f)), (va, .inl (E.2.1 0, cap, .inl f))]) H locs := h
    refine va_castA hx hb B.2.2.1 (B.2.2.2.1 _ q933) h.1 0 rfl (B.2.2.2.2.2.2.2.2.1.2 0 _ rfl).2 dJ15_copyOfRange_21 ?_
    have e9 : ((q1, Sum.inl (E.2.1 0, cap, .inl f)) : Nat × va_E) = (q1, .inl (E.2.1 0, k, .inl f)) := by rw [ck]
    rw [e9] at h
    have h : Hs E A s.heap ([(va, .inl (E.2.1 0, cap, .inl f)), (q1, .inl (E.2.1 0, k, .inl f))]) H locs := ct_part0 h [1, 0] rfl rfl
    refine W.widen (k := 1) (n := k) (by first | omega | (dsimp only; omega)) (by first | omega | (dsimp only; omega)) ?_
    exact ct_aretQ (r := some (q1)) B rfl (Or.inr ⟨_, rfl⟩) h.2.2 ⟨q1, f, rfl, h.1, h.2.1, fun j hj => rfl⟩ dJ15_copyOfRange_24
  · refine lv_aload_n hx hb dJ15_copyOfRange_10 rfl (lv_at hl 0 rfl) ?_
    refine lv_iload_n hx hb dJ15_copyOfRange_11 rfl (lv_at hl 1 rfl) ?_
    refine lv_iload_n hx hb dJ15_copyOfRange_12 rfl (lv_at hl 2 rfl) ?_
    have h : Hs E A s.heap ([(va, .inl (E.2.1 0, cap, .inl f))] ++ ([])) H locs := h
    refine ct_callQ (ct_runS (As := [.ref va, .int (nI 0), .int (nI k)]) (rest := []) B (met_J15_copyOfRangeByte l E va cap k f H.size (by omega) (by omega) hf) (lw_S q1001 q1002 q71 q1003) (n := 3) ⟨by decide, by decide, by decide +kernel⟩ rfl ⟨rfl, rfl, (Nat.le_of_ble_eq_true rfl), (Nat.le_of_ble_eq_true rfl), (by first | omega | (dsimp only; omega)), (by first | omega | (dsimp only; omega))⟩ h.2.2 hA ⟨(ct_Pl h.1), (ct_Dl (ct_D0 h hA))⟩ hl.1 (Nat.le_of_ble_eq_true rfl) dJ15_copyOfRange_13) h.2.2 (ct_subL h hAn) (ct_subL h hAn) (fun v H locs hv hz hk hS => ?_)
    obtain ⟨q2_2, rfl, hP1, hD1⟩ := hv
    have h : Hs E A s.heap ([(va, .inl (E.2.1 0, cap, .inl f)), (q2_2, .inl (E.2.1 0, k, .inl (va_cpy f (fun _ => 0) 0 0 k)))] ++ ([])) H locs := ct_frL h hP1 hD1 hk hS hAn
    have h : Hs E A s.heap ([(va, .inl (E.2.1 0, cap, .inl f)), (q2_2, .inl (E.2.1 0, k, .inl (va_cpy f (fun _ => 0) 0 0 k)))]) H locs := h
    clear hP1 hD1 hS hz hk
    refine W.eq (g2 := F0 m 16 ls [.ref q2_2]) rfl ?_
    have h : Hs E A s.heap ([(va, .inl (E.2.1 0, cap, .inl f)), (q2_2, .inl (E.2.1 0, k, .inl (va_cpy f (fun _ => 0) 0 0 k)))]) H locs := h
    refine W.widen (k := 1) (n := k) (by first | omega | (dsimp only; omega)) (by first | omega | (dsimp only; omega)) ?_
    exact ct_aretQ (r := some (q2_2)) B rfl (Or.inr ⟨_, rfl⟩) h.2.2 ⟨q2_2, (va_cpy f (fun _ => 0) 0 0 k), rfl, h.1, h.2.1, fun j hj => sb_cpy0 hj⟩ dJ15_copyOfRange_16
set_option maxHeartbeats 4000000 in
set_option maxRecDepth 100000 in
theorem met_J11_ensure0 (l : Launch) (E : CE) (a va : Nat) (ml : Int32) (k cap : Nat) (f : Nat → Int32) (mn : Nat) (sz : Nat) (hc : cap ≤ 100000) (hm : mn ≤ cap) : Met l yJ11_ensureCapacityInternal (ws_ yJ11_ensureCapacityInternal cJ11_ensureCapacityInternal 3 none) { frames := 0, cells := 0, slots := 0, locals := 0 } (ctP E [.ref a, .int (nI mn)] sz (fun H => va_P E.1 ct_cl [(a, .inr (15, [.ref va, .int (nI 0), .int ml, .int (nI k)])), (va, .inl (E.2.1 0, cap, .inl f))] H)) (ctR (fun v => v = none)) 0 0 (fun _ => False) := by
  refine ct_start (by decide) (Nat.le_of_ble_eq_true rfl) ?_
  intro p e s m below meth c ls B hsz hH hl
  have hC := hH
  have hx := B.1
  have hb := B.2.1
  have hl : lv_has ls 3 [(0, .ref a), (1, .int (nI mn))] := hl
  refine lv_aload_n hx hb dJ11_ensureCapacityInternal_0 rfl (lv_at hl 0 rfl) ?_
  refine ct_get (v := .ref va) B hC kJ12 0 rfl 0 (Nat.le_of_ble_eq_true rfl) q881 rfl dJ11_ensureCapacityInternal_1 ?_
  refine ct_alen B hC 1 0 rfl rfl dJ11_ensureCapacityInternal_4 ?_
  refine lv_aload_n hx hb dJ11_ensureCapacityInternal_5 rfl (lv_at hl 0 rfl) ?_
  refine ct_get (v := .int (nI 0)) B hC kJ12 0 rfl 1 (Nat.le_of_ble_eq_true rfl) q882 rfl dJ11_ensureCapacityInternal_6 ?_
  refine lv_ishr hx hb dJ11_ensureCapacityInternal_9 ?_
  refine W.eq (g2 := F0 m 10 ls [.int (nI cap)]) (by rw [c_shr0]) ?_
  refine lv_istore_n (lv' := [(2, .int (nI cap)), (0, .ref a), (1, .int (nI mn))]) hx hb dJ11_ensureCapacityInternal_10 rfl hl (by decide) rfl (fun ls hl => ?_)
  refine lv_iload_n hx hb dJ11_ensureCapacityInternal_11 rfl (lv_at hl 2 rfl) ?_
  refine lv_iload_n hx hb dJ11_ensureCapacityInternal_12 rfl (lv_at hl 0 rfl) ?_
  refine lv_isub hx hb dJ11_ensureCapacityInternal_13 ?_
  refine lv_if_le (tgt := 38) hx hb dJ11_ensureCapacityInternal_14 (by decide) (fun c_1 => ?_) (fun c_1 => absurd c_1 (fun q9 => q9 (c_subLe hm (by omega))))
  exact ct_vretR B (rfl) dJ11_ensureCapacityInternal_38
set_option maxHeartbeats 4000000 in
set_option maxRecDepth 100000 in
theorem met_J11_ensure1 (l : Launch) (E : CE) (a va : Nat) (ml : Int32) (k cap : Nat) (f : Nat → Int32) (mn : Nat) (sz : Nat) (hc : cap ≤ 100000) (hm : mn = cap + 1) (hf : ∀ i, i < cap → fits .byte (.int (f i)) = true) : Met l yJ11_ensureCapacityInternal (ws_ yJ11_ensureCapacityInternal cJ11_ensureCapacityInternal 3 none) { frames := 3, cells := 1, slots := 2 * cap + 2, locals := 82 } (ctP E [.ref a, .int (nI mn)] sz (fun H => va_P E.1 ct_cl ([(a, .inr (15, [.ref va, .int (nI 0), .int ml, .int (nI k)])), (va, .inl (E.2.1 0, cap, .inl f))]) H ∧ va_D (fun q => E.2.2.1 ≤ q) ([(a, .inr (15, [.ref va, .int (nI 0), .int ml, .int (nI k)])), (va, .inl (E.2.1 0, cap, .inl f))]))) (ctQ (fun v H => ∃ v2 : Nat, v = none ∧ va_P E.1 ct_cl ([(a, .inr (15, [.ref v2, .int (nI 0), .int ml, .int (nI k)])), (v2, .inl (E.2.1 0, 2 * cap + 2, .inl (va_cpy f (fun _ => 0) 0 0 cap)))]) H ∧ va_D (va_A ([(a, .inr (15, [.ref va, .int (nI 0), .int ml, .int (nI k)])), (va, .inl (E.2.1 0, cap, .inl f))]) sz) ([(a, .inr (15, [.ref v2, .int (nI 0), .int ml, .int (nI k)])), (v2, .inl (E.2.1 0, 2 * cap + 2, .inl (va_cpy f (fun _ => 0) 0 0 cap)))])) (va_A ([(a, .inr (15, [.ref va, .int (nI 0), .int ml, .int (nI k)])), (va, .inl (E.2.1 0, cap, .inl f))]) sz)) 1 (2 * cap + 2) (va_A ([(a, .inr (15, [.ref va, .int (nI 0), .int ml, .int (nI k)])), (va, .inl (E.2.1 0, cap, .inl f))]) sz) := by
  refine ct_start (by decide) (Nat.le_of_ble_eq_true rfl) ?_
  intro p e s m below meth c ls B hsz hH hl
  obtain ⟨hP, hD⟩ := hH
  obtain ⟨A, hAe, h, hA, hAn⟩ := ct_enter B.2.2.2.2.2.2.2.2 hsz hP hD
  rw [hAe]
  refine ct_gen h (fun H locs h => ?_)
  have hx := B.1
  have hb := B.2.1
  have hl : lv_has ls 3 [(0, .ref a), (1, .int (nI mn))] := hl
  refine lv_aload_n hx hb dJ11_ensureCapacityInternal_0 rfl (lv_at hl 0 rfl) ?_
  refine ct_get (v := .ref va) B h.1 kJ12 0 rfl 0 (Nat.le_of_ble_eq_true rfl) q881 rfl dJ11_ensureCapacityInternal_1 ?_
  refine ct_alen B h.1 1 0 rfl rfl dJ11_ensureCapacityInternal_4 ?_
  refine lv_aload_n hx hb dJ11_ensureCapacityInternal_5 rfl (lv_at hl 0 rfl) ?_
  refine ct_get (v := .int (nI 0)) B h.1 kJ12 0 rfl 1 (Nat.le_of_ble_eq_true rfl) q882 rfl dJ11_ensureCapacityInternal_6 ?_
  refine lv_ishr hx hb dJ11_ensureCapacityInternal_9 ?_
  refine W.eq (g2 := F0 m 10 ls [.int (nI cap)]) (by rw [c_shr0]) ?_
  refine lv_istore_n (lv' := [(2, .int (nI cap)), (0, .ref a), (1, .int (nI mn))]) hx hb dJ11_ensureCapacityInternal_10 rfl hl (by decide) rfl (fun ls hl => ?_)
  refine lv_iload_n hx hb dJ11_ensureCapacityInternal_11 rfl (lv_at hl 2 rfl) ?_
  refine lv_iload_n hx hb dJ11_ensureCapacityInternal_12 rfl (lv_at hl 0 rfl) ?_
  refine n_isub hx hb (by omega) dJ11_ensureCapacityInternal_13 ?_
  refine n_if_le (tgt := 38) hx hb dJ11_ensureCapacityInternal_14 (by decide) (by omega) (fun c_1 => absurd c_1 (by omega)) (fun c_1 => ?_)
  refine lv_aload_n hx hb dJ11_ensureCapacityInternal_17 rfl (lv_at hl 1 rfl) ?_
  refine lv_aload_n hx hb dJ11_ensureCapacityInternal_18 rfl (lv_at hl 1 rfl) ?_
  refine ct_get (v := .ref va) B h.1 kJ12 0 rfl 0 (Nat.le_of_ble_eq_true rfl) q881 rfl dJ11_ensureCapacityInternal_19 ?_
  refine lv_aload_n hx hb dJ11_ensureCapacityInternal_22 rfl (lv_at hl 1 rfl) ?_
  refine lv_iload_n hx hb dJ11_ensureCapacityInternal_23 rfl (lv_at hl 2 rfl) ?_
  refine ct_callR (ct_runU (As := [.int (nI mn)]) (rest := [.ref va, .ref a]) B (met_J11_newCapacity l E a va ml k cap f mn H.size (by omega) (by omega)) (ct_selP B.2.2.2.1 (B.2.2.2.2.2.2.2.2.2.1 _ (List.mem_of_getElem? (i := 23) rfl)) q911 q941 rfl ⟨by decide, by decide⟩) q909 q1337 (va_Decl.of (B.2.2.2.1 _ q911) (B.2.2.2.1 _ q912)) q911 q67 q912 (n := 1) ⟨by decide, by decide, by decide +kernel⟩ rfl ⟨rfl, rfl, (Nat.le_of_ble_eq_true rfl), (Nat.le_of_ble_eq_true rfl), (by first | omega | (dsimp only; omega)), (by first | omega | (dsimp only; omega))⟩ h.2.2 hA (ct_recv B h.1 kJ12 0 rfl) (h.1.sub [0, 1] rfl) hl.1 (Nat.le_of_ble_eq_true rfl) dJ11_ensureCapacityInternal_24) (fun v hv => ?_)
  subst hv
  refine W.eq (g2 := F0 m 27 ls [.int (nI (cap + max (mn - cap) (cap + 2))), .ref va, .ref a]) rfl ?_
  refine W.eq (g2 := F0 m 27 ls [.int (nI (2 * cap + 2)), .ref va, .ref a]) (by rw [show cap + max (mn - cap) (cap + 2) = 2 * cap + 2 by omega] <;> rfl) ?_
  refine lv_aload_n hx hb dJ11_ensureCapacityInternal_27 rfl (lv_at hl 1 rfl) ?_
  refine ct_get (v := .int (nI 0)) B h.1 kJ12 0 rfl 1 (Nat.le_of_ble_eq_true rfl) q882 rfl dJ11_ensureCapacityInternal_28 ?_
  refine lv_ishl hx hb dJ11_ensureCapacityInternal_31 ?_
  refine W.eq (g2 := F0 m 32 ls [.int (nI (2 * cap + 2)), .ref va, .ref a]) (by rw [c_shl0]) ?_
  have h : Hs E A s.heap ([(va, .inl (E.2.1 0, cap, .inl f)), (a, .inr (15, [.ref va, .int (nI 0), .int ml, .int (nI k)]))]) H locs := ct_part0 h [1, 0] rfl rfl
  have h : Hs E A s.heap ([(va, .inl (E.2.1 0, cap, .inl f))] ++ ([(a, .inr (15, [.ref va, .int (nI 0), .int ml, .int (nI k)]))])) H locs := h
  refine ct_callQ (ct_runS (As := [.ref va, .int (nI (2 * cap + 2))]) (rest := [.ref a]) B (met_J15_copyOf l E va cap (2 * cap + 2) f H.size (by omega) hf) (lw_S q924 q925 q71 q926) (n := 2) ⟨by decide, by decide, by decide +kernel⟩ rfl ⟨rfl, rfl, (Nat.le_of_ble_eq_true rfl), (Nat.le_of_ble_eq_true rfl), (by first | omega | (dsimp only; omega)), (by first | omega | (dsimp only; omega))⟩ h.2.2 hA ⟨(ct_Pl h.1), (ct_Dl (ct_D0 h hA))⟩ hl.1 (Nat.le_of_ble_eq_true rfl) dJ11_ensureCapacityInternal_32) h.2.2 (ct_subL h hAn) (ct_subL h hAn) (fun v H locs hv hz hk hS => ?_)
  obtain ⟨q1, rfl, hP1, hD1⟩ := hv
  have h : Hs E A s.heap ([(va, .inl (E.2.1 0, cap, .inl f)), (q1, .inl (E.2.1 0, 2 * cap + 2, .inl (va_cpy f (fun _ => 0) 0 0 cap)))] ++ ([(a, .inr (15, [.ref va, .int (nI 0), .int ml, .int (nI k)]))])) H locs := ct_frL h hP1 hD1 hk hS hAn
  have h : Hs E A s.heap ([(va, .inl (E.2.1 0, cap, .inl f)), (q1, .inl (E.2.1 0, 2 * cap + 2, .inl (va_cpy f (fun _ => 0) 0 0 cap))), (a, .inr (15, [.ref va, .int (nI 0), .int ml, .int (nI k)]))]) H locs := h
  clear hP1 hD1 hS hz hk
  refine W.eq (g2 := F0 m 35 ls [.ref q1, .ref a]) rfl ?_
  refine ct_put (ws' := [(va, .inl (E.2.1 0, cap, .inl f)), (q1, .inl (E.2.1 0, 2 * cap + 2, .inl (va_cpy f (fun _ => 0) 0 0 cap))), (a, .inr (15, [.ref q1, .int (nI 0), .int ml, .int (nI k)]))]) B h kJ12 2 rfl 0 (Nat.le_of_ble_eq_true rfl) q881 rfl rfl rfl (Nat.le_of_ble_eq_true rfl) rfl dJ11_ensureCapacityInternal_35 (fun H locs h => ?_)
  have h : Hs E A s.heap ([(a, .inr (15, [.ref q1, .int (nI 0), .int ml, .int (nI k)])), (q1, .inl (E.2.1 0, 2 * cap + 2, .inl (va_cpy f (fun _ => 0) 0 0 cap)))]) H locs := ct_part0 h [2, 1] rfl rfl
  refine W.widen (k := 1) (n := 2 * cap + 2) (by first | omega | (dsimp only; omega)) (by first | omega | (dsimp only; omega)) ?_
  exact ct_vret B h.2.2 ⟨q1, rfl, h.1, h.2.1⟩ dJ11_ensureCapacityInternal_38
set_option maxHeartbeats 4000000 in
set_option maxRecDepth 100000 in
theorem met_J11_append0 (l : Launch) (E : CE) (a va : Nat) (ml : Int32) (k cap : Nat) (f : Nat → Int32) (c9 : Nat) (sz : Nat) (hc : cap ≤ 100000) (hk : k < cap) (h128 : c9 < 128) : Met l yJ11_append (ws_ yJ11_append cJ11_append 2 (some (.object "java/lang/AbstractStringBuilder"))) { frames := 1, cells := 0, slots := 0, locals := 22 } (ctP E [.ref a, .int (nI c9)] sz (fun H => va_P E.1 ct_cl ([(a, .inr (15, [.ref va, .int (nI 0), .int ml, .int (nI k)])), (va, .inl (E.2.1 0, cap, .inl f))]) H ∧ va_D (fun q => E.2.2.1 ≤ q) ([(a, .inr (15, [.ref va, .int (nI 0), .int ml, .int (nI k)])), (va, .inl (E.2.1 0, cap, .inl f))]))) (ctQ (fun v H => v = some (.ref a) ∧ va_P E.1 ct_cl ([(a, .inr (15, [.ref va, .int (nI 0), .int ml, .int (nI (k + 1))])), (va, .inl (E.2.1 0, cap, .inl (upd f k (nI c9))))]) H ∧ va_D (va_A ([(a, .inr (15, [.ref va, .int (nI 0), .int ml, .int (nI k)])), (va, .inl (E.2.1 0, cap, .inl f))]) sz) ([(a, .inr (15, [.ref va, .int (nI 0), .int ml, .int (nI (k + 1))])), (va, .inl (E.2.1 0, cap, .inl (upd f k (nI c9))))])) (va_A ([(a, .inr (15, [.ref va, .int (nI 0), .int ml, .int (nI k)])), (va, .inl (E.2.1 0, cap, .inl f))]) sz)) 0 0 (va_A ([(a, .inr (15, [.ref va, .int (nI 0), .int ml, .int (nI k)])), (va, .inl (E.2.1 0, cap, .inl f))]) sz) := by
  refine ct_start (by decide) (Nat.le_of_ble_eq_true rfl) ?_
  intro p e s m below meth c ls B hsz hH hl
  obtain ⟨hP, hD⟩ := hH
  obtain ⟨A, hAe, h, hA, hAn⟩ := ct_enter B.2.2.2.2.2.2.2.2 hsz hP hD
  rw [hAe]
  refine ct_gen h (fun H locs h => ?_)
  have hx := B.1
  have hb := B.2.1
  have hl : lv_has ls 2 [(0, .ref a), (1, .int (nI c9))] := hl
  refine lv_aload_n hx hb dJ11_append_0 rfl (lv_at hl 0 rfl) ?_
  refine lv_aload_n hx hb dJ11_append_1 rfl (lv_at hl 0 rfl) ?_
  refine ct_get (v := .int (nI k)) B h.1 kJ12 0 rfl 3 (Nat.le_of_ble_eq_true rfl) q884 rfl dJ11_append_2 ?_
  refine lv_iconst (v := nI 1) hx hb dJ11_append_5 (by decide) ?_
  refine n_iadd hx hb dJ11_append_6 ?_
  refine ct_callR (ct_runU (As := [.int (nI (k + 1))]) (rest := []) B (met_J11_ensure0 l E a va ml k cap f (k + 1) H.size (by omega) (by omega)) (ct_selP B.2.2.2.1 (B.2.2.2.2.2.2.2.2.2.1 _ (List.mem_of_getElem? (i := 22) rfl)) q907 q941 rfl ⟨by decide, by decide⟩) q905 q1336 (va_Decl.of (B.2.2.2.1 _ q907) (B.2.2.2.1 _ q908)) q907 q67 q908 (n := 1) ⟨by decide, by decide, by decide +kernel⟩ rfl ⟨rfl, rfl, (Nat.le_of_ble_eq_true rfl), (Nat.le_of_ble_eq_true rfl), (Nat.le_of_ble_eq_true rfl), (Nat.le_of_ble_eq_true rfl)⟩ h.2.2 hA (ct_recv B h.1 kJ12 0 rfl) (h.1.sub [0, 1] rfl) hl.1 (Nat.le_of_ble_eq_true rfl) dJ11_append_7) (fun v hv => ?_)
  subst hv
  refine W.eq (g2 := F0 m 10 ls []) rfl ?_
  refine lv_aload_n hx hb dJ11_append_10 rfl (lv_at hl 0 rfl) ?_
  refine ct_callR (ct_runU (As := []) (rest := []) B (met_J11_isLatin1 l E a va ml k H.size) (B.2.2.2.1 _ q941) q938 q940 (va_Decl.of (B.2.2.2.1 _ q939) (B.2.2.2.1 _ q942)) q939 q67 q942 (n := 0) ⟨by decide, by decide, by decide +kernel⟩ rfl ⟨rfl, rfl, (Nat.le_of_ble_eq_true rfl), (Nat.le_of_ble_eq_true rfl), (Nat.le_of_ble_eq_true rfl), (Nat.le_of_ble_eq_true rfl)⟩ h.2.2 hA (ct_recv B h.1 kJ12 0 rfl) (h.1.sub [0] rfl) hl.1 (Nat.le_of_ble_eq_true rfl) dJ11_append_11) (fun v hv => ?_)
  subst hv
  refine W.eq (g2 := F0 m 14 ls [.int (nI 1)]) rfl ?_
  refine n_if_eq (tgt := 45) hx hb dJ11_append_14 (by decide) (by omega) (fun c_1 => absurd c_1 (by omega)) (fun c_1 => ?_)
  refine lv_iload_n hx hb dJ11_append_17 rfl (lv_at hl 1 rfl) ?_
  refine ct_callR (ct_runS (As := [.int (nI c9)]) (rest := []) B (met_J5_canEncode l E c9 H.size (by omega)) (lw_S q943 q944 q59 q945) (n := 1) ⟨by decide, by decide, by decide +kernel⟩ rfl ⟨rfl, rfl, (Nat.le_of_ble_eq_true rfl), (Nat.le_of_ble_eq_true rfl), (Nat.le_of_ble_eq_true rfl), (Nat.le_of_ble_eq_true rfl)⟩ h.2.2 hA trivial hl.1 (Nat.le_of_ble_eq_true rfl) dJ11_append_18) (fun v hv => ?_)
  subst hv
  refine W.eq (g2 := F0 m 21 ls [.int (nI 1)]) rfl ?_
  refine n_if_eq (tgt := 45) hx hb dJ11_append_21 (by decide) (by omega) (fun c_2 => absurd c_2 (by omega)) (fun c_2 => ?_)
  refine lv_aload_n hx hb dJ11_append_24 rfl (lv_at hl 0 rfl) ?_
  refine ct_get (v := .ref va) B h.1 kJ12 0 rfl 0 (Nat.le_of_ble_eq_true rfl) q881 rfl dJ11_append_25 ?_
  refine lv_aload_n hx hb dJ11_append_28 rfl (lv_at hl 0 rfl) ?_
  refine lv_dup hx hb dJ11_append_29 rfl ?_
  refine ct_get (v := .int (nI k)) B h.1 kJ12 0 rfl 3 (Nat.le_of_ble_eq_true rfl) q884 rfl dJ11_append_30 ?_
  refine lv_dup_x1 hx hb dJ11_append_33 rfl rfl ?_
  refine lv_iconst (v := nI 1) hx hb dJ11_append_34 (by decide) ?_
  refine n_iadd hx hb dJ11_append_35 ?_
  refine ct_put (ws' := [(a, .inr (15, [.ref va, .int (nI 0), .int ml, .int (nI (k + 1))])), (va, .inl (E.2.1 0, cap, .inl f))]) B h kJ12 0 rfl 3 (Nat.le_of_ble_eq_true rfl) q884 rfl rfl rfl (Nat.le_of_ble_eq_true rfl) rfl dJ11_append_36 (fun H locs h => ?_)
  refine lv_iload_n hx hb dJ11_append_39 rfl (lv_at hl 1 rfl) ?_
  refine lv_i2b (v := (nI c9)) hx hb dJ11_append_40 (c_byte128 _ (by omega)) ?_
  refine ct_bast (ws' := [(a, .inr (15, [.ref va, .int (nI 0), .int ml, .int (nI (k + 1))])), (va, .inl (E.2.1 0, cap, .inl (upd f k (nI c9))))]) B h 1 rfl (by omega) (by omega) (congrArg (fun z9 => ([(a, .inr (15, [.ref va, .int (nI 0), .int ml, .int (nI (k + 1))])), (va, .inl (E.2.1 0, cap, .inl z9))] : va_W)) ((by rw [vp_b (by omega)] : upd f k (vp_nar .byte (nI c9)) = upd f k (nI c9)))) dJ11_append_41 (fun H locs h => ?_)
  refine lv_goto (tgt := 75) hx hb dJ11_append_42 (by decide) ?_
  refine lv_aload_n hx hb dJ11_append_75 rfl (lv_at hl 0 rfl) ?_
  have h : Hs E A s.heap ([(a, .inr (15, [.ref va, .int (nI 0), .int ml, .int (nI (k + 1))])), (va, .inl (E.2.1 0, cap, .inl (upd f k (nI c9))))]) H locs := h
  exact ct_aretQ (r := some (a)) B rfl (Or.inl ⟨_, rfl⟩) h.2.2 ⟨rfl, h.1, h.2.1⟩ dJ11_append_76
set_option maxHeartbeats 4000000 in
set_option maxRecDepth 100000 in
theorem met_J11_append1 (l : Launch) (E : CE) (a va : Nat) (ml : Int32) (k cap : Nat) (f : Nat → Int32) (c9 : Nat) (sz : Nat) (hc : cap ≤ 100000) (hk : k = cap) (h128 : c9 < 128) (hf : ∀ i, i < cap → fits .byte (.int (f i)) = true) : Met l yJ11_append (ws_ yJ11_append cJ11_append 2 (some (.object "java/lang/AbstractStringBuilder"))) { frames := 4, cells := 1, slots := 2 * cap + 2, locals := 104 } (ctP E [.ref a, .int (nI c9)] sz (fun H => va_P E.1 ct_cl ([(a, .inr (15, [.ref va, .int (nI 0), .int ml, .int (nI k)])), (va, .inl (E.2.1 0, cap, .inl f))]) H ∧ va_D (fun q => E.2.2.1 ≤ q) ([(a, .inr (15, [.ref va, .int (nI 0), .int ml, .int (nI k)])), (va, .inl (E.2.1 0, cap, .inl f))]))) (ctQ (fun v H => ∃ v2 : Nat, v = some (.ref a) ∧ va_P E.1 ct_cl ([(a, .inr (15, [.ref v2, .int (nI 0), .int ml, .int (nI (k + 1))])), (v2, .inl (E.2.1 0, 2 * cap + 2, .inl (upd (va_cpy f (fun _ => 0) 0 0 cap) k (nI c9))))]) H ∧ va_D (va_A ([(a, .inr (15, [.ref va, .int (nI 0), .int ml, .int (nI k)])), (va, .inl (E.2.1 0, cap, .inl f))]) sz) ([(a, .inr (15, [.ref v2, .int (nI 0), .int ml, .int (nI (k + 1))])), (v2, .inl (E.2.1 0, 2 * cap + 2, .inl (upd (va_cpy f (fun _ => 0) 0 0 cap) k (nI c9))))])) (va_A ([(a, .inr (15, [.ref va, .int (nI 0), .int ml, .int (nI k)])), (va, .inl (E.2.1 0, cap, .inl f))]) sz)) 1 (2 * cap + 2) (va_A ([(a, .inr (15, [.ref va, .int (nI 0), .int ml, .int (nI k)])), (va, .inl (E.2.1 0, cap, .inl f))]) sz) := by
  refine ct_start (by decide) (Nat.le_of_ble_eq_true rfl) ?_
  intro p e s m below meth c ls B hsz hH hl
  obtain ⟨hP, hD⟩ := hH
  obtain ⟨A, hAe, h, hA, hAn⟩ := ct_enter B.2.2.2.2.2.2.2.2 hsz hP hD
  rw [hAe]
  refine ct_gen h (fun H locs h => ?_)
  have hx := B.1
  have hb := B.2.1
  have hl : lv_has ls 2 [(0, .ref a), (1, .int (nI c9))] := hl
  refine lv_aload_n hx hb dJ11_append_0 rfl (lv_at hl 0 rfl) ?_
  refine lv_aload_n hx hb dJ11_append_1 rfl (lv_at hl 0 rfl) ?_
  refine ct_get (v := .int (nI k)) B h.1 kJ12 0 rfl 3 (Nat.le_of_ble_eq_true rfl) q884 rfl dJ11_append_2 ?_
  refine lv_iconst (v := nI 1) hx hb dJ11_append_5 (by decide) ?_
  refine n_iadd hx hb dJ11_append_6 ?_
  have h : Hs E A s.heap ([(a, .inr (15, [.ref va, .int (nI 0), .int ml, .int (nI k)])), (va, .inl (E.2.1 0, cap, .inl f))] ++ ([])) H locs := h
  refine ct_callQ (ct_runU (As := [.int (nI (k + 1))]) (rest := []) B (met_J11_ensure1 l E a va ml k cap f (k + 1) H.size (by omega) (by omega) hf) (ct_selP B.2.2.2.1 (B.2.2.2.2.2.2.2.2.2.1 _ (List.mem_of_getElem? (i := 22) rfl)) q907 q941 rfl ⟨by decide, by decide⟩) q905 q1336 (va_Decl.of (B.2.2.2.1 _ q907) (B.2.2.2.1 _ q908)) q907 q67 q908 (n := 1) ⟨by decide, by decide, by decide +kernel⟩ rfl ⟨rfl, rfl, (Nat.le_of_ble_eq_true rfl), (Nat.le_of_ble_eq_true rfl), (by first | omega | (dsimp only; omega)), (by first | omega | (dsimp only; omega))⟩ h.2.2 hA (ct_recv B h.1 kJ12 0 rfl) ⟨(ct_Pl h.1), (ct_Dl (ct_D0 h hA))⟩ hl.1 (Nat.le_of_ble_eq_true rfl) dJ11_append_7) h.2.2 (ct_subL h hAn) (ct_subL h hAn) (fun v H locs hv hz hk hS => ?_)
  obtain ⟨v1, rfl, hP1, hD1⟩ := hv
  have h : Hs E A s.heap ([(a, .inr (15, [.ref v1, .int (nI 0), .int ml, .int (nI k)])), (v1, .inl (E.2.1 0, 2 * cap + 2, .inl (va_cpy f (fun _ => 0) 0 0 cap)))] ++ ([])) H locs := ct_frL h hP1 hD1 hk hS hAn
  have h : Hs E A s.heap ([(a, .inr (15, [.ref v1, .int (nI 0), .int ml, .int (nI k)])), (v1, .inl (E.2.1 0, 2 * cap + 2, .inl (va_cpy f (fun _ => 0) 0 0 cap)))]) H locs := h
  clear hP1 hD1 hS hz hk
  refine W.eq (g2 := F0 m 10 ls []) rfl ?_
  refine lv_aload_n hx hb dJ11_append_10 rfl (lv_at hl 0 rfl) ?_
  refine ct_callR (ct_runU (As := []) (rest := []) B (met_J11_isLatin1 l E a v1 ml k H.size) (B.2.2.2.1 _ q941) q938 q940 (va_Decl.of (B.2.2.2.1 _ q939) (B.2.2.2.1 _ q942)) q939 q67 q942 (n := 0) ⟨by decide, by decide, by decide +kernel⟩ rfl ⟨rfl, rfl, (Nat.le_of_ble_eq_true rfl), (Nat.le_of_ble_eq_true rfl), (by first | omega | (dsimp only; omega)), (by first | omega | (dsimp only; omega))⟩ h.2.2 hA (ct_recv B h.1 kJ12 0 rfl) (h.1.sub [0] rfl) hl.1 (Nat.le_of_ble_eq_true rfl) dJ11_append_11) (fun v hv => ?_)
  subst hv
  refine W.eq (g2 := F0 m 14 ls [.int (nI 1)]) rfl ?_
  refine n_if_eq (tgt := 45) hx hb dJ11_append_14 (by decide) (by omega) (fun c_1 => absurd c_1 (by omega)) (fun c_1 => ?_)
  refine lv_iload_n hx hb dJ11_append_17 rfl (lv_at hl 1 rfl) ?_
  refine ct_callR (ct_runS (As := [.int (nI c9)]) (rest := []) B (met_J5_canEncode l E c9 H.size (by omega)) (lw_S q943 q944 q59 q945) (n := 1) ⟨by decide, by decide, by decide +kernel⟩ rfl ⟨rfl, rfl, (Nat.le_of_ble_eq_true rfl), (Nat.le_of_ble_eq_true rfl), (by first | omega | (dsimp only; omega)), (by first | omega | (dsimp only; omega))⟩ h.2.2 hA trivial hl.1 (Nat.le_of_ble_eq_true rfl) dJ11_append_18) (fun v hv => ?_)
  subst hv
  refine W.eq (g2 := F0 m 21 ls [.int (nI 1)]) rfl ?_
  refine n_if_eq (tgt := 45) hx hb dJ11_append_21 (by decide) (by omega) (fun c_2 => absurd c_2 (by omega)) (fun c_2 => ?_)
  refine lv_aload_n hx hb dJ11_append_24 rfl (lv_at hl 0 rfl) ?_
  refine ct_get (v := .ref v1) B h.1 kJ12 0 rfl 0 (Nat.le_of_ble_eq_true rfl) q881 rfl dJ11_append_25 ?_
  refine lv_aload_n hx hb dJ11_append_28 rfl (lv_at hl 0 rfl) ?_
  refine lv_dup hx hb dJ11_append_29 rfl ?_
  refine ct_get (v := .int (nI k)) B h.1 kJ12 0 rfl 3 (Nat.le_of_ble_eq_true rfl) q884 rfl dJ11_append_30 ?_
  refine lv_dup_x1 hx hb dJ11_append_33 rfl rfl ?_
  refine lv_iconst (v := nI 1) hx hb dJ11_append_34 (by decide) ?_
  refine n_iadd hx hb dJ11_append_35 ?_
  refine ct_put (ws' := [(a, .inr (15, [.ref v1, .int (nI 0), .int ml, .int (nI (k + 1))])), (v1, .inl (E.2.1 0, 2 * cap + 2, .inl (va_cpy f (fun _ => 0) 0 0 cap)))]) B h kJ12 0 rfl 3 (Nat.le_of_ble_eq_true rfl) q884 rfl rfl rfl (Nat.le_of_ble_eq_true rfl) rfl dJ11_append_36 (fun H locs h => ?_)
  refine lv_iload_n hx hb dJ11_append_39 rfl (lv_at hl 1 rfl) ?_
  refine lv_i2b (v := (nI c9)) hx hb dJ11_append_40 (c_byte128 _ (by omega)) ?_
  refine ct_bast (ws' := [(a, .inr (15, [.ref v1, .int (nI 0), .int ml, .int (nI (k + 1))])), (v1, .inl (E.2.1 0, 2 * cap + 2, .inl (upd (va_cpy f (fun _ => 0) 0 0 cap) k (nI c9))))]) B h 1 rfl (by omega) (by omega) (congrArg (fun z9 => ([(a, .inr (15, [.ref v1, .int (nI 0), .int ml, .int (nI (k + 1))])), (v1, .inl (E.2.1 0, 2 * cap + 2, .inl z9))] : va_W)) ((by rw [vp_b (by omega)] : upd (va_cpy f (fun _ => 0) 0 0 cap) k (vp_nar .byte (nI c9)) = upd (va_cpy f (fun _ => 0) 0 0 cap) k (nI c9)))) dJ11_append_41 (fun H locs h => ?_)
  refine lv_goto (tgt := 75) hx hb dJ11_append_42 (by decide) ?_
  refine lv_aload_n hx hb dJ11_append_75 rfl (lv_at hl 0 rfl) ?_
  have h : Hs E A s.heap ([(a, .inr (15, [.ref v1, .int (nI 0), .int ml, .int (nI (k + 1))])), (v1, .inl (E.2.1 0, 2 * cap + 2, .inl (upd (va_cpy f (fun _ => 0) 0 0 cap) k (nI c9))))]) H locs := h
  refine W.widen (k := 1) (n := 2 * cap + 2) (by first | omega | (dsimp only; omega)) (by first | omega | (dsimp only; omega)) ?_
  exact ct_aretQ (r := some (a)) B rfl (Or.inl ⟨_, rfl⟩) h.2.2 ⟨v1, rfl, h.1, h.2.1⟩ dJ11_append_76
set_option maxHeartbeats 4000000 in
set_option maxRecDepth 100000 in
theorem met_J12_append0 (l : Launch) (E : CE) (a va : Nat) (ml : Int32) (k cap : Nat) (f : Nat → Int32) (c9 : Nat) (sz : Nat) (hc : cap ≤ 100000) (hk : k < cap) (h128 : c9 < 128) : Met l yJ12_append (ws_ yJ12_append cJ12_append 2 (some (.object "java/lang/StringBuilder"))) { frames := 5, cells := 0, slots := 0, locals := 125 } (ctP E [.ref a, .int (nI c9)] sz (fun H => va_P E.1 ct_cl ([(a, .inr (15, [.ref va, .int (nI 0), .int ml, .int (nI k)])), (va, .inl (E.2.1 0, cap, .inl f))]) H ∧ va_D (fun q => E.2.2.1 ≤ q) ([(a, .inr (15, [.ref va, .int (nI 0), .int ml, .int (nI k)])), (va, .inl (E.2.1 0, cap, .inl f))]))) (ctQ (fun v H => v = some (.ref a) ∧ va_P E.1 ct_cl ([(a, .inr (15, [.ref va, .int (nI 0), .int ml, .int (nI (k + 1))])), (va, .inl (E.2.1 0, cap, .inl (upd f k (nI c9))))]) H ∧ va_D (va_A ([(a, .inr (15, [.ref va, .int (nI 0), .int ml, .int (nI k)])), (va, .inl (E.2.1 0, cap, .inl f))]) sz) ([(a, .inr (15, [.ref va, .int (nI 0), .int ml, .int (nI (k + 1))])), (va, .inl (E.2.1 0, cap, .inl (upd f k (nI c9))))])) (va_A ([(a, .inr (15, [.ref va, .int (nI 0), .int ml, .int (nI k)])), (va, .inl (E.2.1 0, cap, .inl f))]) sz)) 0 0 (va_A ([(a, .inr (15, [.ref va, .int (nI 0), .int ml, .int (nI k)])), (va, .inl (E.2.1 0, cap, .inl f))]) sz) := by
  refine ct_start (by decide) (Nat.le_of_ble_eq_true rfl) ?_
  intro p e s m below meth c ls B hsz hH hl
  obtain ⟨hP, hD⟩ := hH
  obtain ⟨A, hAe, h, hA, hAn⟩ := ct_enter B.2.2.2.2.2.2.2.2 hsz hP hD
  rw [hAe]
  refine ct_gen h (fun H locs h => ?_)
  have hx := B.1
  have hb := B.2.1
  have hl : lv_has ls 2 [(0, .ref a), (1, .int (nI c9))] := hl
  refine lv_aload_n hx hb dJ12_append_0 rfl (lv_at hl 0 rfl) ?_
  refine lv_iload_n hx hb dJ12_append_1 rfl (lv_at hl 1 rfl) ?_
  have h : Hs E A s.heap ([(a, .inr (15, [.ref va, .int (nI 0), .int ml, .int (nI k)])), (va, .inl (E.2.1 0, cap, .inl f))] ++ ([])) H locs := h
  refine ct_callQ (ct_runSU (As := [.int (nI c9)]) (rest := []) (B.2.2.2.2.2.2.2.2.1.1 15 _ kJ12.1).2 B (met_J11_append0 l E a va ml k cap f c9 H.size (by omega) (by omega) (by omega)) q902 q1335 q893 q903 q67 q904 (by decide) (n := 1) ⟨by decide, by decide, by decide +kernel⟩ rfl ⟨rfl, rfl, (Nat.le_of_ble_eq_true rfl), (Nat.le_of_ble_eq_true rfl), (Nat.le_of_ble_eq_true rfl), (Nat.le_of_ble_eq_true rfl)⟩ h.2.2 hA (ct_recv B h.1 kJ12 0 rfl) ⟨(ct_Pl h.1), (ct_Dl (ct_D0 h hA))⟩ hl.1 (Nat.le_of_ble_eq_true rfl) dJ12_append_2) h.2.2 (ct_subL h hAn) (ct_subL h hAn) (fun v H locs hv hz hk hS => ?_)
  obtain ⟨rfl, hP1, hD1⟩ := hv
  have h : Hs E A s.heap ([(a, .inr (15, [.ref va, .int (nI 0), .int ml, .int (nI (k + 1))])), (va, .inl (E.2.1 0, cap, .inl (upd f k (nI c9))))] ++ ([])) H locs := ct_frL h hP1 hD1 hk hS hAn
  have h : Hs E A s.heap ([(a, .inr (15, [.ref va, .int (nI 0), .int ml, .int (nI (k + 1))])), (va, .inl (E.2.1 0, cap, .inl (upd f k (nI c9))))]) H locs := h
  clear hP1 hD1 hS hz hk
  refine W.eq (g2 := F0 m 5 ls [.ref a]) rfl ?_
  refine lv_pop hx hb dJ12_append_5 rfl ?_
  refine lv_aload_n hx hb dJ12_append_6 rfl (lv_at hl 0 rfl) ?_
  have h : Hs E A s.heap ([(a, .inr (15, [.ref va, .int (nI 0), .int ml, .int (nI (k + 1))])), (va, .inl (E.2.1 0, cap, .inl (upd f k (nI c9))))]) H locs := h
  exact ct_aretQ (r := some (a)) B rfl (Or.inl ⟨_, rfl⟩) h.2.2 ⟨rfl, h.1, h.2.1⟩ dJ12_append_7
set_option maxHeartbeats 4000000 in
set_option maxRecDepth 100000 in
theorem met_J12_append1 (l : Launch) (E : CE) (a va : Nat) (ml : Int32) (k cap : Nat) (f : Nat → Int32) (c9 : Nat) (sz : Nat) (hc : cap ≤ 100000) (hk : k = cap) (h128 : c9 < 128) (hf : ∀ i, i < cap → fits .byte (.int (f i)) = true) : Met l yJ12_append (ws_ yJ12_append cJ12_append 2 (some (.object "java/lang/StringBuilder"))) { frames := 5, cells := 1, slots := 2 * cap + 2, locals := 125 } (ctP E [.ref a, .int (nI c9)] sz (fun H => va_P E.1 ct_cl ([(a, .inr (15, [.ref va, .int (nI 0), .int ml, .int (nI k)])), (va, .inl (E.2.1 0, cap, .inl f))]) H ∧ va_D (fun q => E.2.2.1 ≤ q) ([(a, .inr (15, [.ref va, .int (nI 0), .int ml, .int (nI k)])), (va, .inl (E.2.1 0, cap, .inl f))]))) (ctQ (fun v H => ∃ v2 : Nat, v = some (.ref a) ∧ va_P E.1 ct_cl ([(a, .inr (15, [.ref v2, .int (nI 0), .int ml, .int (nI (k + 1))])), (v2, .inl (E.2.1 0, 2 * cap + 2, .inl (upd (va_cpy f (fun _ => 0) 0 0 cap) k (nI c9))))]) H ∧ va_D (va_A ([(a, .inr (15, [.ref va, .int (nI 0), .int ml, .int (nI k)])), (va, .inl (E.2.1 0, cap, .inl f))]) sz) ([(a, .inr (15, [.ref v2, .int (nI 0), .int ml, .int (nI (k + 1))])), (v2, .inl (E.2.1 0, 2 * cap + 2, .inl (upd (va_cpy f (fun _ => 0) 0 0 cap) k (nI c9))))])) (va_A ([(a, .inr (15, [.ref va, .int (nI 0), .int ml, .int (nI k)])), (va, .inl (E.2.1 0, cap, .inl f))]) sz)) 1 (2 * cap + 2) (va_A ([(a, .inr (15, [.ref va, .int (nI 0), .int ml, .int (nI k)])), (va, .inl (E.2.1 0, cap, .inl f))]) sz) := by
  refine ct_start (by decide) (Nat.le_of_ble_eq_true rfl) ?_
  intro p e s m below meth c ls B hsz hH hl
  obtain ⟨hP, hD⟩ := hH
  obtain ⟨A, hAe, h, hA, hAn⟩ := ct_enter B.2.2.2.2.2.2.2.2 hsz hP hD
  rw [hAe]
  refine ct_gen h (fun H locs h => ?_)
  have hx := B.1
  have hb := B.2.1
  have hl : lv_has ls 2 [(0, .ref a), (1, .int (nI c9))] := hl
  refine lv_aload_n hx hb dJ12_append_0 rfl (lv_at hl 0 rfl) ?_
  refine lv_iload_n hx hb dJ12_append_1 rfl (lv_at hl 1 rfl) ?_
  have h : Hs E A s.heap ([(a, .inr (15, [.ref va, .int (nI 0), .int ml, .int (nI k)])), (va, .inl (E.2.1 0, cap, .inl f))] ++ ([])) H locs := h
  refine ct_callQ (ct_runSU (As := [.int (nI c9)]) (rest := []) (B.2.2.2.2.2.2.2.2.1.1 15 _ kJ12.1).2 B (met_J11_append1 l E a va ml k cap f c9 H.size (by omega) (by omega) (by omega) hf) q902 q1335 q893 q903 q67 q904 (by decide) (n := 1) ⟨by decide, by decide, by decide +kernel⟩ rfl ⟨rfl, rfl, (Nat.le_of_ble_eq_true rfl), (Nat.le_of_ble_eq_true rfl), (by first | omega | (dsimp only; omega)), (by first | omega | (dsimp only; omega))⟩ h.2.2 hA (ct_recv B h.1 kJ12 0 rfl) ⟨(ct_Pl h.1), (ct_Dl (ct_D0 h hA))⟩ hl.1 (Nat.le_of_ble_eq_true rfl) dJ12_append_2) h.2.2 (ct_subL h hAn) (ct_subL h hAn) (fun v H locs hv hz hk hS => ?_)
  obtain ⟨v1, rfl, hP1, hD1⟩ := hv
  have h : Hs E A s.heap ([(a, .inr (15, [.ref v1, .int (nI 0), .int ml, .int (nI (k + 1))])), (v1, .inl (E.2.1 0, 2 * cap + 2, .inl (upd (va_cpy f (fun _ => 0) 0 0 cap) k (nI c9))))] ++ ([])) H locs := ct_frL h hP1 hD1 hk hS hAn
  have h : Hs E A s.heap ([(a, .inr (15, [.ref v1, .int (nI 0), .int ml, .int (nI (k + 1))])), (v1, .inl (E.2.1 0, 2 * cap + 2, .inl (upd (va_cpy f (fun _ => 0) 0 0 cap) k (nI c9))))]) H locs := h
  clear hP1 hD1 hS hz hk
  refine W.eq (g2 := F0 m 5 ls [.ref a]) rfl ?_
  refine lv_pop hx hb dJ12_append_5 rfl ?_
  refine lv_aload_n hx hb dJ12_append_6 rfl (lv_at hl 0 rfl) ?_
  have h : Hs E A s.heap ([(a, .inr (15, [.ref v1, .int (nI 0), .int ml, .int (nI (k + 1))])), (v1, .inl (E.2.1 0, 2 * cap + 2, .inl (upd (va_cpy f (fun _ => 0) 0 0 cap) k (nI c9))))]) H locs := h
  refine W.widen (k := 1) (n := 2 * cap + 2) (by first | omega | (dsimp only; omega)) (by first | omega | (dsimp only; omega)) ?_
  exact ct_aretQ (r := some (a)) B rfl (Or.inl ⟨_, rfl⟩) h.2.2 ⟨v1, rfl, h.1, h.2.1⟩ dJ12_append_7
set_option maxHeartbeats 4000000 in
set_option maxRecDepth 100000 in
theorem met_J11_init (l : Launch) (E : CE) (a n9 : Nat) (sz : Nat) (hn : n9 ≤ 100000) : Met l yJ11_init (ws_ yJ11_init cJ11_init 2 none) { frames := 1, cells := 1, slots := n9, locals := 20 } (ctP E [.ref a, .int (nI n9)] sz (fun H => va_P E.1 ct_cl ([(a, .inr (15, [.null, .int 0, .int 0, .int 0]))]) H ∧ va_D (fun q => E.2.2.1 ≤ q) ([(a, .inr (15, [.null, .int 0, .int 0, .int 0]))]))) (ctQ (fun v H => ∃ v2 : Nat, v = none ∧ va_P E.1 ct_cl ([(a, .inr (15, [.ref v2, .int (nI 0), .int 0, .int (nI 0)])), (v2, .inl (E.2.1 0, n9, .inl (fun _ => 0)))]) H ∧ va_D (va_A ([(a, .inr (15, [.null, .int 0, .int 0, .int 0]))]) sz) ([(a, .inr (15, [.ref v2, .int (nI 0), .int 0, .int (nI 0)])), (v2, .inl (E.2.1 0, n9, .inl (fun _ => 0)))])) (va_A ([(a, .inr (15, [.null, .int 0, .int 0, .int 0]))]) sz)) 1 n9 (va_A ([(a, .inr (15, [.null, .int 0, .int 0, .int 0]))]) sz) := by
  refine ct_start (by decide) (Nat.le_of_ble_eq_true rfl) ?_
  intro p e s m below meth c ls B hsz hH hl
  obtain ⟨hP, hD⟩ := hH
  obtain ⟨A, hAe, h, hA, hAn⟩ := ct_enter B.2.2.2.2.2.2.2.2 hsz hP hD
  rw [hAe]
  refine ct_gen h (fun H locs h => ?_)
  have hx := B.1
  have hb := B.2.1
  have hl : lv_has ls 2 [(0, .ref a), (1, .int (nI n9))] := hl
  refine lv_aload_n hx hb dJ11_init_0 rfl (lv_at hl 0 rfl) ?_
  refine ct_objInit B q872 q87 q88 hl.1 dJ11_init_1 (Nat.le_of_ble_eq_true rfl) (Nat.le_of_ble_eq_true rfl) ?_
  refine ct_gsC B h.2.2 hA q873 dJ11_init_4 ?_
  refine n_if_eq (tgt := 25) hx hb dJ11_init_7 (by decide) (by omega) (fun c_1 => absurd c_1 (by omega)) (fun c_1 => ?_)
  refine lv_aload_n hx hb dJ11_init_10 rfl (lv_at hl 0 rfl) ?_
  refine lv_iload_n hx hb dJ11_init_11 rfl (lv_at hl 1 rfl) ?_
  refine ct_newa (atype := .byte) (ty := .byte) (a0 := (n9, .inl (fun _ => 0))) B h hAn 0 rfl q156 rfl rfl (fun _ => rfl) (by omega) (by simp only [componentBytes]; omega) (Nat.le_of_ble_eq_true rfl) (by dsimp only; omega) dJ11_init_12 (fun q1 H h hq1 => ?_)
  have h : Hs E A s.heap ([(q1, .inl (E.2.1 0, n9, .inl (fun _ => 0)))] ++ ([(a, .inr (15, [.null, .int 0, .int 0, .int 0]))])) H locs := ct_Hc h
  have h : Hs E A s.heap ([(q1, .inl (E.2.1 0, n9, .inl (fun _ => 0))), (a, .inr (15, [.null, .int 0, .int 0, .int 0]))]) H locs := h
  refine ct_put (ws' := [(q1, .inl (E.2.1 0, n9, .inl (fun _ => 0))), (a, .inr (15, [.ref q1, .int 0, .int 0, .int 0]))]) B h kJ12 1 rfl 0 (Nat.le_of_ble_eq_true rfl) q881 rfl rfl rfl (Nat.le_of_ble_eq_true rfl) rfl dJ11_init_14 (fun H locs h => ?_)
  refine lv_aload_n hx hb dJ11_init_17 rfl (lv_at hl 0 rfl) ?_
  refine lv_iconst (v := nI 0) hx hb dJ11_init_18 (by decide) ?_
  refine ct_put (ws' := [(q1, .inl (E.2.1 0, n9, .inl (fun _ => 0))), (a, .inr (15, [.ref q1, .int (nI 0), .int 0, .int 0]))]) B h kJ12 1 rfl 1 (Nat.le_of_ble_eq_true rfl) q882 rfl rfl rfl (Nat.le_of_ble_eq_true rfl) rfl dJ11_init_19 (fun H locs h => ?_)
  refine lv_goto (tgt := 38) hx hb dJ11_init_22 (by decide) ?_
  have h : Hs E A s.heap ([(a, .inr (15, [.ref q1, .int (nI 0), .int 0, .int (nI 0)])), (q1, .inl (E.2.1 0, n9, .inl (fun _ => 0)))]) H locs := ct_part0 h [1, 0] rfl rfl
  refine W.widen (k := 1) (n := n9) (by first | omega | (dsimp only; omega)) (by first | omega | (dsimp only; omega)) ?_
  exact ct_vret B h.2.2 ⟨q1, rfl, h.1, h.2.1⟩ dJ11_init_38
set_option maxHeartbeats 4000000 in
set_option maxRecDepth 100000 in
theorem met_J12_init (l : Launch) (E : CE) (a : Nat) (sz : Nat)  : Met l yJ12_init (ws_ yJ12_init cJ12_init 1 none) { frames := 2, cells := 1, slots := 16, locals := 41 } (ctP E [.ref a] sz (fun H => va_P E.1 ct_cl ([(a, .inr (15, [.null, .int 0, .int 0, .int 0]))]) H ∧ va_D (fun q => E.2.2.1 ≤ q) ([(a, .inr (15, [.null, .int 0, .int 0, .int 0]))]))) (ctQ (fun v H => ∃ v2 : Nat, v = none ∧ va_P E.1 ct_cl ([(a, .inr (15, [.ref v2, .int (nI 0), .int 0, .int (nI 0)])), (v2, .inl (E.2.1 0, 16, .inl (fun _ => 0)))]) H ∧ va_D (va_A ([(a, .inr (15, [.null, .int 0, .int 0, .int 0]))]) sz) ([(a, .inr (15, [.ref v2, .int (nI 0), .int 0, .int (nI 0)])), (v2, .inl (E.2.1 0, 16, .inl (fun _ => 0)))])) (va_A ([(a, .inr (15, [.null, .int 0, .int 0, .int 0]))]) sz)) 1 16 (va_A ([(a, .inr (15, [.null, .int 0, .int 0, .int 0]))]) sz) := by
  refine ct_start (by decide) (Nat.le_of_ble_eq_true rfl) ?_
  intro p e s m below meth c ls B hsz hH hl
  obtain ⟨hP, hD⟩ := hH
  obtain ⟨A, hAe, h, hA, hAn⟩ := ct_enter B.2.2.2.2.2.2.2.2 hsz hP hD
  rw [hAe]
  refine ct_gen h (fun H locs h => ?_)
  have hx := B.1
  have hb := B.2.1
  have hl : lv_has ls 1 [(0, .ref a)] := hl
  refine lv_aload_n hx hb dJ12_init_0 rfl (lv_at hl 0 rfl) ?_
  refine lv_bipush (v := nI 16) hx hb dJ12_init_1 (by decide) ?_
  have h : Hs E A s.heap ([(a, .inr (15, [.null, .int 0, .int 0, .int 0]))] ++ ([])) H locs := h
  refine ct_callQ (ct_runI (b := a) (As := [.int (nI 16)]) (rest := []) B (met_J11_init l E a 16 H.size (by omega)) q871 q67 q869 q870 rfl (n := 1) ⟨by decide, by decide, by decide +kernel⟩ rfl ⟨rfl, rfl, (Nat.le_of_ble_eq_true rfl), (Nat.le_of_ble_eq_true rfl), (by first | omega | (dsimp only; omega)), (by first | omega | (dsimp only; omega))⟩ h.2.2 hA ⟨(ct_Pl h.1), (ct_Dl (ct_D0 h hA))⟩ hl.1 (Nat.le_of_ble_eq_true rfl) dJ12_init_3) h.2.2 (ct_subL h hAn) (ct_subL h hAn) (fun v H locs hv hz hk hS => ?_)
  obtain ⟨q1, rfl, hP1, hD1⟩ := hv
  have h : Hs E A s.heap ([(a, .inr (15, [.ref q1, .int (nI 0), .int 0, .int (nI 0)])), (q1, .inl (E.2.1 0, 16, .inl (fun _ => 0)))] ++ ([])) H locs := ct_frL h hP1 hD1 hk hS hAn
  have h : Hs E A s.heap ([(a, .inr (15, [.ref q1, .int (nI 0), .int 0, .int (nI 0)])), (q1, .inl (E.2.1 0, 16, .inl (fun _ => 0)))]) H locs := h
  clear hP1 hD1 hS hz hk
  refine W.eq (g2 := F0 m 6 ls []) rfl ?_
  have h : Hs E A s.heap ([(a, .inr (15, [.ref q1, .int (nI 0), .int 0, .int (nI 0)])), (q1, .inl (E.2.1 0, 16, .inl (fun _ => 0)))]) H locs := h
  refine W.widen (k := 1) (n := 16) (by first | omega | (dsimp only; omega)) (by first | omega | (dsimp only; omega)) ?_
  exact ct_vret B h.2.2 ⟨q1, rfl, h.1, h.2.1⟩ dJ12_init_6
set_option maxHeartbeats 4000000 in
set_option maxRecDepth 100000 in
theorem met_J4_init_2 (l : Launch) (E : CE) (s9 : Nat) (a va : Nat) (ml : Int32) (k cap : Nat) (f : Nat → Int32) (sz : Nat) (hc : k ≤ cap ∧ cap ≤ 300000) (hk : k ≤ 100000) (hf : ∀ i, i < cap → fits .byte (.int (f i)) = true) : Met l yJ4_init_2 (ws_ yJ4_init_2 cJ4_init_2 5 none) { frames := 3, cells := 1, slots := k, locals := 106 } (ctP E [.ref s9, .ref a, .null] sz (fun H => va_P E.1 ct_cl ([(s9, .inr (13, [.null, .int 0, .int 0, .int 0])), (a, .inr (15, [.ref va, .int (nI 0), .int ml, .int (nI k)])), (va, .inl (E.2.1 0, cap, .inl f))]) H ∧ va_D (fun q => E.2.2.1 ≤ q) ([(s9, .inr (13, [.null, .int 0, .int 0, .int 0])), (a, .inr (15, [.ref va, .int (nI 0), .int ml, .int (nI k)])), (va, .inl (E.2.1 0, cap, .inl f))]))) (ctQ (fun v H => ∃ q2 : Nat, ∃ g2 : Nat → Int32, v = none ∧ va_P E.1 ct_cl ([(s9, .inr (13, [.ref q2, .int (nI 0), .int 0, .int 0])), (a, .inr (15, [.ref va, .int (nI 0), .int ml, .int (nI k)])), (va, .inl (E.2.1 0, cap, .inl f)), (q2, .inl (E.2.1 0, k, .inl g2))]) H ∧ va_D (va_A ([(s9, .inr (13, [.null, .int 0, .int 0, .int 0])), (a, .inr (15, [.ref va, .int (nI 0), .int ml, .int (nI k)])), (va, .inl (E.2.1 0, cap, .inl f))]) sz) ([(s9, .inr (13, [.ref q2, .int (nI 0), .int 0, .int 0])), (a, .inr (15, [.ref va, .int (nI 0), .int ml, .int (nI k)])), (va, .inl (E.2.1 0, cap, .inl f)), (q2, .inl (E.2.1 0, k, .inl g2))]) ∧ (∀ j, j < k → g2 j = f j)) (va_A ([(s9, .inr (13, [.null, .int 0, .int 0, .int 0])), (a, .inr (15, [.ref va, .int (nI 0), .int ml, .int (nI k)])), (va, .inl (E.2.1 0, cap, .inl f))]) sz)) 1 k (va_A ([(s9, .inr (13, [.null, .int 0, .int 0, .int 0])), (a, .inr (15, [.ref va, .int (nI 0), .int ml, .int (nI k)])), (va, .inl (E.2.1 0, cap, .inl f))]) sz) := by
  refine ct_start (by decide) (Nat.le_of_ble_eq_true rfl) ?_
  intro p e s m below meth c ls B hsz hH hl
  obtain ⟨hP, hD⟩ := hH
  obtain ⟨A, hAe, h, hA, hAn⟩ := ct_enter B.2.2.2.2.2.2.2.2 hsz hP hD
  rw [hAe]
  refine ct_gen h (fun H locs h => ?_)
  have hx := B.1
  have hb := B.2.1
  have hl : lv_has ls 5 [(0, .ref s9), (1, .ref a), (2, .null)] := hl
  refine lv_aload_n hx hb dJ4_init_2_0 rfl (lv_at hl 0 rfl) ?_
  refine ct_objInit B q983 q87 q88 hl.1 dJ4_init_2_1 (Nat.le_of_ble_eq_true rfl) (Nat.le_of_ble_eq_true rfl) ?_
  refine lv_aload_n hx hb dJ4_init_2_4 rfl (lv_at hl 1 rfl) ?_
  refine ct_callR (ct_runU (As := []) (rest := []) B (met_J11_getValue l E a va ml k H.size) (B.2.2.2.1 _ q987) q984 q986 (va_Decl.of (B.2.2.2.1 _ q985) (B.2.2.2.1 _ q988)) q985 q67 q988 (n := 0) ⟨by decide, by decide, by decide +kernel⟩ rfl ⟨rfl, rfl, (Nat.le_of_ble_eq_true rfl), (Nat.le_of_ble_eq_true rfl), (by first | omega | (dsimp only; omega)), (by first | omega | (dsimp only; omega))⟩ h.2.2 hA (ct_recv B h.1 kJ12 1 rfl) (h.1.sub [1] rfl) hl.1 (Nat.le_of_ble_eq_true rfl) dJ4_init_2_5) (fun v hv => ?_)
  subst hv
  refine W.eq (g2 := F0 m 8 ls [.ref va]) rfl ?_
  refine lv_astore_n (lv' := [(3, .ref va), (0, .ref s9), (1, .ref a), (2, .null)]) hx hb dJ4_init_2_8 rfl hl (by decide) rfl (fun ls hl => ?_)
  refine lv_aload_n hx hb dJ4_init_2_9 rfl (lv_at hl 2 rfl) ?_
  refine ct_callR (ct_runU (As := []) (rest := []) B (met_J12_length l E a va ml k H.size) (B.2.2.2.1 _ q992) q989 q991 (va_Decl.of (B.2.2.2.1 _ q990) (B.2.2.2.1 _ q996)) q993 q68 q994 (n := 0) ⟨by decide, by decide, by decide +kernel⟩ rfl ⟨rfl, rfl, (Nat.le_of_ble_eq_true rfl), (Nat.le_of_ble_eq_true rfl), (by first | omega | (dsimp only; omega)), (by first | omega | (dsimp only; omega))⟩ h.2.2 hA (ct_recv B h.1 kJ12 1 rfl) (h.1.sub [1] rfl) hl.1 (Nat.le_of_ble_eq_true rfl) dJ4_init_2_10) (fun v hv => ?_)
  subst hv
  refine W.eq (g2 := F0 m 13 ls [.int (nI k)]) rfl ?_
  refine lv_istore (lv' := [(4, .int (nI k)), (3, .ref va), (0, .ref s9), (1, .ref a), (2, .null)]) hx hb dJ4_init_2_13 hl (by decide) rfl (fun ls hl => ?_)
  refine lv_aload_n hx hb dJ4_init_2_15 rfl (lv_at hl 3 rfl) ?_
  refine ct_callR (ct_runU (As := []) (rest := []) B (met_J11_isLatin1 l E a va ml k H.size) (B.2.2.2.1 _ q941) q997 q940 (va_Decl.of (B.2.2.2.1 _ q939) (B.2.2.2.1 _ q942)) q939 q67 q942 (n := 0) ⟨by decide, by decide, by decide +kernel⟩ rfl ⟨rfl, rfl, (Nat.le_of_ble_eq_true rfl), (Nat.le_of_ble_eq_true rfl), (by first | omega | (dsimp only; omega)), (by first | omega | (dsimp only; omega))⟩ h.2.2 hA (ct_recv B h.1 kJ12 1 rfl) (h.1.sub [1] rfl) hl.1 (Nat.le_of_ble_eq_true rfl) dJ4_init_2_16) (fun v hv => ?_)
  subst hv
  refine W.eq (g2 := F0 m 19 ls [.int (nI 1)]) rfl ?_
  refine n_if_eq (tgt := 41) hx hb dJ4_init_2_19 (by decide) (by omega) (fun c_1 => absurd c_1 (by omega)) (fun c_1 => ?_)
  refine lv_aload_n hx hb dJ4_init_2_22 rfl (lv_at hl 2 rfl) ?_
  refine lv_iconst (v := nI 0) hx hb dJ4_init_2_23 (by decide) ?_
  refine ct_putF (ws' := [(s9, .inr (13, [.null, .int (nI 0), .int 0, .int 0])), (a, .inr (15, [.ref va, .int (nI 0), .int ml, .int (nI k)])), (va, .inl (E.2.1 0, cap, .inl f))]) B h kJ4 0 rfl 1 (Nat.le_of_ble_eq_true rfl) q1018 rfl rfl rfl rfl (Nat.le_of_ble_eq_true rfl) rfl dJ4_init_2_24 (fun H locs h => ?_)
  refine lv_aload_n hx hb dJ4_init_2_27 rfl (lv_at hl 2 rfl) ?_
  refine lv_aload_n hx hb dJ4_init_2_28 rfl (lv_at hl 1 rfl) ?_
  refine lv_iconst (v := nI 0) hx hb dJ4_init_2_29 (by decide) ?_
  refine lv_iload hx hb dJ4_init_2_30 (lv_at hl 0 rfl) ?_
  have h : Hs E A s.heap ([(va, .inl (E.2.1 0, cap, .inl f)), (s9, .inr (13, [.null, .int (nI 0), .int 0, .int 0])), (a, .inr (15, [.ref va, .int (nI 0), .int ml, .int (nI k)]))]) H locs := ct_part0 h [2, 0, 1] rfl rfl
  have h : Hs E A s.heap ([(va, .inl (E.2.1 0, cap, .inl f))] ++ ([(s9, .inr (13, [.null, .int (nI 0), .int 0, .int 0])), (a, .inr (15, [.ref va, .int (nI 0), .int ml, .int (nI k)]))])) H locs := h
  refine ct_callQ (ct_runS (As := [.ref va, .int (nI 0), .int (nI k)]) (rest := [.ref s9]) B (met_J15_copyOfRange l E va cap k f H.size (by omega) (by omega) hf) (lw_S q998 q999 q71 q1000) (n := 3) ⟨by decide, by decide, by decide +kernel⟩ rfl ⟨rfl, rfl, (Nat.le_of_ble_eq_true rfl), (Nat.le_of_ble_eq_true rfl), (by first | omega | (dsimp only; omega)), (by first | omega | (dsimp only; omega))⟩ h.2.2 hA ⟨(ct_Pl h.1), (ct_Dl (ct_D0 h hA))⟩ hl.1 (Nat.le_of_ble_eq_true rfl) dJ4_init_2_32) h.2.2 (ct_subL h hAn) (ct_subL h hAn) (fun v H locs hv hz hk hS => ?_)
  obtain ⟨q1, g1, rfl, hP1, hD1, hg2⟩ := hv
  have h : Hs E A s.heap ([(va, .inl (E.2.1 0, cap, .inl f)), (q1, .inl (E.2.1 0, k, .inl g1))] ++ ([(s9, .inr (13, [.null, .int (nI 0), .int 0, .int 0])), (a, .inr (15, [.ref va, .int (nI 0), .int ml, .int (nI k)]))])) H locs := ct_frL h hP1 hD1 hk hS hAn
  have h : Hs E A s.heap ([(va, .inl (E.2.1 0, cap, .inl f)), (q1, .inl (E.2.1 0, k, .inl g1)), (s9, .inr (13, [.null, .int (nI 0), .int 0, .int 0])), (a, .inr (15, [.ref va, .int (nI 0), .int ml, .int (nI k)]))]) H locs := h
  clear hP1 hD1 hS hz hk
  refine W.eq (g2 := F0 m 35 ls [.ref q1, .ref s9]) rfl ?_
  refine ct_putF (ws' := [(va, .inl (E.2.1 0, cap, .inl f)), (q1, .inl (E.2.1 0, k, .inl g1)), (s9, .inr (13, [.ref q1, .int (nI 0), .int 0, .int 0])), (a, .inr (15, [.ref va, .int (nI 0), .int ml, .int (nI k)]))]) B h kJ4 2 rfl 0 (Nat.le_of_ble_eq_true rfl) q1017 rfl rfl rfl rfl (Nat.le_of_ble_eq_true rfl) rfl dJ4_init_2_35 (fun H locs h => ?_)
  refine lv_goto (tgt := 97) hx hb dJ4_init_2_38 (by decide) ?_
  have h : Hs E A s.heap ([(s9, .inr (13, [.ref q1, .int (nI 0), .int 0, .int 0])), (a, .inr (15, [.ref va, .int (nI 0), .int ml, .int (nI k)])), (va, .inl (E.2.1 0, cap, .inl f)), (q1, .inl (E.2.1 0, k, .inl g1))]) H locs := ct_part0 h [2, 3, 0, 1] rfl rfl
  refine W.widen (k := 1) (n := k) (by first | omega | (dsimp only; omega)) (by first | omega | (dsimp only; omega)) ?_
  exact ct_vret B h.2.2 ⟨q1, g1, rfl, h.1, h.2.1, hg2⟩ dJ4_init_2_97
set_option maxHeartbeats 4000000 in
set_option maxRecDepth 100000 in
theorem met_J4_init (l : Launch) (E : CE) (s9 : Nat) (a va : Nat) (ml : Int32) (k cap : Nat) (f : Nat → Int32) (sz : Nat) (hc : k ≤ cap ∧ cap ≤ 300000) (hk : k ≤ 100000) (hf : ∀ i, i < cap → fits .byte (.int (f i)) = true) : Met l yJ4_init (ws_ yJ4_init cJ4_init 2 none) { frames := 4, cells := 1, slots := k, locals := 130 } (ctP E [.ref s9, .ref a] sz (fun H => va_P E.1 ct_cl ([(s9, .inr (13, [.null, .int 0, .int 0, .int 0])), (a, .inr (15, [.ref va, .int (nI 0), .int ml, .int (nI k)])), (va, .inl (E.2.1 0, cap, .inl f))]) H ∧ va_D (fun q => E.2.2.1 ≤ q) ([(s9, .inr (13, [.null, .int 0, .int 0, .int 0])), (a, .inr (15, [.ref va, .int (nI 0), .int ml, .int (nI k)])), (va, .inl (E.2.1 0, cap, .inl f))]))) (ctQ (fun v H => ∃ q2 : Nat, ∃ g2 : Nat → Int32, v = none ∧ va_P E.1 ct_cl ([(s9, .inr (13, [.ref q2, .int (nI 0), .int 0, .int 0])), (a, .inr (15, [.ref va, .int (nI 0), .int ml, .int (nI k)])), (va, .inl (E.2.1 0, cap, .inl f)), (q2, .inl (E.2.1 0, k, .inl g2))]) H ∧ va_D (va_A ([(s9, .inr (13, [.null, .int 0, .int 0, .int 0])), (a, .inr (15, [.ref va, .int (nI 0), .int ml, .int (nI k)])), (va, .inl (E.2.1 0, cap, .inl f))]) sz) ([(s9, .inr (13, [.ref q2, .int (nI 0), .int 0, .int 0])), (a, .inr (15, [.ref va, .int (nI 0), .int ml, .int (nI k)])), (va, .inl (E.2.1 0, cap, .inl f)), (q2, .inl (E.2.1 0, k, .inl g2))]) ∧ (∀ j, j < k → g2 j = f j)) (va_A ([(s9, .inr (13, [.null, .int 0, .int 0, .int 0])), (a, .inr (15, [.ref va, .int (nI 0), .int ml, .int (nI k)])), (va, .inl (E.2.1 0, cap, .inl f))]) sz)) 1 k (va_A ([(s9, .inr (13, [.null, .int 0, .int 0, .int 0])), (a, .inr (15, [.ref va, .int (nI 0), .int ml, .int (nI k)])), (va, .inl (E.2.1 0, cap, .inl f))]) sz) := by
  refine ct_start (by decide) (Nat.le_of_ble_eq_true rfl) ?_
  intro p e s m below meth c ls B hsz hH hl
  obtain ⟨hP, hD⟩ := hH
  obtain ⟨A, hAe, h, hA, hAn⟩ := ct_enter B.2.2.2.2.2.2.2.2 hsz hP hD
  rw [hAe]
  refine ct_gen h (fun H locs h => ?_)
  have hx := B.1
  have hb := B.2.1
  have hl : lv_has ls 2 [(0, .ref s9), (1, .ref a)] := hl
  refine lv_aload_n hx hb dJ4_init_0 rfl (lv_at hl 0 rfl) ?_
  refine lv_aload_n hx hb dJ4_init_1 rfl (lv_at hl 1 rfl) ?_
  refine lv_null hx hb dJ4_init_2 ?_
  have h : Hs E A s.heap ([(s9, .inr (13, [.null, .int 0, .int 0, .int 0])), (a, .inr (15, [.ref va, .int (nI 0), .int ml, .int (nI k)])), (va, .inl (E.2.1 0, cap, .inl f))] ++ ([])) H locs := h
  refine ct_callQ (ct_runI (b := s9) (As := [.ref a, .null]) (rest := []) B (met_J4_init_2 l E s9 a va ml k cap f H.size (by omega) (by omega) hf) q982 q58 q980 q981 rfl (n := 2) ⟨by decide, by decide, by decide +kernel⟩ rfl ⟨rfl, rfl, (Nat.le_of_ble_eq_true rfl), (Nat.le_of_ble_eq_true rfl), (by first | omega | (dsimp only; omega)), (by first | omega | (dsimp only; omega))⟩ h.2.2 hA ⟨(ct_Pl h.1), (ct_Dl (ct_D0 h hA))⟩ hl.1 (Nat.le_of_ble_eq_true rfl) dJ4_init_3) h.2.2 (ct_subL h hAn) (ct_subL h hAn) (fun v H locs hv hz hk hS => ?_)
  obtain ⟨q1, g1, rfl, hP1, hD1, hg2⟩ := hv
  have h : Hs E A s.heap ([(s9, .inr (13, [.ref q1, .int (nI 0), .int 0, .int 0])), (a, .inr (15, [.ref va, .int (nI 0), .int ml, .int (nI k)])), (va, .inl (E.2.1 0, cap, .inl f)), (q1, .inl (E.2.1 0, k, .inl g1))] ++ ([])) H locs := ct_frL h hP1 hD1 hk hS hAn
  have h : Hs E A s.heap ([(s9, .inr (13, [.ref q1, .int (nI 0), .int 0, .int 0])), (a, .inr (15, [.ref va, .int (nI 0), .int ml, .int (nI k)])), (va, .inl (E.2.1 0, cap, .inl f)), (q1, .inl (E.2.1 0, k, .inl g1))]) H locs := h
  clear hP1 hD1 hS hz hk
  refine W.eq (g2 := F0 m 6 ls []) rfl ?_
  have h : Hs E A s.heap ([(s9, .inr (13, [.ref q1, .int (nI 0), .int 0, .int 0])), (a, .inr (15, [.ref va, .int (nI 0), .int ml, .int (nI k)])), (va, .inl (E.2.1 0, cap, .inl f)), (q1, .inl (E.2.1 0, k, .inl g1))]) H locs := h
  refine W.widen (k := 1) (n := k) (by first | omega | (dsimp only; omega)) (by first | omega | (dsimp only; omega)) ?_
  exact ct_vret B h.2.2 ⟨q1, g1, rfl, h.1, h.2.1, hg2⟩ dJ4_init_6
set_option maxHeartbeats 4000000 in
set_option maxRecDepth 100000 in
theorem met_J12_toString (l : Launch) (E : CE) (a va : Nat) (ml : Int32) (k cap : Nat) (f : Nat → Int32) (sz : Nat) (hc : k ≤ cap ∧ cap ≤ 300000) (hk : k ≤ 100000) (hf : ∀ i, i < cap → fits .byte (.int (f i)) = true) : Met l yJ12_toString (ws_ yJ12_toString cJ12_toString 1 (some (.object "java/lang/String"))) { frames := 5, cells := 2, slots := 4 + k, locals := 151 } (ctP E [.ref a] sz (fun H => va_P E.1 ct_cl ([(a, .inr (15, [.ref va, .int (nI 0), .int ml, .int (nI k)])), (va, .inl (E.2.1 0, cap, .inl f))]) H ∧ va_D (fun q => E.2.2.1 ≤ q) ([(a, .inr (15, [.ref va, .int (nI 0), .int ml, .int (nI k)])), (va, .inl (E.2.1 0, cap, .inl f))]))) (ctQ (fun v H => ∃ s2 : Nat, ∃ q2 : Nat, ∃ g2 : Nat → Int32, v = some (.ref s2) ∧ va_P E.1 ct_cl ([(s2, .inr (13, [.ref q2, .int (nI 0), .int 0, .int 0])), (a, .inr (15, [.ref va, .int (nI 0), .int ml, .int (nI k)])), (va, .inl (E.2.1 0, cap, .inl f)), (q2, .inl (E.2.1 0, k, .inl g2))]) H ∧ va_D (va_A ([(a, .inr (15, [.ref va, .int (nI 0), .int ml, .int (nI k)])), (va, .inl (E.2.1 0, cap, .inl f))]) sz) ([(s2, .inr (13, [.ref q2, .int (nI 0), .int 0, .int 0])), (a, .inr (15, [.ref va, .int (nI 0), .int ml, .int (nI k)])), (va, .inl (E.2.1 0, cap, .inl f)), (q2, .inl (E.2.1 0, k, .inl g2))]) ∧ (∀ j, j < k → g2 j = f j)) (va_A ([(a, .inr (15, [.ref va, .int (nI 0), .int ml, .int (nI k)])), (va, .inl (E.2.1 0, cap, .inl f))]) sz)) 2 (4 + k) (va_A ([(a, .inr (15, [.ref va, .int (nI 0), .int ml, .int (nI k)])), (va, .inl (E.2.1 0, cap, .inl f))]) sz) := by
  refine ct_start (by decide) (Nat.le_of_ble_eq_true rfl) ?_
  intro p e s m below meth c ls B hsz hH hl
  obtain ⟨hP, hD⟩ := hH
  obtain ⟨A, hAe, h, hA, hAn⟩ := ct_enter B.2.2.2.2.2.2.2.2 hsz hP hD
  rw [hAe]
  refine ct_gen h (fun H locs h => ?_)
  have hx := B.1
  have hb := B.2.1
  have hl : lv_has ls 1 [(0, .ref a)] := hl
  refine ct_new (fs := [.null, .int 0, .int 0, .int 0]) B h hAn kJ4 q975 q976 q58 (by intro j9 hj9; rcases j9 with _ | _ | _ | _ | j9 <;> first | rfl | omega) (by first | omega | (dsimp only; omega)) (by first | omega | (dsimp only; omega)) dJ12_toString_0 (fun s1 H h hs1 => ?_)
  have h : Hs E A s.heap ([(s1, .inr (13, [.null, .int 0, .int 0, .int 0]))] ++ ([(a, .inr (15, [.ref va, .int (nI 0), .int ml, .int (nI k)])), (va, .inl (E.2.1 0, cap, .inl f))])) H locs := ct_Hc h
  have h : Hs E A s.heap ([(s1, .inr (13, [.null, .int 0, .int 0, .int 0])), (a, .inr (15, [.ref va, .int (nI 0), .int ml, .int (nI k)])), (va, .inl (E.2.1 0, cap, .inl f))]) H locs := h
  refine lv_dup hx hb dJ12_toString_3 rfl ?_
  refine lv_aload_n hx hb dJ12_toString_4 rfl (lv_at hl 0 rfl) ?_
  have h : Hs E A s.heap ([(s1, .inr (13, [.null, .int 0, .int 0, .int 0])), (a, .inr (15, [.ref va, .int (nI 0), .int ml, .int (nI k)])), (va, .inl (E.2.1 0, cap, .inl f))] ++ ([])) H locs := h
  refine ct_callQ (ct_runI (b := s1) (As := [.ref a]) (rest := [.ref s1]) B (met_J4_init l E s1 a va ml k cap f H.size (by omega) (by omega) hf) q979 q58 q977 q978 rfl (n := 1) ⟨by decide, by decide, by decide +kernel⟩ rfl ⟨rfl, rfl, (Nat.le_of_ble_eq_true rfl), (Nat.le_of_ble_eq_true rfl), (by first | omega | (dsimp only; omega)), (by first | omega | (dsimp only; omega))⟩ h.2.2 hA ⟨(ct_Pl h.1), (ct_Dl (ct_D0 h hA))⟩ hl.1 (Nat.le_of_ble_eq_true rfl) dJ12_toString_5) h.2.2 (ct_subL h hAn) (ct_subL h hAn) (fun v H locs hv hz hk hS => ?_)
  obtain ⟨q1, g1, rfl, hP1, hD1, hg2⟩ := hv
  have h : Hs E A s.heap ([(s1, .inr (13, [.ref q1, .int (nI 0), .int 0, .int 0])), (a, .inr (15, [.ref va, .int (nI 0), .int ml, .int (nI k)])), (va, .inl (E.2.1 0, cap, .inl f)), (q1, .inl (E.2.1 0, k, .inl g1))] ++ ([])) H locs := ct_frL h hP1 hD1 hk hS hAn
  have h : Hs E A s.heap ([(s1, .inr (13, [.ref q1, .int (nI 0), .int 0, .int 0])), (a, .inr (15, [.ref va, .int (nI 0), .int ml, .int (nI k)])), (va, .inl (E.2.1 0, cap, .inl f)), (q1, .inl (E.2.1 0, k, .inl g1))]) H locs := h
  clear hP1 hD1 hS hz hk
  refine W.eq (g2 := F0 m 8 ls [.ref s1]) rfl ?_
  have h : Hs E A s.heap ([(s1, .inr (13, [.ref q1, .int (nI 0), .int 0, .int 0])), (a, .inr (15, [.ref va, .int (nI 0), .int ml, .int (nI k)])), (va, .inl (E.2.1 0, cap, .inl f)), (q1, .inl (E.2.1 0, k, .inl g1))]) H locs := h
  refine W.widen (k := 2) (n := 4 + k) (by first | omega | (dsimp only; omega)) (by first | omega | (dsimp only; omega)) ?_
  exact ct_aretQ (r := some (s1)) B rfl (Or.inl ⟨_, rfl⟩) h.2.2 ⟨s1, q1, g1, rfl, h.1, h.2.1, hg2⟩ dJ12_toString_8
