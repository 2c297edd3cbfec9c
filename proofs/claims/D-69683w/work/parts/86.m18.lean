set_option maxHeartbeats 4000000 in
set_option maxRecDepth 100000 in
theorem met_X14_isInfinite (l : Launch) (E : CE) (b9 : Nat) (sz : Nat) (hb9 : b9 < 9218868437227405312) : Met l yX14_isInfinite (ws_ yX14_isInfinite cX14_isInfinite 2 (some .boolean)) { frames := 0, cells := 0, slots := 0, locals := 0 } (ctP E [.long (lN b9)] sz (fun H => True)) (ctR (fun v => v = some (.int (nI 0)))) 0 0 (fun _ => False) := by
  refine ct_start (by decide) (Nat.le_of_ble_eq_true rfl) ?_
  intro p e s m below meth c ls B hsz hH hl
  have hx := B.1
  have hb := B.2.1
  have hl : lv_has ls 2 [(0, .long (lN b9))] := hl
  refine lv_lload_n hx hb dX14_isInfinite_0 rfl (lv_at hl 0 rfl) ?_
  refine lv_ldc2 (v := lN 9223372036854775807) hx hb B.2.2.1 (B.2.2.2.1 _ q1260) dX14_isInfinite_1 ?_
  refine lv_land hx hb dX14_isInfinite_4 ?_
  refine W.eq (g2 := F0 m 5 ls [.long (lN b9)]) (by rw [bw_m63 (by omega)]) ?_
  refine lv_ldc2 (v := lN 9218868437227405312) hx hb B.2.2.1 (B.2.2.2.1 _ q1261) dX14_isInfinite_5 ?_
  refine m_if_ne (tgt := 16) hx hb dX14_isInfinite_8 dX14_isInfinite_9 (by decide) (by omega) (by omega) (fun c_1 => ?_) (fun c_1 => absurd c_1 (by omega))
  refine lv_iconst (v := nI 0) hx hb dX14_isInfinite_16 (by decide) ?_
  exact ct_iretR (ty := .boolean) (v := (nI 0)) B rfl rfl (rfl) dX14_isInfinite_17
set_option maxHeartbeats 4000000 in
set_option maxRecDepth 100000 in
theorem met_X14_isZero (l : Launch) (E : CE) (b9 : Nat) (sz : Nat) (hb9 : 0 < b9 ∧ b9 < 9223372036854775808) : Met l yX14_isZero (ws_ yX14_isZero cX14_isZero 2 (some .boolean)) { frames := 0, cells := 0, slots := 0, locals := 0 } (ctP E [.long (lN b9)] sz (fun H => True)) (ctR (fun v => v = some (.int (nI 0)))) 0 0 (fun _ => False) := by
  refine ct_start (by decide) (Nat.le_of_ble_eq_true rfl) ?_
  intro p e s m below meth c ls B hsz hH hl
  have hx := B.1
  have hb := B.2.1
  have hl : lv_has ls 2 [(0, .long (lN b9))] := hl
  refine lv_lload_n hx hb dX14_isZero_0 rfl (lv_at hl 0 rfl) ?_
  refine lv_ldc2 (v := lN 9223372036854775807) hx hb B.2.2.1 (B.2.2.2.1 _ q1260) dX14_isZero_1 ?_
  refine lv_land hx hb dX14_isZero_4 ?_
  refine W.eq (g2 := F0 m 5 ls [.long (lN b9)]) (by rw [bw_m63 (by omega)]) ?_
  refine lv_lconst (v := lN 0) hx hb dX14_isZero_5 (by decide) ?_
  refine m_if_ne (tgt := 14) hx hb dX14_isZero_6 dX14_isZero_7 (by decide) (by omega) (by omega) (fun c_1 => ?_) (fun c_1 => absurd c_1 (by omega))
  refine lv_iconst (v := nI 0) hx hb dX14_isZero_14 (by decide) ?_
  exact ct_iretR (ty := .boolean) (v := (nI 0)) B rfl rfl (rfl) dX14_isZero_15
set_option maxHeartbeats 4000000 in
set_option maxRecDepth 100000 in
theorem met_X14_negative (l : Launch) (E : CE) (b9 : Int64) (sz : Nat)  : Met l yX14_negative (ws_ yX14_negative cX14_negative 2 (some .long)) { frames := 0, cells := 0, slots := 0, locals := 0 } (ctP E [.long b9] sz (fun H => True)) (ctR (fun v => v = some (.long (b9 ^^^ (-9223372036854775808))))) 0 0 (fun _ => False) := by
  refine ct_start (by decide) (Nat.le_of_ble_eq_true rfl) ?_
  intro p e s m below meth c ls B hsz hH hl
  have hx := B.1
  have hb := B.2.1
  have hl : lv_has ls 2 [(0, .long b9)] := hl
  refine lv_lload_n hx hb dX14_negative_0 rfl (lv_at hl 0 rfl) ?_
  refine lv_ldc2 (v := (-9223372036854775808)) hx hb B.2.2.1 (B.2.2.2.1 _ q1252) dX14_negative_1 ?_
  refine lv_lxor hx hb dX14_negative_4 ?_
  exact ct_lretR (v := b9 ^^^ (-9223372036854775808)) B (rfl) dX14_negative_5
set_option maxHeartbeats 4000000 in
set_option maxRecDepth 100000 in
theorem met_X14_exponent (l : Launch) (E : CE) (b9 : Nat) (sz : Nat) (hb9 : b9 < 9223372036854775808) (hf9 : 0 < b9 / 4503599627370496 % 2048) : Met l yX14_exponent (ws_ yX14_exponent cX14_exponent 6 (some .int)) { frames := 0, cells := 0, slots := 0, locals := 0 } (ctP E [.long (lN b9)] sz (fun H => True)) (ctR (fun v => v = some (.int (iZ (((b9 / 4503599627370496 % 2048 : Nat) : Int) - 1075))))) 0 0 (fun _ => False) := by
  refine ct_start (by decide) (Nat.le_of_ble_eq_true rfl) ?_
  intro p e s m below meth c ls B hsz hH hl
  have hx := B.1
  have hb := B.2.1
  have hl : lv_has ls 6 [(0, .long (lN b9))] := hl
  refine lv_lload_n hx hb dX14_exponent_0 rfl (lv_at hl 0 rfl) ?_
  refine lv_bipush (v := nI 52) hx hb dX14_exponent_1 (by decide) ?_
  refine lv_lshr (v := (lN (b9 / 4503599627370496))) hx hb dX14_exponent_3 (bw_shr52 hb9) ?_
  refine lv_ldc2 (v := lN 2047) hx hb B.2.2.1 (B.2.2.2.1 _ q1269) dX14_exponent_4 ?_
  refine lv_land hx hb dX14_exponent_7 ?_
  refine W.eq (g2 := F0 m 8 ls [.long (lN (b9 / 4503599627370496 % 2048))]) (by rw [bw_m11 (by omega)]) ?_
  refine lv_l2i (v := (nI (b9 / 4503599627370496 % 2048))) hx hb dX14_exponent_8 (lN_i _) ?_
  refine lv_istore_n (lv' := [(2, .int (nI (b9 / 4503599627370496 % 2048))), (0, .long (lN b9))]) hx hb dX14_exponent_9 rfl hl (by decide) rfl (fun ls hl => ?_)
  refine lv_iload_n hx hb dX14_exponent_10 rfl (lv_at hl 0 rfl) ?_
  refine n_if_le (tgt := 20) hx hb dX14_exponent_11 (by decide) (by omega) (fun c_1 => absurd c_1 (by omega)) (fun c_1 => ?_)
  refine lv_iload_n hx hb dX14_exponent_14 rfl (lv_at hl 0 rfl) ?_
  refine lv_sipush (v := nI 1075) hx hb dX14_exponent_15 (by decide) ?_
  refine lv_isub hx hb dX14_exponent_18 ?_
  refine W.eq (g2 := F0 m 19 ls [.int (iZ (((b9 / 4503599627370496 % 2048 : Nat) : Int) - 1075))]) (by rw [iZ_e]) ?_
  exact ct_iretR (ty := .int) (v := (iZ (((b9 / 4503599627370496 % 2048 : Nat) : Int) - 1075))) B rfl rfl (rfl) dX14_exponent_19
set_option maxHeartbeats 4000000 in
set_option maxRecDepth 100000 in
theorem met_X14_significand (l : Launch) (E : CE) (b9 : Nat) (sz : Nat) (hb9 : b9 < 9223372036854775808) (hf9 : 0 < b9 / 4503599627370496 % 2048) : Met l yX14_significand (ws_ yX14_significand cX14_significand 4 (some .long)) { frames := 0, cells := 0, slots := 0, locals := 0 } (ctP E [.long (lN b9)] sz (fun H => True)) (ctR (fun v => v = some (.long (lN (b9 % 4503599627370496 + 4503599627370496))))) 0 0 (fun _ => False) := by
  refine ct_start (by decide) (Nat.le_of_ble_eq_true rfl) ?_
  intro p e s m below meth c ls B hsz hH hl
  have hx := B.1
  have hb := B.2.1
  have hl : lv_has ls 4 [(0, .long (lN b9))] := hl
  refine lv_lload_n hx hb dX14_significand_0 rfl (lv_at hl 0 rfl) ?_
  refine lv_ldc2 (v := lN 4503599627370495) hx hb B.2.2.1 (B.2.2.2.1 _ q1268) dX14_significand_1 ?_
  refine lv_land hx hb dX14_significand_4 ?_
  refine W.eq (g2 := F0 m 5 ls [.long (lN (b9 % 4503599627370496))]) (by rw [bw_m52 hb9]) ?_
  refine lv_lstore_n (lv' := [(2, .long (lN (b9 % 4503599627370496))), (0, .long (lN b9))]) hx hb dX14_significand_5 rfl hl (by decide) rfl (fun ls hl => ?_)
  refine lv_lload_n hx hb dX14_significand_6 rfl (lv_at hl 1 rfl) ?_
  refine lv_bipush (v := nI 52) hx hb dX14_significand_7 (by decide) ?_
  refine lv_lshr (v := (lN (b9 / 4503599627370496))) hx hb dX14_significand_9 (bw_shr52 hb9) ?_
  refine lv_ldc2 (v := lN 2047) hx hb B.2.2.1 (B.2.2.2.1 _ q1269) dX14_significand_10 ?_
  refine lv_land hx hb dX14_significand_13 ?_
  refine W.eq (g2 := F0 m 14 ls [.long (lN (b9 / 4503599627370496 % 2048))]) (by rw [bw_m11 (by omega)]) ?_
  refine lv_lconst (v := lN 0) hx hb dX14_significand_14 (by decide) ?_
  refine m_if_le (tgt := 25) hx hb dX14_significand_15 dX14_significand_16 (by decide) (by omega) (by omega) (fun c_1 => absurd c_1 (by omega)) (fun c_1 => ?_)
  refine lv_lload_n hx hb dX14_significand_19 rfl (lv_at hl 0 rfl) ?_
  refine lv_ldc2 (v := lN 4503599627370496) hx hb B.2.2.1 (B.2.2.2.1 _ q1270) dX14_significand_20 ?_
  refine lv_lor hx hb dX14_significand_23 ?_
  refine W.eq (g2 := F0 m 24 ls [.long (lN (b9 % 4503599627370496 + 4503599627370496))]) (by rw [bw_orH (by omega)]) ?_
  exact ct_lretR (v := (lN (b9 % 4503599627370496 + 4503599627370496))) B (rfl) dX14_significand_24
set_option maxHeartbeats 4000000 in
set_option maxRecDepth 100000 in
theorem met_X14_rounded (l : Launch) (E : CE) (m9 : Nat) (ei : Int32) (mo : Nat) (e9 : Int) (sz : Nat) (hm9 : 0 < m9 ∧ m9 < 4611686018427387904) (hei : ei = iZ e9) (hmo : mo ≤ 1) (hfl : 1 ≤ e9 + (m9.log2 : Int) + 1023 ∧ e9 + (m9.log2 : Int) + 1023 < 2047) : Met l yX14_rounded (ws_ yX14_rounded cX14_rounded 18 (some .long)) { frames := 0, cells := 0, slots := 0, locals := 0 } (ctP E [.long (lN m9), .int ei, .int (nI mo), .int (nI 53), .int (nI 1023)] sz (fun H => True)) (ctR (fun v => v = some (.long (lN (rB m9 e9 mo))))) 0 0 (fun _ => False) := by
  refine ct_start (by decide) (Nat.le_of_ble_eq_true rfl) ?_
  intro p e s m below meth c ls B hsz hH hl
  have hx := B.1
  have hb := B.2.1
  have hl : lv_has ls 18 [(0, .long (lN m9)), (2, .int ei), (3, .int (nI mo)), (4, .int (nI 53)), (5, .int (nI 1023))] := hl
  have hlg : m9.log2 ≤ 61 := by have := (Nat.log2_lt (n := m9) (k := 62) (by omega)).mpr (by rw [show (2 : Nat) ^ 62 = 4611686018427387904 by decide]; exact hm9.2); omega
  refine lv_lload_n hx hb dX14_rounded_0 rfl (lv_at hl 0 rfl) ?_
  refine lv_lstore (lv' := [(6, .long (lN m9)), (0, .long (lN m9)), (2, .int ei), (3, .int (nI mo)), (4, .int (nI 53)), (5, .int (nI 1023))]) hx hb dX14_rounded_1 hl (by decide) rfl (fun ls hl => ?_)
  have hez : ei = iZ (e9 - ((0 : Nat) : Int)) := by rw [hei]; congr 1; omega
  subst hez
  refine lv_iload_n hx hb dX14_rounded_3 rfl (lv_at hl 2 rfl) ?_
  refine lv_istore (lv' := [(8, .int (iZ (e9 - ((0 : Nat) : Int)))), (6, .long (lN m9)), (0, .long (lN m9)), (2, .int (iZ (e9 - ((0 : Nat) : Int)))), (3, .int (nI mo)), (4, .int (nI 53)), (5, .int (nI 1023))]) hx hb dX14_rounded_4 hl (by decide) rfl (fun ls hl => ?_)
  refine ct_loop (σ := Nat × Nat) (fun (x, k) ls => lv_has ls 18 [(8, .int (iZ (e9 - k))), (6, .long (lN x)), (0, .long (lN m9)), (2, .int (iZ (e9 - ((0 : Nat) : Int)))), (3, .int (nI mo)), (4, .int (nI 53)), (5, .int (nI 1023))] ∧ (x = m9 * 2 ^ k) ∧ (m9.log2 + k ≤ 61)) (fun (x, k) => 61 - (m9.log2 + k)) (g := fun (x, k) ls => F0 m 6 ls []) (x0 := (m9, 0)) (ls0 := ls) ?_ ⟨lv_sub hl [0, 1, 2, 3, 4, 5, 6] rfl, by rw [Nat.pow_zero, Nat.mul_one], by omega⟩
  clear hl
  intro x9 ls hI ih_1
  obtain ⟨x, k⟩ := x9
  obtain ⟨hl, hx9, hk⟩ := hI
  refine W.eq (g2 := F0 m 6 ls []) rfl ?_
  have hnb := nx_b hm9.1 hx9 hk
  refine lv_lload hx hb dX14_rounded_6 (lv_at hl 1 rfl) ?_
  refine lv_ldc2 (v := lN 2305843009213693952) hx hb B.2.2.1 (B.2.2.2.1 _ q1251) dX14_rounded_8 ?_
  refine m_if_ge (tgt := 27) hx hb dX14_rounded_11 dX14_rounded_12 (by decide) (by omega) (by omega) (fun cx => ?_) (fun cx => ?_)
  · have hke := hnb.2.1 (by omega)
    have hxn := nx_x hx9 hke
    have hx62 := hnb.2.2
    refine lv_iload hx hb dX14_rounded_27 (lv_at hl 0 rfl) ?_
    refine lv_bipush (v := nI 61) hx hb dX14_rounded_29 (by decide) ?_
    refine lv_iadd hx hb dX14_rounded_31 ?_
    refine W.eq (g2 := F0 m 32 ls [.int (iZ (e9 - k + (61 : Nat)))]) (by rw [iZ_addn]) ?_
    refine lv_iload hx hb dX14_rounded_32 (lv_at hl 6 rfl) ?_
    refine lv_iadd hx hb dX14_rounded_34 ?_
    refine W.eq (g2 := F0 m 35 ls [.int (nI ((e9 + (m9.log2 : Int) + 1023).toNat))]) (by rw [iZ_addn, iZ_nn (show e9 - (k : Int) + ((61 : Nat) : Int) + ((1023 : Nat) : Int) = (((e9 + (m9.log2 : Int) + 1023).toNat : Nat) : Int) by omega)]) ?_
    refine lv_istore (lv' := [(9, .int (nI ((e9 + (m9.log2 : Int) + 1023).toNat))), (8, .int (iZ (e9 - k))), (6, .long (lN x)), (0, .long (lN m9)), (2, .int (iZ (e9 - ((0 : Nat) : Int)))), (3, .int (nI mo)), (4, .int (nI 53)), (5, .int (nI 1023))]) hx hb dX14_rounded_35 hl (by decide) rfl (fun ls hl => ?_)
    refine lv_iconst (v := nI 2) hx hb dX14_rounded_37 (by decide) ?_
    refine lv_iload hx hb dX14_rounded_38 (lv_at hl 7 rfl) ?_
    refine n_imul hx hb dX14_rounded_40 ?_
    refine W.eq (g2 := F0 m 41 ls [.int (nI 2046)]) rfl ?_
    refine lv_iconst (v := nI 1) hx hb dX14_rounded_41 (by decide) ?_
    refine n_iadd hx hb dX14_rounded_42 ?_
    refine lv_istore (lv' := [(10, .int (nI 2047)), (9, .int (nI ((e9 + (m9.log2 : Int) + 1023).toNat))), (8, .int (iZ (e9 - k))), (6, .long (lN x)), (0, .long (lN m9)), (2, .int (iZ (e9 - ((0 : Nat) : Int)))), (3, .int (nI mo)), (4, .int (nI 53)), (5, .int (nI 1023))]) hx hb dX14_rounded_43 hl (by decide) rfl (fun ls hl => ?_)
    refine lv_iload hx hb dX14_rounded_45 (lv_at hl 1 rfl) ?_
    refine lv_iload hx hb dX14_rounded_47 (lv_at hl 0 rfl) ?_
    refine n_icmp_lt (tgt := 61) hx hb dX14_rounded_49 (by decide) (by omega) (by omega) (fun c_2 => ?_) (fun c_2 => absurd c_2 (by omega))
    refine lv_bipush (v := nI 62) hx hb dX14_rounded_61 (by decide) ?_
    refine lv_iload hx hb dX14_rounded_63 (lv_at hl 7 rfl) ?_
    refine n_isub hx hb (by omega) dX14_rounded_65 ?_
    refine W.eq (g2 := F0 m 66 ls [.int (nI 9)]) rfl ?_
    refine lv_istore (lv' := [(11, .int (nI 9)), (10, .int (nI 2047)), (9, .int (nI ((e9 + (m9.log2 : Int) + 1023).toNat))), (8, .int (iZ (e9 - k))), (6, .long (lN x)), (0, .long (lN m9)), (2, .int (iZ (e9 - ((0 : Nat) : Int)))), (3, .int (nI mo)), (4, .int (nI 53)), (5, .int (nI 1023))]) hx hb dX14_rounded_66 hl (by decide) rfl (fun ls hl => ?_)
    refine lv_iload hx hb dX14_rounded_68 (lv_at hl 2 rfl) ?_
    refine n_if_gt (tgt := 82) hx hb dX14_rounded_70 (by decide) (by omega) (fun c_3 => ?_) (fun c_3 => absurd c_3 (by omega))
    refine lv_iload hx hb dX14_rounded_82 (lv_at hl 0 rfl) ?_
    refine lv_bipush (v := nI 62) hx hb dX14_rounded_84 (by decide) ?_
    refine n_icmp_le (tgt := 91) hx hb dX14_rounded_86 (by decide) (by omega) (by omega) (fun c_4 => ?_) (fun c_4 => absurd c_4 (by omega))
    refine lv_lload hx hb dX14_rounded_91 (lv_at hl 4 rfl) ?_
    refine lv_iload hx hb dX14_rounded_93 (lv_at hl 0 rfl) ?_
    refine lv_lushr (v := (lN (x / 512))) hx hb dX14_rounded_95 (bw_ush9 (by omega)) ?_
    refine lv_lstore (lv' := [(12, .long (lN (x / 512))), (11, .int (nI 9)), (10, .int (nI 2047)), (9, .int (nI ((e9 + (m9.log2 : Int) + 1023).toNat))), (8, .int (iZ (e9 - k))), (6, .long (lN x)), (0, .long (lN m9)), (2, .int (iZ (e9 - ((0 : Nat) : Int)))), (3, .int (nI mo)), (4, .int (nI 53)), (5, .int (nI 1023))]) hx hb dX14_rounded_96 hl (by decide) rfl (fun ls hl => ?_)
    refine lv_lload hx hb dX14_rounded_98 (lv_at hl 5 rfl) ?_
    refine lv_lconst (v := lN 1) hx hb dX14_rounded_100 (by decide) ?_
    refine lv_iload hx hb dX14_rounded_101 (lv_at hl 1 rfl) ?_
    refine lv_lshl (v := (lN 512)) hx hb dX14_rounded_103 bw_shl9 ?_
    refine lv_lconst (v := lN 1) hx hb dX14_rounded_104 (by decide) ?_
    refine m_lsub hx hb (by omega) dX14_rounded_105 ?_
    refine W.eq (g2 := F0 m 106 ls [.long (lN 511), .long (lN x)]) (by rw [show 512 - 1 = 511 from rfl]) ?_
    refine lv_land hx hb dX14_rounded_106 ?_
    refine W.eq (g2 := F0 m 107 ls [.long (lN (x % 512))]) (by rw [bw_m9 (by omega)]) ?_
    refine lv_lstore (lv' := [(14, .long (lN (x % 512))), (12, .long (lN (x / 512))), (11, .int (nI 9)), (10, .int (nI 2047)), (9, .int (nI ((e9 + (m9.log2 : Int) + 1023).toNat))), (8, .int (iZ (e9 - k))), (6, .long (lN x)), (0, .long (lN m9)), (2, .int (iZ (e9 - ((0 : Nat) : Int)))), (3, .int (nI mo)), (4, .int (nI 53)), (5, .int (nI 1023))]) hx hb dX14_rounded_107 hl (by decide) rfl (fun ls hl => ?_)
    refine lv_lconst (v := lN 1) hx hb dX14_rounded_109 (by decide) ?_
    refine lv_iload hx hb dX14_rounded_110 (lv_at hl 2 rfl) ?_
    refine lv_iconst (v := nI 1) hx hb dX14_rounded_112 (by decide) ?_
    refine n_isub hx hb (by omega) dX14_rounded_113 ?_
    refine W.eq (g2 := F0 m 114 ls [.int (nI 8), .long (lN 1)]) rfl ?_
    refine lv_lshl (v := (lN 256)) hx hb dX14_rounded_114 bw_shl8 ?_
    refine lv_lstore (lv' := [(16, .long (lN 256)), (14, .long (lN (x % 512))), (12, .long (lN (x / 512))), (11, .int (nI 9)), (10, .int (nI 2047)), (9, .int (nI ((e9 + (m9.log2 : Int) + 1023).toNat))), (8, .int (iZ (e9 - k))), (6, .long (lN x)), (0, .long (lN m9)), (2, .int (iZ (e9 - ((0 : Nat) : Int)))), (3, .int (nI mo)), (4, .int (nI 53)), (5, .int (nI 1023))]) hx hb dX14_rounded_115 hl (by decide) rfl (fun ls hl => ?_)
    refine lv_lload hx hb dX14_rounded_117 (lv_at hl 1 rfl) ?_
    refine lv_lload hx hb dX14_rounded_119 (lv_at hl 0 rfl) ?_
    refine m_if_gt (tgt := 146) hx hb dX14_rounded_121 dX14_rounded_122 (by decide) (by omega) (by omega) (fun c1 => ?_) (fun c1 => ?_)
    · refine lv_lload hx hb dX14_rounded_146 (lv_at hl 2 rfl) ?_
      refine lv_lconst (v := lN 1) hx hb dX14_rounded_148 (by decide) ?_
      refine m_ladd hx hb dX14_rounded_149 ?_
      refine lv_lstore (lv' := [(12, .long (lN (x / 512 + 1))), (16, .long (lN 256)), (14, .long (lN (x % 512))), (11, .int (nI 9)), (10, .int (nI 2047)), (9, .int (nI ((e9 + (m9.log2 : Int) + 1023).toNat))), (8, .int (iZ (e9 - k))), (6, .long (lN x)), (0, .long (lN m9)), (2, .int (iZ (e9 - ((0 : Nat) : Int)))), (3, .int (nI mo)), (4, .int (nI 53)), (5, .int (nI 1023))]) hx hb dX14_rounded_150 hl (by decide) rfl (fun ls hl => ?_)
      refine lv_iload hx hb dX14_rounded_152 (lv_at hl 5 rfl) ?_
      refine n_if_gt (tgt := 162) hx hb dX14_rounded_154 (by decide) (by omega) (fun c_5 => ?_) (fun c_5 => absurd c_5 (by omega))
      refine lv_iload hx hb dX14_rounded_162 (lv_at hl 5 rfl) ?_
      refine lv_iconst (v := nI 1) hx hb dX14_rounded_164 (by decide) ?_
      refine n_isub hx hb (by omega) dX14_rounded_165 ?_
      refine lv_i2l (v := lN ((e9 + (m9.log2 : Int) + 1023).toNat - 1)) hx hb dX14_rounded_166 (nI_l (by omega)) ?_
      refine lv_iload hx hb dX14_rounded_167 (lv_at hl 11 rfl) ?_
      refine lv_iconst (v := nI 1) hx hb dX14_rounded_169 (by decide) ?_
      refine n_isub hx hb (by omega) dX14_rounded_170 ?_
      refine W.eq (g2 := F0 m 171 ls [.int (nI 52), .long (lN ((e9 + (m9.log2 : Int) + 1023).toNat - 1))]) rfl ?_
      refine lv_lshl (v := (lN (((e9 + (m9.log2 : Int) + 1023).toNat - 1) * 4503599627370496))) hx hb dX14_rounded_171 (bw_shl52 _) ?_
      refine lv_lload hx hb dX14_rounded_172 (lv_at hl 0 rfl) ?_
      refine m_ladd hx hb dX14_rounded_174 ?_
      exact ct_lretR (v := (lN (((e9 + (m9.log2 : Int) + 1023).toNat - 1) * 4503599627370496 + (x / 512 + 1)))) B (by unfold rB rq; rw [← hxn, if_pos (Or.inl c1), show (e9 + (m9.log2 : Int) + 1022).toNat = (e9 + (m9.log2 : Int) + 1023).toNat - 1 by omega]) dX14_rounded_175
    · refine lv_lload hx hb dX14_rounded_125 (lv_at hl 1 rfl) ?_
      refine lv_lload hx hb dX14_rounded_127 (lv_at hl 0 rfl) ?_
      refine m_if_ne (tgt := 152) hx hb dX14_rounded_129 dX14_rounded_130 (by decide) (by omega) (by omega) (fun c2 => ?_) (fun c2 => ?_)
      · refine lv_iload hx hb dX14_rounded_152 (lv_at hl 5 rfl) ?_
        refine n_if_gt (tgt := 162) hx hb dX14_rounded_154 (by decide) (by omega) (fun c_6 => ?_) (fun c_6 => absurd c_6 (by omega))
        refine lv_iload hx hb dX14_rounded_162 (lv_at hl 5 rfl) ?_
        refine lv_iconst (v := nI 1) hx hb dX14_rounded_164 (by decide) ?_
        refine n_isub hx hb (by omega) dX14_rounded_165 ?_
        refine lv_i2l (v := lN ((e9 + (m9.log2 : Int) + 1023).toNat - 1)) hx hb dX14_rounded_166 (nI_l (by omega)) ?_
        refine lv_iload hx hb dX14_rounded_167 (lv_at hl 11 rfl) ?_
        refine lv_iconst (v := nI 1) hx hb dX14_rounded_169 (by decide) ?_
        refine n_isub hx hb (by omega) dX14_rounded_170 ?_
        refine W.eq (g2 := F0 m 171 ls [.int (nI 52), .long (lN ((e9 + (m9.log2 : Int) + 1023).toNat - 1))]) rfl ?_
        refine lv_lshl (v := (lN (((e9 + (m9.log2 : Int) + 1023).toNat - 1) * 4503599627370496))) hx hb dX14_rounded_171 (bw_shl52 _) ?_
        refine lv_lload hx hb dX14_rounded_172 (lv_at hl 2 rfl) ?_
        refine m_ladd hx hb dX14_rounded_174 ?_
        exact ct_lretR (v := (lN (((e9 + (m9.log2 : Int) + 1023).toNat - 1) * 4503599627370496 + (x / 512)))) B (by unfold rB rq; rw [← hxn, if_neg (fun z9 => by rcases z9 with z9 | z9; omega; exact c2 z9.1), show (e9 + (m9.log2 : Int) + 1022).toNat = (e9 + (m9.log2 : Int) + 1023).toNat - 1 by omega]) dX14_rounded_175
      · refine lv_iload_n hx hb dX14_rounded_133 rfl (lv_at hl 10 rfl) ?_
        refine n_if_ne (tgt := 146) hx hb dX14_rounded_134 (by decide) (by omega) (fun c3 => ?_) (fun c3 => ?_)
        · refine lv_lload hx hb dX14_rounded_146 (lv_at hl 2 rfl) ?_
          refine lv_lconst (v := lN 1) hx hb dX14_rounded_148 (by decide) ?_
          refine m_ladd hx hb dX14_rounded_149 ?_
          refine lv_lstore (lv' := [(12, .long (lN (x / 512 + 1))), (16, .long (lN 256)), (14, .long (lN (x % 512))), (11, .int (nI 9)), (10, .int (nI 2047)), (9, .int (nI ((e9 + (m9.log2 : Int) + 1023).toNat))), (8, .int (iZ (e9 - k))), (6, .long (lN x)), (0, .long (lN m9)), (2, .int (iZ (e9 - ((0 : Nat) : Int)))), (3, .int (nI mo)), (4, .int (nI 53)), (5, .int (nI 1023))]) hx hb dX14_rounded_150 hl (by decide) rfl (fun ls hl => ?_)
          refine lv_iload hx hb dX14_rounded_152 (lv_at hl 5 rfl) ?_
          refine n_if_gt (tgt := 162) hx hb dX14_rounded_154 (by decide) (by omega) (fun c_7 => ?_) (fun c_7 => absurd c_7 (by omega))
          refine lv_iload hx hb dX14_rounded_162 (lv_at hl 5 rfl) ?_
          refine lv_iconst (v := nI 1) hx hb dX14_rounded_164 (by decide) ?_
          refine n_isub hx hb (by omega) dX14_rounded_165 ?_
          refine lv_i2l (v := lN ((e9 + (m9.log2 : Int) + 1023).toNat - 1)) hx hb dX14_rounded_166 (nI_l (by omega)) ?_
          refine lv_iload hx hb dX14_rounded_167 (lv_at hl 11 rfl) ?_
          refine lv_iconst (v := nI 1) hx hb dX14_rounded_169 (by decide) ?_
          refine n_isub hx hb (by omega) dX14_rounded_170 ?_
          refine W.eq (g2 := F0 m 171 ls [.int (nI 52), .long (lN ((e9 + (m9.log2 : Int) + 1023).toNat - 1))]) rfl ?_
          refine lv_lshl (v := (lN (((e9 + (m9.log2 : Int) + 1023).toNat - 1) * 4503599627370496))) hx hb dX14_rounded_171 (bw_shl52 _) ?_
          refine lv_lload hx hb dX14_rounded_172 (lv_at hl 0 rfl) ?_
          refine m_ladd hx hb dX14_rounded_174 ?_
          exact ct_lretR (v := (lN (((e9 + (m9.log2 : Int) + 1023).toNat - 1) * 4503599627370496 + (x / 512 + 1)))) B (by unfold rB rq; rw [← hxn, if_pos (Or.inr ⟨c2, Or.inl (by omega)⟩), show (e9 + (m9.log2 : Int) + 1022).toNat = (e9 + (m9.log2 : Int) + 1023).toNat - 1 by omega]) dX14_rounded_175
        · refine lv_lload hx hb dX14_rounded_137 (lv_at hl 2 rfl) ?_
          refine lv_lconst (v := lN 1) hx hb dX14_rounded_139 (by decide) ?_
          refine lv_land hx hb dX14_rounded_140 ?_
          refine W.eq (g2 := F0 m 141 ls [.long (lN (x / 512 % 2))]) (by rw [bw_m1 (by omega)]) ?_
          refine lv_lconst (v := lN 1) hx hb dX14_rounded_141 (by decide) ?_
          refine m_if_ne (tgt := 152) hx hb dX14_rounded_142 dX14_rounded_143 (by decide) (by omega) (by omega) (fun c4 => ?_) (fun c4 => ?_)
          · refine lv_iload hx hb dX14_rounded_152 (lv_at hl 5 rfl) ?_
            refine n_if_gt (tgt := 162) hx hb dX14_rounded_154 (by decide) (by omega) (fun c_8 => ?_) (fun c_8 => absurd c_8 (by omega))
            refine lv_iload hx hb dX14_rounded_162 (lv_at hl 5 rfl) ?_
            refine lv_iconst (v := nI 1) hx hb dX14_rounded_164 (by decide) ?_
            refine n_isub hx hb (by omega) dX14_rounded_165 ?_
            refine lv_i2l (v := lN ((e9 + (m9.log2 : Int) + 1023).toNat - 1)) hx hb dX14_rounded_166 (nI_l (by omega)) ?_
            refine lv_iload hx hb dX14_rounded_167 (lv_at hl 11 rfl) ?_
            refine lv_iconst (v := nI 1) hx hb dX14_rounded_169 (by decide) ?_
            refine n_isub hx hb (by omega) dX14_rounded_170 ?_
            refine W.eq (g2 := F0 m 171 ls [.int (nI 52), .long (lN ((e9 + (m9.log2 : Int) + 1023).toNat - 1))]) rfl ?_
            refine lv_lshl (v := (lN (((e9 + (m9.log2 : Int) + 1023).toNat - 1) * 4503599627370496))) hx hb dX14_rounded_171 (bw_shl52 _) ?_
            refine lv_lload hx hb dX14_rounded_172 (lv_at hl 2 rfl) ?_
            refine m_ladd hx hb dX14_rounded_174 ?_
            exact ct_lretR (v := (lN (((e9 + (m9.log2 : Int) + 1023).toNat - 1) * 4503599627370496 + (x / 512)))) B (by unfold rB rq; rw [← hxn, if_neg (fun z9 => by rcases z9 with z9 | z9; omega; rcases z9.2 with y9 | y9; omega; exact c4 y9), show (e9 + (m9.log2 : Int) + 1022).toNat = (e9 + (m9.log2 : Int) + 1023).toNat - 1 by omega]) dX14_rounded_175
          · refine lv_lload hx hb dX14_rounded_146 (lv_at hl 2 rfl) ?_
            refine lv_lconst (v := lN 1) hx hb dX14_rounded_148 (by decide) ?_
            refine m_ladd hx hb dX14_rounded_149 ?_
            refine lv_lstore (lv' := [(12, .long (lN (x / 512 + 1))), (16, .long (lN 256)), (14, .long (lN (x % 512))), (11, .int (nI 9)), (10, .int (nI 2047)), (9, .int (nI ((e9 + (m9.log2 : Int) + 1023).toNat))), (8, .int (iZ (e9 - k))), (6, .long (lN x)), (0, .long (lN m9)), (2, .int (iZ (e9 - ((0 : Nat) : Int)))), (3, .int (nI mo)), (4, .int (nI 53)), (5, .int (nI 1023))]) hx hb dX14_rounded_150 hl (by decide) rfl (fun ls hl => ?_)
            refine lv_iload hx hb dX14_rounded_152 (lv_at hl 5 rfl) ?_
            refine n_if_gt (tgt := 162) hx hb dX14_rounded_154 (by decide) (by omega) (fun c_9 => ?_) (fun c_9 => absurd c_9 (by omega))
            refine lv_iload hx hb dX14_rounded_162 (lv_at hl 5 rfl) ?_
            refine lv_iconst (v := nI 1) hx hb dX14_rounded_164 (by decide) ?_
            refine n_isub hx hb (by omega) dX14_rounded_165 ?_
            refine lv_i2l (v := lN ((e9 + (m9.log2 : Int) + 1023).toNat - 1)) hx hb dX14_rounded_166 (nI_l (by omega)) ?_
            refine lv_iload hx hb dX14_rounded_167 (lv_at hl 11 rfl) ?_
            refine lv_iconst (v := nI 1) hx hb dX14_rounded_169 (by decide) ?_
            refine n_isub hx hb (by omega) dX14_rounded_170 ?_
            refine W.eq (g2 := F0 m 171 ls [.int (nI 52), .long (lN ((e9 + (m9.log2 : Int) + 1023).toNat - 1))]) rfl ?_
            refine lv_lshl (v := (lN (((e9 + (m9.log2 : Int) + 1023).toNat - 1) * 4503599627370496))) hx hb dX14_rounded_171 (bw_shl52 _) ?_
            refine lv_lload hx hb dX14_rounded_172 (lv_at hl 0 rfl) ?_
            refine m_ladd hx hb dX14_rounded_174 ?_
            exact ct_lretR (v := (lN (((e9 + (m9.log2 : Int) + 1023).toNat - 1) * 4503599627370496 + (x / 512 + 1)))) B (by unfold rB rq; rw [← hxn, if_pos (Or.inr ⟨c2, Or.inr c4⟩), show (e9 + (m9.log2 : Int) + 1022).toNat = (e9 + (m9.log2 : Int) + 1023).toNat - 1 by omega]) dX14_rounded_175
  · refine lv_lload hx hb dX14_rounded_15 (lv_at hl 1 rfl) ?_
    refine lv_iconst (v := nI 1) hx hb dX14_rounded_17 (by decide) ?_
    refine lv_lshl (v := (lN (x * 2))) hx hb dX14_rounded_18 (bw_shl1 x) ?_
    refine lv_lstore (lv' := [(6, .long (lN (x * 2))), (8, .int (iZ (e9 - k))), (0, .long (lN m9)), (2, .int (iZ (e9 - ((0 : Nat) : Int)))), (3, .int (nI mo)), (4, .int (nI 53)), (5, .int (nI 1023))]) hx hb dX14_rounded_19 hl (by decide) rfl (fun ls hl => ?_)
    refine lv_iinc (v := (iZ (e9 - ((k + 1 : Nat) : Int)))) (lv' := [(8, .int (iZ (e9 - ((k + 1 : Nat) : Int)))), (6, .long (lN (x * 2))), (0, .long (lN m9)), (2, .int (iZ (e9 - ((0 : Nat) : Int)))), (3, .int (nI mo)), (4, .int (nI 53)), (5, .int (nI 1023))]) hx hb dX14_rounded_21 hl (k := 1) rfl ((iZ_add _ _).trans (congrArg iZ (by omega))) (by decide) rfl (fun ls hl => ?_)
    refine lv_goto (tgt := 6) hx hb dX14_rounded_24 (by decide) ?_
    exact ih_1 ((x * 2), (k + 1)) ls (by dsimp only; omega) ⟨lv_sub hl [0, 1, 2, 3, 4, 5, 6] rfl, by rw [hx9, Nat.pow_succ, Nat.mul_assoc], by omega⟩
set_option maxHeartbeats 4000000 in
set_option maxRecDepth 100000 in
theorem met_X14_made (l : Launch) (E : CE) (m9 : Nat) (ei : Int32) (mo : Nat) (e9 : Int) (sz : Nat) (hm9 : 0 < m9 ∧ m9 < 4611686018427387904) (hei : ei = iZ e9) (hmo : mo ≤ 1) (hfl : 1 ≤ e9 + (m9.log2 : Int) + 1023 ∧ e9 + (m9.log2 : Int) + 1023 < 2047) : Met l yX14_made (ws_ yX14_made cX14_made 7 (some .long)) { frames := 1, cells := 0, slots := 0, locals := 37 } (ctP E [.int (nI 0), .long (lN m9), .int ei, .int (nI mo)] sz (fun H => True)) (ctR (fun v => v = some (.long (lN (rB m9 e9 mo))))) 0 0 (fun _ => False) := by
  refine ct_start (by decide) (Nat.le_of_ble_eq_true rfl) ?_
  intro p e s m below meth c ls B hsz hH hl
  have hx := B.1
  have hb := B.2.1
  have hl : lv_has ls 7 [(0, .int (nI 0)), (1, .long (lN m9)), (3, .int ei), (4, .int (nI mo))] := hl
  refine lv_lload_n hx hb dX14_made_0 rfl (lv_at hl 1 rfl) ?_
  refine lv_iload_n hx hb dX14_made_1 rfl (lv_at hl 2 rfl) ?_
  refine lv_iload hx hb dX14_made_2 (lv_at hl 3 rfl) ?_
  refine lv_bipush (v := nI 53) hx hb dX14_made_4 (by decide) ?_
  refine lv_sipush (v := nI 1023) hx hb dX14_made_6 (by decide) ?_
  refine ct_callR (ct_runS (As := [.long (lN m9), .int ei, .int (nI mo), .int (nI 53), .int (nI 1023)]) (rest := []) B (met_X14_rounded l E m9 ei mo e9 s.heap.size hm9 hei hmo hfl) (lw_S q1248 q1249 q80 q1250) (n := 5) ⟨by decide, by decide, by decide +kernel⟩ rfl ⟨rfl, rfl, (Nat.le_of_ble_eq_true rfl), (Nat.le_of_ble_eq_true rfl), (Nat.le_of_ble_eq_true rfl), (Nat.le_of_ble_eq_true rfl)⟩ (va_S.rf (A := fun _ => False)) (fun _ h => h.elim) trivial hl.1 (Nat.le_of_ble_eq_true rfl) dX14_made_9) (fun v hv => ?_)
  subst hv
  refine W.eq (g2 := F0 m 12 ls [.long (lN (rB m9 e9 mo))]) rfl ?_
  refine lv_lstore (lv' := [(5, .long (lN (rB m9 e9 mo))), (0, .int (nI 0)), (1, .long (lN m9)), (3, .int ei), (4, .int (nI mo))]) hx hb dX14_made_12 hl (by decide) rfl (fun ls hl => ?_)
  refine lv_iload_n hx hb dX14_made_14 rfl (lv_at hl 1 rfl) ?_
  refine n_if_eq (tgt := 27) hx hb dX14_made_15 (by decide) (by omega) (fun c_1 => ?_) (fun c_1 => absurd c_1 (by omega))
  refine lv_lload hx hb dX14_made_27 (lv_at hl 0 rfl) ?_
  exact ct_lretR (v := (lN (rB m9 e9 mo))) B (rfl) dX14_made_29
set_option maxHeartbeats 4000000 in
set_option maxRecDepth 100000 in
theorem met_X14_of (l : Launch) (E : CE) (V9 : Nat) (sz : Nat) (hV9 : 0 < V9 ∧ V9 < 9007199254740992) : Met l yX14_of (ws_ yX14_of cX14_of 6 (some .long)) { frames := 2, cells := 0, slots := 0, locals := 63 } (ctP E [.long (lN V9), .int (nI 0)] sz (fun H => True)) (ctR (fun v => v = some (.long (lN (bitsV V9))))) 0 0 (fun _ => False) := by
  refine ct_start (by decide) (Nat.le_of_ble_eq_true rfl) ?_
  intro p e s m below meth c ls B hsz hH hl
  have hx := B.1
  have hb := B.2.1
  have hl : lv_has ls 6 [(0, .long (lN V9)), (2, .int (nI 0))] := hl
  have hlg := lg_53 hV9.1 hV9.2
  refine lv_lload_n hx hb dX14_of_0 rfl (lv_at hl 0 rfl) ?_
  refine lv_lconst (v := lN 0) hx hb dX14_of_1 (by decide) ?_
  refine m_if_ne (tgt := 8) hx hb dX14_of_2 dX14_of_3 (by decide) (by omega) (by omega) (fun c_1 => ?_) (fun c_1 => absurd c_1 (by omega))
  refine lv_lload_n hx hb dX14_of_8 rfl (lv_at hl 0 rfl) ?_
  refine lv_lconst (v := lN 0) hx hb dX14_of_9 (by decide) ?_
  refine m_if_ge (tgt := 22) hx hb dX14_of_10 dX14_of_11 (by decide) (by omega) (by omega) (fun c_2 => ?_) (fun c_2 => absurd c_2 (by omega))
  refine lv_iconst (v := nI 0) hx hb dX14_of_22 (by decide) ?_
  refine lv_istore_n (lv' := [(3, .int (nI 0)), (0, .long (lN V9)), (2, .int (nI 0))]) hx hb dX14_of_23 rfl hl (by decide) rfl (fun ls hl => ?_)
  refine lv_iload_n hx hb dX14_of_24 rfl (lv_at hl 0 rfl) ?_
  refine n_if_eq (tgt := 33) hx hb dX14_of_25 (by decide) (by omega) (fun c_3 => ?_) (fun c_3 => absurd c_3 (by omega))
  refine lv_lload_n hx hb dX14_of_33 rfl (lv_at hl 1 rfl) ?_
  refine lv_lstore (lv' := [(4, .long (lN V9)), (3, .int (nI 0)), (0, .long (lN V9)), (2, .int (nI 0))]) hx hb dX14_of_34 hl (by decide) rfl (fun ls hl => ?_)
  refine lv_lload hx hb dX14_of_36 (lv_at hl 0 rfl) ?_
  refine lv_lconst (v := lN 0) hx hb dX14_of_38 (by decide) ?_
  refine m_if_le (tgt := 61) hx hb dX14_of_39 dX14_of_40 (by decide) (by omega) (by omega) (fun c_4 => absurd c_4 (by omega)) (fun c_4 => ?_)
  refine lv_lload hx hb dX14_of_43 (lv_at hl 0 rfl) ?_
  refine lv_ldc2 (v := lN 4611686018427387904) hx hb B.2.2.1 (B.2.2.2.1 _ q1244) dX14_of_45 ?_
  refine m_if_ge (tgt := 61) hx hb dX14_of_48 dX14_of_49 (by decide) (by omega) (by omega) (fun c_5 => absurd c_5 (by omega)) (fun c_5 => ?_)
  refine lv_iload_n hx hb dX14_of_52 rfl (lv_at hl 1 rfl) ?_
  refine lv_lload hx hb dX14_of_53 (lv_at hl 0 rfl) ?_
  refine lv_iconst (v := nI 0) hx hb dX14_of_55 (by decide) ?_
  refine lv_iconst (v := nI 0) hx hb dX14_of_56 (by decide) ?_
  refine ct_callR (ct_runS (As := [.int (nI 0), .long (lN V9), .int (nI 0), .int (nI 0)]) (rest := []) B (met_X14_made l E V9 (nI 0) 0 0 s.heap.size ⟨hV9.1, by omega⟩ rfl (by omega) ⟨by omega, by omega⟩) (lw_S q1245 q1246 q80 q1247) (n := 4) ⟨by decide, by decide, by decide +kernel⟩ rfl ⟨rfl, rfl, (Nat.le_of_ble_eq_true rfl), (Nat.le_of_ble_eq_true rfl), (Nat.le_of_ble_eq_true rfl), (Nat.le_of_ble_eq_true rfl)⟩ (va_S.rf (A := fun _ => False)) (fun _ h => h.elim) trivial hl.1 (Nat.le_of_ble_eq_true rfl) dX14_of_57) (fun v hv => ?_)
  subst hv
  refine W.eq (g2 := F0 m 60 ls [.long (lN (rB V9 0 0))]) rfl ?_
  exact ct_lretR (v := (lN (rB V9 0 0))) B (by rw [rB_of hV9.1 hV9.2]) dX14_of_60
set_option maxHeartbeats 4000000 in
set_option maxRecDepth 100000 in
theorem met_X14_divide (l : Launch) (E : CE) (V9 W9 : Nat) (sz : Nat) (hV9 : 0 < V9 ∧ V9 < 9007199254740992) (hW9 : 0 < W9 ∧ W9 < 9007199254740992) : Met l yX14_divide (ws_ yX14_divide cX14_divide 13 (some .long)) { frames := 2, cells := 0, slots := 0, locals := 63 } (ctP E [.long (lN (bitsV V9)), .long (lN (bitsV W9))] sz (fun H => True)) (ctR (fun v => v = some (.long (lN (divB V9 W9))))) 0 0 (fun _ => False) := by
  refine ct_start (by decide) (Nat.le_of_ble_eq_true rfl) ?_
  intro p e s m below meth c ls B hsz hH hl
  have hx := B.1
  have hb := B.2.1
  have hl : lv_has ls 13 [(0, .long (lN (bitsV V9))), (2, .long (lN (bitsV W9)))] := hl
  have hlV := lg_53 hV9.1 hV9.2
  have hlW := lg_53 hW9.1 hW9.2
  have hbV9 := bits_b hV9.1 hV9.2
  have hbW9 := bits_b hW9.1 hW9.2
  have hsV := sig_b hV9.1 hV9.2
  have hsW := sig_b hW9.1 hW9.2
  refine lv_lload_n hx hb dX14_divide_0 rfl (lv_at hl 0 rfl) ?_
  refine lv_lload_n hx hb dX14_divide_1 rfl (lv_at hl 1 rfl) ?_
  refine lv_lxor hx hb dX14_divide_2 ?_
  refine lv_ldc2 (v := (-9223372036854775808)) hx hb B.2.2.1 (B.2.2.2.1 _ q1252) dX14_divide_3 ?_
  refine lv_land hx hb dX14_divide_6 ?_
  refine W.eq (g2 := F0 m 7 ls [.long (lN 0)]) (by rw [(bw_sgn (show bitsV V9 < 9223372036854775808 by omega) (show bitsV W9 < 9223372036854775808 by omega))]) ?_
  refine lv_lstore (lv' := [(4, .long (lN 0)), (0, .long (lN (bitsV V9))), (2, .long (lN (bitsV W9)))]) hx hb dX14_divide_7 hl (by decide) rfl (fun ls hl => ?_)
  refine lv_lload_n hx hb dX14_divide_9 rfl (lv_at hl 1 rfl) ?_
  refine ct_callR (ct_runS (As := [.long (lN (bitsV V9))]) (rest := []) B (met_X14_isInfinite l E (bitsV V9) s.heap.size (by omega)) (lw_S q1257 q1258 q80 q1259) (n := 1) ⟨by decide, by decide, by decide +kernel⟩ rfl ⟨rfl, rfl, (Nat.le_of_ble_eq_true rfl), (Nat.le_of_ble_eq_true rfl), (Nat.le_of_ble_eq_true rfl), (Nat.le_of_ble_eq_true rfl)⟩ (va_S.rf (A := fun _ => False)) (fun _ h => h.elim) trivial hl.1 (Nat.le_of_ble_eq_true rfl) dX14_divide_10) (fun v hv => ?_)
  subst hv
  refine W.eq (g2 := F0 m 13 ls [.int (nI 0)]) rfl ?_
  refine n_if_ne (tgt := 23) hx hb dX14_divide_13 (by decide) (by omega) (fun c_1 => absurd c_1 (by omega)) (fun c_1 => ?_)
  refine lv_lload_n hx hb dX14_divide_16 rfl (lv_at hl 2 rfl) ?_
  refine ct_callR (ct_runS (As := [.long (lN (bitsV W9))]) (rest := []) B (met_X14_isZero l E (bitsV W9) s.heap.size (by omega)) (lw_S q1262 q1263 q80 q1264) (n := 1) ⟨by decide, by decide, by decide +kernel⟩ rfl ⟨rfl, rfl, (Nat.le_of_ble_eq_true rfl), (Nat.le_of_ble_eq_true rfl), (Nat.le_of_ble_eq_true rfl), (Nat.le_of_ble_eq_true rfl)⟩ (va_S.rf (A := fun _ => False)) (fun _ h => h.elim) trivial hl.1 (Nat.le_of_ble_eq_true rfl) dX14_divide_17) (fun v hv => ?_)
  subst hv
  refine W.eq (g2 := F0 m 20 ls [.int (nI 0)]) rfl ?_
  refine n_if_eq (tgt := 30) hx hb dX14_divide_20 (by decide) (by omega) (fun c_2 => ?_) (fun c_2 => absurd c_2 (by omega))
  refine lv_lload_n hx hb dX14_divide_30 rfl (lv_at hl 1 rfl) ?_
  refine ct_callR (ct_runS (As := [.long (lN (bitsV V9))]) (rest := []) B (met_X14_isZero l E (bitsV V9) s.heap.size (by omega)) (lw_S q1262 q1263 q80 q1264) (n := 1) ⟨by decide, by decide, by decide +kernel⟩ rfl ⟨rfl, rfl, (Nat.le_of_ble_eq_true rfl), (Nat.le_of_ble_eq_true rfl), (Nat.le_of_ble_eq_true rfl), (Nat.le_of_ble_eq_true rfl)⟩ (va_S.rf (A := fun _ => False)) (fun _ h => h.elim) trivial hl.1 (Nat.le_of_ble_eq_true rfl) dX14_divide_31) (fun v hv => ?_)
  subst hv
  refine W.eq (g2 := F0 m 34 ls [.int (nI 0)]) rfl ?_
  refine n_if_ne (tgt := 44) hx hb dX14_divide_34 (by decide) (by omega) (fun c_3 => absurd c_3 (by omega)) (fun c_3 => ?_)
  refine lv_lload_n hx hb dX14_divide_37 rfl (lv_at hl 2 rfl) ?_
  refine ct_callR (ct_runS (As := [.long (lN (bitsV W9))]) (rest := []) B (met_X14_isInfinite l E (bitsV W9) s.heap.size (by omega)) (lw_S q1257 q1258 q80 q1259) (n := 1) ⟨by decide, by decide, by decide +kernel⟩ rfl ⟨rfl, rfl, (Nat.le_of_ble_eq_true rfl), (Nat.le_of_ble_eq_true rfl), (Nat.le_of_ble_eq_true rfl), (Nat.le_of_ble_eq_true rfl)⟩ (va_S.rf (A := fun _ => False)) (fun _ h => h.elim) trivial hl.1 (Nat.le_of_ble_eq_true rfl) dX14_divide_38) (fun v hv => ?_)
  subst hv
  refine W.eq (g2 := F0 m 41 ls [.int (nI 0)]) rfl ?_
  refine n_if_eq (tgt := 47) hx hb dX14_divide_41 (by decide) (by omega) (fun c_4 => ?_) (fun c_4 => absurd c_4 (by omega))
  refine lv_lload_n hx hb dX14_divide_47 rfl (lv_at hl 1 rfl) ?_
  refine ct_callR (ct_runS (As := [.long (lN (bitsV V9))]) (rest := []) B (met_X14_significand l E (bitsV V9) s.heap.size (by omega) (by rw [hbV9.2.2.1]; omega)) (lw_S q1265 q1266 q80 q1267) (n := 1) ⟨by decide, by decide, by decide +kernel⟩ rfl ⟨rfl, rfl, (Nat.le_of_ble_eq_true rfl), (Nat.le_of_ble_eq_true rfl), (Nat.le_of_ble_eq_true rfl), (Nat.le_of_ble_eq_true rfl)⟩ (va_S.rf (A := fun _ => False)) (fun _ h => h.elim) trivial hl.1 (Nat.le_of_ble_eq_true rfl) dX14_divide_48) (fun v hv => ?_)
  subst hv
  refine W.eq (g2 := F0 m 51 ls [.long (lN ((bitsV V9) % 4503599627370496 + 4503599627370496))]) rfl ?_
  refine W.eq (g2 := F0 m 51 ls [.long (lN (sigV V9))]) (by rw [show bitsV V9 % 4503599627370496 + 4503599627370496 = sigV V9 from hbV9.2.2.2] <;> rfl) ?_
  refine lv_lstore (lv' := [(6, .long (lN (sigV V9))), (4, .long (lN 0)), (0, .long (lN (bitsV V9))), (2, .long (lN (bitsV W9)))]) hx hb dX14_divide_51 hl (by decide) rfl (fun ls hl => ?_)
  refine lv_lload_n hx hb dX14_divide_53 rfl (lv_at hl 3 rfl) ?_
  refine ct_callR (ct_runS (As := [.long (lN (bitsV W9))]) (rest := []) B (met_X14_significand l E (bitsV W9) s.heap.size (by omega) (by rw [hbW9.2.2.1]; omega)) (lw_S q1265 q1266 q80 q1267) (n := 1) ⟨by decide, by decide, by decide +kernel⟩ rfl ⟨rfl, rfl, (Nat.le_of_ble_eq_true rfl), (Nat.le_of_ble_eq_true rfl), (Nat.le_of_ble_eq_true rfl), (Nat.le_of_ble_eq_true rfl)⟩ (va_S.rf (A := fun _ => False)) (fun _ h => h.elim) trivial hl.1 (Nat.le_of_ble_eq_true rfl) dX14_divide_54) (fun v hv => ?_)
  subst hv
  refine W.eq (g2 := F0 m 57 ls [.long (lN ((bitsV W9) % 4503599627370496 + 4503599627370496))]) rfl ?_
  refine W.eq (g2 := F0 m 57 ls [.long (lN (sigV W9))]) (by rw [show bitsV W9 % 4503599627370496 + 4503599627370496 = sigV W9 from hbW9.2.2.2] <;> rfl) ?_
  refine lv_lstore (lv' := [(8, .long (lN (sigV W9))), (6, .long (lN (sigV V9))), (4, .long (lN 0)), (0, .long (lN (bitsV V9))), (2, .long (lN (bitsV W9)))]) hx hb dX14_divide_57 hl (by decide) rfl (fun ls hl => ?_)
  refine lv_lconst (v := lN 0) hx hb dX14_divide_59 (by decide) ?_
  refine lv_lstore (lv' := [(10, .long (lN 0)), (8, .long (lN (sigV W9))), (6, .long (lN (sigV V9))), (4, .long (lN 0)), (0, .long (lN (bitsV V9))), (2, .long (lN (bitsV W9)))]) hx hb dX14_divide_60 hl (by decide) rfl (fun ls hl => ?_)
  refine lv_iconst (v := nI 0) hx hb dX14_divide_62 (by decide) ?_
  refine lv_istore (lv' := [(12, .int (nI 0)), (10, .long (lN 0)), (8, .long (lN (sigV W9))), (6, .long (lN (sigV V9))), (4, .long (lN 0)), (0, .long (lN (bitsV V9))), (2, .long (lN (bitsV W9)))]) hx hb dX14_divide_63 hl (by decide) rfl (fun ls hl => ?_)
  refine ct_loop (σ := Nat × Nat × Nat) (fun (k, q, r) ls => lv_has ls 13 [(12, .int (nI k)), (10, .long (lN q)), (8, .long (lN (sigV W9))), (6, .long (lN r)), (4, .long (lN 0)), (0, .long (lN (bitsV V9))), (2, .long (lN (bitsV W9)))] ∧ (k ≤ 57) ∧ (q < 2 ^ k) ∧ (r < 2 * sigV W9) ∧ (sigV V9 * 2 ^ k = 2 * (sigV W9 * q) + r)) (fun (k, q, r) => 57 - k) (g := fun (k, q, r) ls => F0 m 65 ls []) (x0 := (0, 0, (sigV V9))) (ls0 := ls) ?_ ⟨lv_sub hl [0, 1, 2, 3, 4, 5, 6] rfl, by omega, by decide, by omega, by rw [Nat.pow_zero]; omega⟩
  clear hl
  intro x9 ls hI ih_5
  obtain ⟨k, q, r⟩ := x9
  obtain ⟨hl, hk, hq, hr, hcd⟩ := hI
  refine W.eq (g2 := F0 m 65 ls []) rfl ?_
  have hpw : 2 ^ k ≤ 144115188075855872 := by have := Nat.pow_le_pow_right (show 0 < 2 by decide) hk; rw [show (2 : Nat) ^ 57 = 144115188075855872 by decide] at this; exact this
  refine lv_iload hx hb dX14_divide_65 (lv_at hl 0 rfl) ?_
  refine lv_bipush (v := nI 57) hx hb dX14_divide_67 (by decide) ?_
  refine n_icmp_ge (tgt := 111) hx hb dX14_divide_69 (by decide) (by omega) (by omega) (fun cend => ?_) (fun cend => ?_)
  · obtain rfl : k = 57 := by omega
    rw [show (2 : Nat) ^ 57 = 144115188075855872 by decide] at hcd
    obtain ⟨hqe, hre⟩ := dv_exit (by omega) hcd hr
    have hqd : q = dvQ V9 W9 := hqe
    have hlq := lgq hV9.1 hV9.2 hW9.1 hW9.2
    rw [← hqd] at hlq
    refine lv_lload hx hb dX14_divide_111 (lv_at hl 4 rfl) ?_
    refine lv_lconst (v := lN 0) hx hb dX14_divide_113 (by decide) ?_
    refine m_if_eq (tgt := 122) hx hb dX14_divide_114 dX14_divide_115 (by decide) (by omega) (by omega) (fun c_6 => ?_) (fun c_6 => absurd c_6 (by omega))
    refine lv_iconst (v := nI 0) hx hb dX14_divide_122 (by decide) ?_
    refine lv_lload hx hb dX14_divide_123 (lv_at hl 1 rfl) ?_
    refine lv_lload_n hx hb dX14_divide_125 rfl (lv_at hl 5 rfl) ?_
    refine ct_callR (ct_runS (As := [.long (lN (bitsV V9))]) (rest := [.long (lN q), .int (nI 0)]) B (met_X14_exponent l E (bitsV V9) s.heap.size (by omega) (by rw [hbV9.2.2.1]; omega)) (lw_S q1271 q1272 q80 q1273) (n := 1) ⟨by decide, by decide, by decide +kernel⟩ rfl ⟨rfl, rfl, (Nat.le_of_ble_eq_true rfl), (Nat.le_of_ble_eq_true rfl), (Nat.le_of_ble_eq_true rfl), (Nat.le_of_ble_eq_true rfl)⟩ (va_S.rf (A := fun _ => False)) (fun _ h => h.elim) trivial hl.1 (Nat.le_of_ble_eq_true rfl) dX14_divide_126) (fun v hv => ?_)
    subst hv
    refine W.eq (g2 := F0 m 129 ls [.int (iZ ((((bitsV V9) / 4503599627370496 % 2048 : Nat) : Int) - 1075)), .long (lN q), .int (nI 0)]) rfl ?_
    refine W.eq (g2 := F0 m 129 ls [.int (iZ ((V9.log2 : Int) - 52)), .long (lN q), .int (nI 0)]) (by rw [show (((bitsV V9 / 4503599627370496 % 2048 : Nat) : Int) - 1075) = (V9.log2 : Int) - 52 by rw [hbV9.2.2.1]; omega] <;> rfl) ?_
    refine lv_lload_n hx hb dX14_divide_129 rfl (lv_at hl 6 rfl) ?_
    refine ct_callR (ct_runS (As := [.long (lN (bitsV W9))]) (rest := [.int (iZ ((V9.log2 : Int) - 52)), .long (lN q), .int (nI 0)]) B (met_X14_exponent l E (bitsV W9) s.heap.size (by omega) (by rw [hbW9.2.2.1]; omega)) (lw_S q1271 q1272 q80 q1273) (n := 1) ⟨by decide, by decide, by decide +kernel⟩ rfl ⟨rfl, rfl, (Nat.le_of_ble_eq_true rfl), (Nat.le_of_ble_eq_true rfl), (Nat.le_of_ble_eq_true rfl), (Nat.le_of_ble_eq_true rfl)⟩ (va_S.rf (A := fun _ => False)) (fun _ h => h.elim) trivial hl.1 (Nat.le_of_ble_eq_true rfl) dX14_divide_130) (fun v hv => ?_)
    subst hv
    refine W.eq (g2 := F0 m 133 ls [.int (iZ ((((bitsV W9) / 4503599627370496 % 2048 : Nat) : Int) - 1075)), .int (iZ ((V9.log2 : Int) - 52)), .long (lN q), .int (nI 0)]) rfl ?_
    refine W.eq (g2 := F0 m 133 ls [.int (iZ ((W9.log2 : Int) - 52)), .int (iZ ((V9.log2 : Int) - 52)), .long (lN q), .int (nI 0)]) (by rw [show (((bitsV W9 / 4503599627370496 % 2048 : Nat) : Int) - 1075) = (W9.log2 : Int) - 52 by rw [hbW9.2.2.1]; omega] <;> rfl) ?_
    refine lv_isub hx hb dX14_divide_133 ?_
    refine W.eq (g2 := F0 m 134 ls [.int (iZ ((V9.log2 : Int) - 52 - ((W9.log2 : Int) - 52))), .long (lN q), .int (nI 0)]) (by rw [iZ_sub]) ?_
    refine lv_bipush (v := nI 56) hx hb dX14_divide_134 (by decide) ?_
    refine lv_isub hx hb dX14_divide_136 ?_
    refine W.eq (g2 := F0 m 137 ls [.int (iZ ((V9.log2 : Int) - (W9.log2 : Int) - 56)), .long (lN q), .int (nI 0)]) (by rw [iZ_subn, show (V9.log2 : Int) - 52 - ((W9.log2 : Int) - 52) - ((56 : Nat) : Int) = (V9.log2 : Int) - (W9.log2 : Int) - 56 by omega]) ?_
    refine lv_lload hx hb dX14_divide_137 (lv_at hl 3 rfl) ?_
    refine lv_lconst (v := lN 0) hx hb dX14_divide_139 (by decide) ?_
    refine m_if_eq (tgt := 148) hx hb dX14_divide_140 dX14_divide_141 (by decide) (by omega) (by omega) (fun crz => ?_) (fun crz => ?_)
    · refine lv_iconst (v := nI 0) hx hb dX14_divide_148 (by decide) ?_
      refine ct_callR (ct_runS (As := [.int (nI 0), .long (lN q), .int (iZ ((V9.log2 : Int) - (W9.log2 : Int) - 56)), .int (nI 0)]) (rest := []) B (met_X14_made l E q (iZ ((V9.log2 : Int) - (W9.log2 : Int) - 56)) 0 ((V9.log2 : Int) - (W9.log2 : Int) - 56) s.heap.size ⟨hlq.1, hlq.2.1⟩ rfl (by omega) (by omega)) (lw_S q1245 q1246 q80 q1247) (n := 4) ⟨by decide, by decide, by decide +kernel⟩ rfl ⟨rfl, rfl, (Nat.le_of_ble_eq_true rfl), (Nat.le_of_ble_eq_true rfl), (Nat.le_of_ble_eq_true rfl), (Nat.le_of_ble_eq_true rfl)⟩ (va_S.rf (A := fun _ => False)) (fun _ h => h.elim) trivial hl.1 (Nat.le_of_ble_eq_true rfl) dX14_divide_149) (fun v hv => ?_)
      subst hv
      refine W.eq (g2 := F0 m 152 ls [.long (lN (rB q ((V9.log2 : Int) - (W9.log2 : Int) - 56) 0))]) rfl ?_
      exact ct_lretR (v := (lN (rB q ((V9.log2 : Int) - (W9.log2 : Int) - 56) 0))) B (by unfold divB dvR; rw [hqd, if_pos (hre.mp crz)]) dX14_divide_152
    · refine lv_iconst (v := nI 1) hx hb dX14_divide_144 (by decide) ?_
      refine lv_goto (tgt := 149) hx hb dX14_divide_145 (by decide) ?_
      refine ct_callR (ct_runS (As := [.int (nI 0), .long (lN q), .int (iZ ((V9.log2 : Int) - (W9.log2 : Int) - 56)), .int (nI 1)]) (rest := []) B (met_X14_made l E q (iZ ((V9.log2 : Int) - (W9.log2 : Int) - 56)) 1 ((V9.log2 : Int) - (W9.log2 : Int) - 56) s.heap.size ⟨hlq.1, hlq.2.1⟩ rfl (by omega) (by omega)) (lw_S q1245 q1246 q80 q1247) (n := 4) ⟨by decide, by decide, by decide +kernel⟩ rfl ⟨rfl, rfl, (Nat.le_of_ble_eq_true rfl), (Nat.le_of_ble_eq_true rfl), (Nat.le_of_ble_eq_true rfl), (Nat.le_of_ble_eq_true rfl)⟩ (va_S.rf (A := fun _ => False)) (fun _ h => h.elim) trivial hl.1 (Nat.le_of_ble_eq_true rfl) dX14_divide_149) (fun v hv => ?_)
      subst hv
      refine W.eq (g2 := F0 m 152 ls [.long (lN (rB q ((V9.log2 : Int) - (W9.log2 : Int) - 56) 1))]) rfl ?_
      exact ct_lretR (v := (lN (rB q ((V9.log2 : Int) - (W9.log2 : Int) - 56) 1))) B (by unfold divB dvR; rw [hqd, if_neg (fun z9 => crz (hre.mpr z9))]) dX14_divide_152
  · refine lv_lload hx hb dX14_divide_72 (lv_at hl 1 rfl) ?_
    refine lv_iconst (v := nI 1) hx hb dX14_divide_74 (by decide) ?_
    refine lv_lshl (v := (lN (q * 2))) hx hb dX14_divide_75 (bw_shl1 q) ?_
    refine lv_lstore (lv' := [(10, .long (lN (q * 2))), (12, .int (nI k)), (8, .long (lN (sigV W9))), (6, .long (lN r)), (4, .long (lN 0)), (0, .long (lN (bitsV V9))), (2, .long (lN (bitsV W9)))]) hx hb dX14_divide_76 hl (by decide) rfl (fun ls hl => ?_)
    refine lv_lload hx hb dX14_divide_78 (lv_at hl 3 rfl) ?_
    refine lv_lload hx hb dX14_divide_80 (lv_at hl 2 rfl) ?_
    refine m_if_lt (tgt := 99) hx hb dX14_divide_82 dX14_divide_83 (by decide) (by omega) (by omega) (fun crn => ?_) (fun crn => ?_)
    · refine lv_lload hx hb dX14_divide_99 (lv_at hl 3 rfl) ?_
      refine lv_iconst (v := nI 1) hx hb dX14_divide_101 (by decide) ?_
      refine lv_lshl (v := (lN (r * 2))) hx hb dX14_divide_102 (bw_shl1 r) ?_
      refine lv_lstore (lv' := [(6, .long (lN (r * 2))), (10, .long (lN (q * 2))), (12, .int (nI k)), (8, .long (lN (sigV W9))), (4, .long (lN 0)), (0, .long (lN (bitsV V9))), (2, .long (lN (bitsV W9)))]) hx hb dX14_divide_103 hl (by decide) rfl (fun ls hl => ?_)
      refine n_iinc (n := 1) (lv' := [(12, .int (nI (k + 1))), (6, .long (lN (r * 2))), (10, .long (lN (q * 2))), (8, .long (lN (sigV W9))), (4, .long (lN 0)), (0, .long (lN (bitsV V9))), (2, .long (lN (bitsV W9)))]) hx hb dX14_divide_105 hl (k := 2) rfl rfl (by decide) (by decide) rfl (fun ls hl => ?_)
      refine lv_goto (tgt := 65) hx hb dX14_divide_108 (by decide) ?_
      exact ih_5 ((k + 1), (q * 2), (r * 2)) ls (by dsimp only; omega) ⟨lv_sub hl [0, 2, 3, 1, 4, 5, 6] rfl, by omega, by rw [Nat.pow_succ]; omega, by omega, (dv_S hcd).2⟩
    · refine lv_lload hx hb dX14_divide_86 (lv_at hl 3 rfl) ?_
      refine lv_lload hx hb dX14_divide_88 (lv_at hl 2 rfl) ?_
      refine m_lsub hx hb (by omega) dX14_divide_90 ?_
      refine lv_lstore (lv' := [(6, .long (lN (r - (sigV W9)))), (10, .long (lN (q * 2))), (12, .int (nI k)), (8, .long (lN (sigV W9))), (4, .long (lN 0)), (0, .long (lN (bitsV V9))), (2, .long (lN (bitsV W9)))]) hx hb dX14_divide_91 hl (by decide) rfl (fun ls hl => ?_)
      refine lv_lload hx hb dX14_divide_93 (lv_at hl 1 rfl) ?_
      refine lv_lconst (v := lN 1) hx hb dX14_divide_95 (by decide) ?_
      refine lv_lor hx hb dX14_divide_96 ?_
      refine W.eq (g2 := F0 m 97 ls [.long (lN (q * 2 + 1))]) (by rw [bw_or1 (by omega)]) ?_
      refine lv_lstore (lv' := [(10, .long (lN (q * 2 + 1))), (6, .long (lN (r - (sigV W9)))), (12, .int (nI k)), (8, .long (lN (sigV W9))), (4, .long (lN 0)), (0, .long (lN (bitsV V9))), (2, .long (lN (bitsV W9)))]) hx hb dX14_divide_97 hl (by decide) rfl (fun ls hl => ?_)
      refine lv_lload hx hb dX14_divide_99 (lv_at hl 1 rfl) ?_
      refine lv_iconst (v := nI 1) hx hb dX14_divide_101 (by decide) ?_
      refine lv_lshl (v := (lN ((r - (sigV W9)) * 2))) hx hb dX14_divide_102 (bw_shl1 (r - (sigV W9))) ?_
      refine lv_lstore (lv' := [(6, .long (lN ((r - (sigV W9)) * 2))), (10, .long (lN (q * 2 + 1))), (12, .int (nI k)), (8, .long (lN (sigV W9))), (4, .long (lN 0)), (0, .long (lN (bitsV V9))), (2, .long (lN (bitsV W9)))]) hx hb dX14_divide_103 hl (by decide) rfl (fun ls hl => ?_)
      refine n_iinc (n := 1) (lv' := [(12, .int (nI (k + 1))), (6, .long (lN ((r - (sigV W9)) * 2))), (10, .long (lN (q * 2 + 1))), (8, .long (lN (sigV W9))), (4, .long (lN 0)), (0, .long (lN (bitsV V9))), (2, .long (lN (bitsV W9)))]) hx hb dX14_divide_105 hl (k := 2) rfl rfl (by decide) (by decide) rfl (fun ls hl => ?_)
      refine lv_goto (tgt := 65) hx hb dX14_divide_108 (by decide) ?_
      exact ih_5 ((k + 1), (q * 2 + 1), ((r - (sigV W9)) * 2)) ls (by dsimp only; omega) ⟨lv_sub hl [0, 2, 3, 1, 4, 5, 6] rfl, by omega, by rw [Nat.pow_succ]; omega, by omega, (dv_S hcd).1 (by omega)⟩
