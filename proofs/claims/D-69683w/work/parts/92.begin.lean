/-! THE START: what the Statement gives makes what is known all through a run -/
set_option maxRecDepth 100000
theorem st_arr {s : State} {args : Array Value} {ty : FieldType} (h : (Cond.arrayClass ty).before args s = true) (hp : ∀ cA, va_RA s cA ty = (s.vm.findClass ("[" ++ ty.toString) = some cA)) : ∃ cA : ClassId, ArrOfT s cA ty ∧ va_RA s cA ty := by
  obtain ⟨c, k, comp, h1, h2, h3⟩ := Cond.arrayClass_spec h
  exact ⟨c, fun n z => ⟨fun k h => (by cases h), k, h2, comp, h3⟩, by rw [hp]; exact h1⟩
theorem st_arq {s : State} {args : Array Value} {C : String} (h : (Cond.arrayOver (.object C)).before args s = true) : ∃ cA : ClassId, ArrOfT s cA (.object C) ∧ va_RA s cA (.object C) := by
  obtain ⟨comp, c, k, h1, -, h2, h3, h4⟩ := Cond.arrayOver_spec h
  exact ⟨c, fun n z => ⟨fun k h => (by cases h), k, h2, comp, h3⟩, k, comp, h2, h3, h1, h4⟩
/-- a constant String at the start -/
theorem st_str {s : State} {args : Array Value} {tm : Term} (t : List Nat) (h0 : t.length < 65536) (h128 : ∀ x ∈ t, x < 128) (hex : (Cond.exactly tm "java/lang/String").before args s = true) (hco : (Cond.eq (.field tm "java/lang/String" "coder" "B") (.int 0)).before args s = true) (har : (Cond.arrayOf (.field tm "java/lang/String" "value" "[B") .byte).before args s = true)
    (hle : (Cond.eq (.length (.field tm "java/lang/String" "value" "[B")) (.int (Int32.ofNat t.length))).before args s = true) (hel : ∀ j : Nat, j < t.length → (Cond.eq (.elem (.field tm "java/lang/String" "value" "[B") (.int (Int32.ofNat j))) (.int (nI (t.getD j 0)))).before args s = true) :
    ∃ (a : Nat) (cA : ClassId), tm.eval args s none [] s = some (.ref a) ∧ ArrOfT s cA .byte ∧ ∀ (E : CE) (j : Nat), u_Kn s RJ4 TJ4 4 (E.1.1 13) (E.1.2 13) → E.2.2.1 = s.heap.size → (j = 0 ∨ (6 ≤ j ∧ j ≤ 8)) → E.2.1 j = cA → ct_S E (fun q => E.2.2.1 ≤ q) s.heap a t := by
  have hA : ∀ a : Nat, a < s.heap.size → ¬ (fun q : Nat => s.heap.size ≤ q) a := fun a h => Nat.not_le.mpr h
  obtain ⟨a, c, cS, kA, q1, q2, q3, q4, q5, q6, -⟩ := Cond.exactly_spec (args := args) (first := s) (o := none) (s := s) (idx := []) (t := tm) (cls := "java/lang/String") hex
  obtain ⟨v, hv, cV, g1, g2, g3, g4, g5, g6, g7⟩ := va_Tof (f := fun j => .int (nI (t.getD j 0))) (A := fun q => s.heap.size ≤ q) (by omega) har (va_eqt hle) (fun j hj => va_eqt (hel j hj)) hA
  obtain ⟨cf1, k1, i1, f1, c1, a1, a2, a3, a4, a5, a6⟩ := vk_OFof (A := fun q => s.heap.size ≤ q) q1 (va_eqt hco) hA
  obtain ⟨cf2, k2, i2, f2, c2, b1, b2, b3, b4, b5, b6⟩ := vk_OFof (A := fun q => s.heap.size ≤ q) q1 hv hA
  cases q3.symm.trans a3
  cases q3.symm.trans b3
  refine ⟨a, cV.cls, q1, fun n z => ⟨fun k h => (by cases h), g2.2⟩, fun E j hK hz hj hc => ?_⟩
  obtain ⟨hsl, hfc, -⟩ := hK
  obtain ⟨x1, x2, x3, x4, y1, y2⟩ := hsl 0 (by decide)
  obtain ⟨z1, z2, z3, z4, w1, w2⟩ := hsl 1 (by decide)
  cases b1.symm.trans y1
  cases a1.symm.trans w1
  have hcS : cS.cls = E.1.1 13 := by
    have h9 : s.vm.findClass "java/lang/String" = some (E.1.1 13) := hfc
    rw [q6]; exact Option.some.inj (q2.symm.trans h9)
  refine ⟨v, cS, cV, j, q3, q5, a4, hcS, by rw [← y2]; exact b5, by rw [← w2]; exact a5, g1, g2.1, g3, hj, hc.symm, g4, g5, g6, h128, h0, ?_, ?_⟩
  · show ¬ E.2.2.1 ≤ a
    rw [hz]; exact a6
  · show ¬ E.2.2.1 ≤ v
    rw [hz]; exact g7
theorem st_Zr {s : State} {args : Array Value} {C n d : String} {A : Nat → Prop} (hl : (Cond.laysStatic C n d).before args s = true) (h : (Cond.isRef (.static C n d)).before args s = true) (hA : ∀ a : Nat, a < s.heap.size → ¬ A a) : ct_Zr C n d A s s.heap := by
  obtain ⟨c, k, i, f, a, cell, hc, hi, hst, ha, hcell, hs, hcls, hlt, hty⟩ := Cond.laysStatic_spec hl
  obtain ⟨u, hu⟩ := Cond.staticRefV hi hst ha hcell hs h
  exact ⟨c, k, i, f, a, cell, u, hc, hi, hst, ha, hcell, hs, hcls, hlt, hty, hu, hA a (Array.getElem?_eq_some_iff.mp hcell).1⟩
theorem st_eq {s : State} {args : Array Value} {t1 t2 : Term} {a : Nat} (h : (Cond.eq t1 t2).before args s = true) (h1 : t1.eval args s none [] s = some (.ref a)) : t2.eval args s none [] s = some (.ref a) := by
  cases hv : t2.eval args s none [] s with
  | none => simp [Cond.before, Cond.holds, Cond.value, h1, hv] at h
  | some w =>
    simp only [Cond.before, Cond.holds, Cond.value, h1, hv] at h
    cases w <;> simp_all
set_option maxHeartbeats 4000000 in
theorem ct_begin {s : State} {b : Nat} (hts : ∀ w ∈ lw_tbl, w.before #[Value.ref b] s = true) (hgv : (Jvm.Cond.and given_1 narrow_1).before #[Value.ref b] s = true) : ∃ E : CE, GK E s ∧ E.2.2.1 = s.heap.size := by
  have hf := flat_of_before _ hgv
  have hta : ∀ w ∈ lw_all, w.before #[Value.ref b] s = true := fun w h => hts w (List.mem_filter.mp h).1
  have hA : ∀ a : Nat, a < s.heap.size → ¬ (fun q : Nat => s.heap.size ≤ q) a := fun a h => Nat.not_le.mpr h
  obtain ⟨c0, iS0, hK0⟩ := u_known (C := RX0) (T := TX0) (N := 11) (n := 11) hta in_X0 (hta _ q82)
  obtain ⟨c1, iS1, hK1⟩ := u_known (C := RX1) (T := TX1) (N := 3) (n := 3) hta in_X1 (hta _ q90)
  obtain ⟨c2, iS2, hK2⟩ := u_known (C := RX2) (T := TX2) (N := 15) (n := 15) hta in_X2 (hta _ q170)
  obtain ⟨c3, iS3, hK3⟩ := u_known (C := RX3) (T := TX3) (N := 2) (n := 2) hta in_X3 (hta _ q176)
  obtain ⟨c4, iS4, hK4⟩ := u_known (C := RX4) (T := TX4) (N := 5) (n := 5) hta in_X4 (hta _ q193)
  obtain ⟨c5, iS5, hK5⟩ := u_known (C := RX5) (T := TX5) (N := 2) (n := 2) hta in_X5 (hta _ q263)
  obtain ⟨c6, iS6, hK6⟩ := u_known (C := RX6) (T := TX6) (N := 12) (n := 12) hta in_X6 (hta _ q694)
  obtain ⟨c7, iS7, hK7⟩ := u_known (C := RX7) (T := TX7) (N := 1) (n := 1) hta in_X7 (hta _ q700)
  obtain ⟨c8, iS8, hK8⟩ := u_known (C := RX8) (T := TX8) (N := 2) (n := 2) hta in_X8 (hta _ q713)
  obtain ⟨c9, iS9, hK9⟩ := u_known (C := RX9) (T := TX9) (N := 7) (n := 7) hta in_X9 (hta _ q386)
  obtain ⟨c10, iS10, hK10⟩ := u_known (C := RX10) (T := TX10) (N := 7) (n := 7) hta in_X10 (hta _ q791)
  obtain ⟨c11, iS11, hK11⟩ := u_known (C := RX11) (T := TX11) (N := 3) (n := 3) hta in_X11 (hta _ q797)
  obtain ⟨c12, iS12, hK12⟩ := u_known (C := RX12) (T := TX12) (N := 2) (n := 2) hta in_X12 (hta _ q1112)
  obtain ⟨c13, iS13, hK13⟩ := u_known (C := RJ4) (T := TJ4) (N := 4) (n := 4) hta in_J4 (hta _ q976)
  obtain ⟨c14, iS14, hK14⟩ := u_known (C := RJ10) (T := TJ10) (N := 3) (n := 3) hta in_J10 (hta _ q803)
  obtain ⟨c15, iS15, hK15⟩ := u_known (C := RJ12) (T := TJ12) (N := 4) (n := 4) hta in_J12 (hta _ q865)
  obtain ⟨c16, iS16, hK16⟩ := u_known (C := RJ3) (T := TJ3) (N := 6) (n := 6) hta in_J3 (hta _ q96)
  obtain ⟨r0, ha0, hb0⟩ := st_arr (hta _ q156) (fun _ => rfl)
  obtain ⟨r1, ha1, hb1⟩ := st_arr (hta _ q214) (fun _ => rfl)
  obtain ⟨r2, ha2, hb2⟩ := st_arr (hta _ q261) (fun _ => rfl)
  obtain ⟨r3, ha3, hb3⟩ := st_arq (hts _ q191)
  obtain ⟨r4, ha4, hb4⟩ := st_arq (hts _ q711)
  obtain ⟨r5, ha5, hb5⟩ := st_arq (hts _ q1103)
  obtain ⟨p0, v0, hp0, hv0, hs0⟩ := st_str (tm := .string "CommaTables$Tables" 165) tx_true (by decide) (by decide) (hf _ (by decide +kernel)) (hf _ (by decide +kernel)) (hf _ (by decide +kernel)) (hf _ (by decide +kernel)) (fun j hj => hf _ ((by decide +kernel : ∀ j, j < 4 → (Cond.eq (.elem (.field (.string "CommaTables$Tables" 165) "java/lang/String" "value" "[B") (.int (Int32.ofNat j))) (.int (nI (tx_true.getD j 0)))) ∈ flatC (Jvm.Cond.and given_1 narrow_1)) j hj))
  obtain ⟨p1, v1, hp1, hv1, hs1⟩ := st_str (tm := .string "CommaTables$Tables" 171) tx_false (by decide) (by decide) (hf _ (by decide +kernel)) (hf _ (by decide +kernel)) (hf _ (by decide +kernel)) (hf _ (by decide +kernel)) (fun j hj => hf _ ((by decide +kernel : ∀ j, j < 5 → (Cond.eq (.elem (.field (.string "CommaTables$Tables" 171) "java/lang/String" "value" "[B") (.int (Int32.ofNat j))) (.int (nI (tx_false.getD j 0)))) ∈ flatC (Jvm.Cond.and given_1 narrow_1)) j hj))
  obtain ⟨p2, v2, hp2, hv2, hs2⟩ := st_str (tm := .string "CommaTables$Tables" 186) tx_least (by decide) (by decide) (hf _ (by decide +kernel)) (hf _ (by decide +kernel)) (hf _ (by decide +kernel)) (hf _ (by decide +kernel)) (fun j hj => hf _ ((by decide +kernel : ∀ j, j < 19 → (Cond.eq (.elem (.field (.string "CommaTables$Tables" 186) "java/lang/String" "value" "[B") (.int (Int32.ofNat j))) (.int (nI (tx_least.getD j 0)))) ∈ flatC (Jvm.Cond.and given_1 narrow_1)) j hj))
  obtain ⟨t3, hd1, hd2⟩ := va_Tof (tm := .static "java/util/ArrayList" "DEFAULTCAPACITY_EMPTY_ELEMENTDATA" "[Ljava/lang/Object;") (ty := .object "java/lang/Object") (N := 0) (f := fun _ => .null) (A := fun q => s.heap.size ≤ q) (by decide) (hf _ (by decide +kernel)) (va_eqt (hf _ (by decide +kernel))) (fun j hj => absurd hj (Nat.not_lt_zero j)) hA
  obtain ⟨mi, hmi⟩ := va_Mi.of (hf (Cond.isRef (.mirror "[Ljava/lang/Object;")) (by decide +kernel))
  have hq0 := st_eq (t2 := .string "CommaTablesModel" 67) (hf _ (by decide +kernel)) hp0
  have hq1 := st_eq (t2 := .string "CommaTablesModel" 75) (hf _ (by decide +kernel)) hp1
  refine ⟨((fun k => [c0, c1, c2, c3, c4, c5, c6, c7, c8, c9, c10, c11, c12, c13, c14, c15, c16].getD k 0, fun k => [iS0, iS1, iS2, iS3, iS4, iS5, iS6, iS7, iS8, iS9, iS10, iS11, iS12, iS13, iS14, iS15, iS16].getD k (fun _ => 0)), fun k => [r0, r1, r2, r3, r4, r5, v0, v1, v2].getD k 0, s.heap.size, fun k => [p0, p1, p2, t3, mi].getD k 0), ⟨⟨?_, ?_⟩, ?_, Nat.le_refl _, ⟨?_, ?_, ⟨?_, hd2⟩, ?_, ?_, ?_, ?_, ?_⟩, ⟨?_, ?_, ?_, ?_, ?_, ?_, hmi⟩⟩, rfl⟩
  · intro k q hq
    match k, hq with
    | 0, hq => cases hq; exact hK0
    | 1, hq => cases hq; exact hK1
    | 2, hq => cases hq; exact hK2
    | 3, hq => cases hq; exact hK3
    | 4, hq => cases hq; exact hK4
    | 5, hq => cases hq; exact hK5
    | 6, hq => cases hq; exact hK6
    | 7, hq => cases hq; exact hK7
    | 8, hq => cases hq; exact hK8
    | 9, hq => cases hq; exact hK9
    | 10, hq => cases hq; exact hK10
    | 11, hq => cases hq; exact hK11
    | 12, hq => cases hq; exact hK12
    | 13, hq => cases hq; exact hK13
    | 14, hq => cases hq; exact hK14
    | 15, hq => cases hq; exact hK15
    | 16, hq => cases hq; exact hK16
    | k + 17, hq => simp [ct_cl] at hq
  · intro k q hq
    match k, hq with
    | 0, hq => cases hq; exact ⟨ha0, hb0⟩
    | 1, hq => cases hq; exact ⟨ha1, hb1⟩
    | 2, hq => cases hq; exact ⟨ha2, hb2⟩
    | 3, hq => cases hq; exact ⟨ha3, hb3⟩
    | 4, hq => cases hq; exact ⟨ha4, hb4⟩
    | 5, hq => cases hq; exact ⟨ha5, hb5⟩
    | k + 6, hq => simp [ct_tys] at hq
  · intro w hw
    have hb := hts w (ct_nw_tbl w hw)
    simp only [ct_nw, List.mem_cons, List.not_mem_nil, or_false] at hw
    rcases hw with hw | hw | hw | hw | hw | hw | hw | hw | hw | hw | hw | hw | hw | hw | hw | hw | hw | hw | hw | hw | hw | hw | hw | hw <;> subst hw <;> first | exact va_Nw.of rfl hb | exact va_AO.of hb
  · exact va_Zof (hts _ q474) (hta _ q58) (va_eqi (hf _ (by decide +kernel))) hA
  · exact va_Zqof (hts _ q490) (hta _ q60) (hf _ (by decide +kernel)) hA
  · exact va_Zref (hts _ q815) (hta _ q66) hd1 hA
  · exact st_Zr (hts _ q122) (hf _ (by decide +kernel)) hA
  · exact st_Zr (hts _ q124) (hf _ (by decide +kernel)) hA
  · exact hs0 _ 6 hK13 rfl (Or.inr ⟨by decide, by decide⟩) rfl
  · exact hs1 _ 7 hK13 rfl (Or.inr ⟨by decide, by decide⟩) rfl
  · exact hs2 _ 8 hK13 rfl (Or.inr ⟨by decide, by decide⟩) rfl
  · exact vk_R.of (hts _ q460) hp0
  · exact vk_R.of (hts _ q513) hp1
  · exact vk_R.of (hts _ q523) hp2
  · exact vk_R.of (hts _ q1180) hq0
  · exact vk_R.of (hts _ q1182) hq1
  · intro j h6 h8
    rcases (show j = 6 ∨ j = 7 ∨ j = 8 by omega) with rfl | rfl | rfl
    · exact hv0
    · exact hv1
    · exact hv2
