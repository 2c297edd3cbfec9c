/-! THE LAW: its loop, its start -/
set_option maxRecDepth 100000
theorem LI_b {E : CE} {A : Nat → Prop} {H0 : Heap} {k : Nat} {H : Heap} {locs : List Loc} {a0 b0 cells slots : Nat} (h : LI E A H0 k H locs a0 b0 cells slots) : va_S A H0 H locs ∧ cells ≤ 100 + 1500 * k ∧ slots ≤ 300000 + 30000 * k := by
  refine LI_elim h ?_
  intro ad tray trayed fed place picked pcnt column ob on db dn code splace made all wn wb txt size at_ means meant starts lens cnt cols places other row lane fall ranks fs b1 b2 b3 b4 b5 b6 b7 b8 tp tabs tcn wby pkf pcn rob ron rdb rdn im ts pk o ha0 h hTB hpk hmpk ho hro hmt hby hnum hb9 him9 hO hce hsl
  exact ⟨h.2.2, by omega, by omega⟩
set_option maxHeartbeats 4000000 in
theorem law_loop {p : Program} {l : Launch} {e : Env} {s : State} {m : MethodId} {below : List Frame} {meth : Method} {c : Code} {E : CE} {A : Nat → Prop} {b L : Nat} {xs : Nat → Int32} {nm : String} (B : cx p s m #[Value.ref b] meth c cL_law "CommaTablesLaw" 4 ret nm E) (htr : l.stackTraces = false) (hX : va_X b L xs s s.heap) (hbl : b < s.heap.size) (hbA : ¬ A b) (hA : ∀ q, A q → E.2.2.1 ≤ q) (hz0 : E.2.2.1 = s.heap.size) (hAn : ∀ q, s.heap.size ≤ q → A q) (hL : L ≤ 384) :
    ∀ (n k : Nat), k + n = 65 → ∀ (H : Heap) (locs : List Loc) (cells slots a0 b0 : Nat) (ls : Array Slot), lv_has ls 4 [(3, .int (nI (6 * k))), (2, .ref b0), (1, .ref a0), (0, .ref b)] → LI E A s.heap k H locs a0 b0 cells slots → W p l e room_1 s m #[Value.ref b] below meth c H locs cells slots (lw_Z below #[Value.ref b] s) (F0 m 18 ls []) := by
  have hx := B.1
  have hb := B.2.1
  intro n
  induction n with
  | zero =>
    intro k hk H locs cells slots a0 b0 ls hl hI
    obtain ⟨hS, hce, hsl⟩ := LI_b hI
    refine lv_iload_n hx hb dL_law_18 rfl (lv_at hl 0 rfl) ?_
    refine lv_aload_n hx hb dL_law_19 rfl (lv_at hl 3 rfl) ?_
    refine va_slen hx hb hX hbl hbA hS dL_law_20 ?_
    refine lv_bipush (v := nI 6) hx hb dL_law_21 (by decide) ?_
    refine lv_isub hx hb dL_law_23 ?_
    refine lv_icmp_gt (tgt := 607) hx hb dL_law_24 (by decide) (fun c1 => ?_) (fun c1 => ?_)
    · refine lv_iconst (v := 1) hx hb dL_law_607 (by decide) ?_
      refine va_forget (fun q hq => by have := hA _ (hS.2.2 q hq); omega) ?_
      refine W.widen (k := 601024) (n := 7293034) (by omega) (by omega) ?_
      exact lw_ret hx hb B.2.2.2.2.1 B.2.2.2.2.2.1 dL_law_608
    · have := (not_congr (law_gt (by omega) (by omega))).mp c1
      omega
  | succ n ih =>
    intro k hk H locs cells slots a0 b0 ls hl hI
    obtain ⟨hS, hce, hsl⟩ := LI_b hI
    refine lv_iload_n hx hb dL_law_18 rfl (lv_at hl 0 rfl) ?_
    refine lv_aload_n hx hb dL_law_19 rfl (lv_at hl 3 rfl) ?_
    refine va_slen hx hb hX hbl hbA hS dL_law_20 ?_
    refine lv_bipush (v := nI 6) hx hb dL_law_21 (by decide) ?_
    refine lv_isub hx hb dL_law_23 ?_
    refine lv_icmp_gt (tgt := 607) hx hb dL_law_24 (by decide) (fun c1 => ?_) (fun c1 => ?_)
    · refine lv_iconst (v := 1) hx hb dL_law_607 (by decide) ?_
      refine va_forget (fun q hq => by have := hA _ (hS.2.2 q hq); omega) ?_
      refine W.widen (k := 601024) (n := 7293034) (by omega) (by omega) ?_
      exact lw_ret hx hb B.2.2.2.2.1 B.2.2.2.2.2.1 dL_law_608
    · have hk6 : 6 * k + 6 ≤ L := by have := (not_congr (law_gt (L := L) (i := 6 * k) (by omega) (by omega))).mp c1; omega
      have kk : ∀ (H : Heap) (locs : List Loc) (cells slots : Nat), LI E A s.heap (k + 1) H locs a0 b0 cells slots → W p l e room_1 s m #[Value.ref b] below meth c H locs cells slots (lw_Z below #[Value.ref b] s) (F0 m 601 ls []) := by
        intro H locs cells slots hI
        refine n_iinc (n := 6) (lv' := [(3, .int (nI (6 * k + 6))), (2, .ref b0), (1, .ref a0), (0, .ref b)]) hx hb dL_law_601 hl (k := 0) rfl rfl (by decide) (by decide) rfl (fun ls hl => ?_)
        refine lv_goto (tgt := 18) hx hb dL_law_604 (by decide) ?_
        exact ih (k + 1) (by omega) H locs cells slots a0 b0 ls hl hI
      refine lv_aload_n hx hb dL_law_27 rfl (lv_at hl 3 rfl) ?_
      refine lv_iload_n hx hb dL_law_28 rfl (lv_at hl 0 rfl) ?_
      refine va_sld hx hb hX hbl hbA hS (vp_in_nI (show 6 * k < L by omega) (by omega)) dL_law_29 ?_
      refine lv_bipush (v := nI 15) hx hb dL_law_30 (by decide) ?_
      refine lv_iand hx hb dL_law_32 ?_
      obtain ⟨n9, hn9, e9⟩ := law_15 (xs (nI (6 * k)).toNatClampNeg)
      refine W.eq (g2 := F0 m 33 ls [.int (nI n9)]) (by rw [e9]) ?_
      rcases n9 with _ | _ | _ | _ | _ | _ | _ | _ | _ | _ | _ | _ | _ | _ | _ | _ | n9
      · refine lv_tableIn (off := 79) (tgt := 112) hx hb dL_law_33 (by decide) (by decide) (by decide) (by decide) ?_
        exact law_c0 B htr hX hbl hbA hA hAn hk6 hL hl hI kk
      · refine lv_tableIn (off := 142) (tgt := 175) hx hb dL_law_33 (by decide) (by decide) (by decide) (by decide) ?_
        exact law_c1 B htr hX hbl hbA hA hAn hk6 hL hl hI kk
      · refine lv_tableIn (off := 165) (tgt := 198) hx hb dL_law_33 (by decide) (by decide) (by decide) (by decide) ?_
        exact law_c2 B htr hX hbl hbA hA hAn hk6 hL hl hI kk
      · refine lv_tableIn (off := 178) (tgt := 211) hx hb dL_law_33 (by decide) (by decide) (by decide) (by decide) ?_
        exact law_c3 B htr hX hbl hbA hA hAn hk6 hL hl hI kk
      · refine lv_tableIn (off := 191) (tgt := 224) hx hb dL_law_33 (by decide) (by decide) (by decide) (by decide) ?_
        exact law_c4 B htr hX hbl hbA hA hAn hk6 hL hl hI kk
      · refine lv_tableIn (off := 214) (tgt := 247) hx hb dL_law_33 (by decide) (by decide) (by decide) (by decide) ?_
        exact law_c5 B htr hX hbl hbA hA hAn hk6 hL hl hI kk
      · refine lv_tableIn (off := 237) (tgt := 270) hx hb dL_law_33 (by decide) (by decide) (by decide) (by decide) ?_
        exact law_c6 B htr hX hbl hbA hA hAn hk6 hL hl hI kk
      · refine lv_tableIn (off := 260) (tgt := 293) hx hb dL_law_33 (by decide) (by decide) (by decide) (by decide) ?_
        exact law_c7 B htr hX hbl hbA hA hAn hk6 hL hl hI kk
      · refine lv_tableIn (off := 293) (tgt := 326) hx hb dL_law_33 (by decide) (by decide) (by decide) (by decide) ?_
        exact law_c8 B htr hX hbl hbA hA hAn hk6 hL hl hI kk
      · refine lv_tableIn (off := 337) (tgt := 370) hx hb dL_law_33 (by decide) (by decide) (by decide) (by decide) ?_
        exact law_c9 B htr hX hbl hbA hA hAn hk6 hL hl hI kk
      · refine lv_tableIn (off := 380) (tgt := 413) hx hb dL_law_33 (by decide) (by decide) (by decide) (by decide) ?_
        exact law_c10 B htr hX hbl hbA hA hAn hk6 hL hl hI kk
      · refine lv_tableIn (off := 423) (tgt := 456) hx hb dL_law_33 (by decide) (by decide) (by decide) (by decide) ?_
        exact law_c11 B htr hX hbl hbA hA hAn hk6 hL hl hI kk
      · refine lv_tableIn (off := 476) (tgt := 509) hx hb dL_law_33 (by decide) (by decide) (by decide) (by decide) ?_
        exact law_c12 B htr hX hbl hbA hA hAn hk6 hL hl hI kk
      · refine lv_tableIn (off := 499) (tgt := 532) hx hb dL_law_33 (by decide) (by decide) (by decide) (by decide) ?_
        exact law_c13 B htr hX hbl hbA hA hAn hk6 hL hl hI kk
      · refine lv_tableIn (off := 522) (tgt := 555) hx hb dL_law_33 (by decide) (by decide) (by decide) (by decide) ?_
        exact law_c14 B htr hX hbl hbA hA hAn hk6 hL hl hI kk
      · refine lv_tableIn (off := 545) (tgt := 578) hx hb dL_law_33 (by decide) (by decide) (by decide) (by decide) ?_
        exact law_c15 B htr hX hbl hbA hA hAn hk6 hL hl hI kk
      · omega
set_option maxHeartbeats 4000000 in
/-- the law, from its entry -/
theorem whole_start {p : Program} {e : Env} {s : State} {m : MethodId} {below : List Frame} {meth : Method} {c : Code} (l : Launch) (htr : l.stackTraces = false) {b L : Nat} {xs : Nat → Int32} (hL : L ≤ 384) (C0 : lw_At p s m meth c b L xs) : W p l e room_1 s m #[Value.ref b] below meth c s.heap [] 0 0 (lw_Z below #[Value.ref b] s) (entryFrame m ([Value.ref b] : List Value).toArray 4) := by
  obtain ⟨hx, hb, hr, hml, hown, hts, hX, hbl, hlocks, hgv⟩ := id C0
  obtain ⟨E, hG, hz0⟩ := ct_begin hts hgv
  have B : cx p s m #[Value.ref b] meth c cL_law "CommaTablesLaw" 4 ret meth.name E := ⟨hx, hb, hown, fun w h => hts w (List.mem_filter.mp h).1, hr, hlocks, hml, rfl, hG⟩
  obtain ⟨A, hAe⟩ : ∃ A : Nat → Prop, A = fun q => s.heap.size ≤ q := ⟨_, rfl⟩
  have hA : ∀ q, A q → E.2.2.1 ≤ q := fun q h => by rw [hAe] at h; rw [hz0]; exact h
  have hAn : ∀ q, s.heap.size ≤ q → A q := fun q h => by rw [hAe]; exact h
  have hbA : ¬ A b := fun h => by rw [hAe] at h; exact absurd hbl (Nat.not_lt.mpr h)
  have hl := lv_entry ([.ref b]) (n := 4) (Nat.le_of_ble_eq_true rfl)
  rw [lg_entry_eq]
  generalize (lg_sl ([.ref b]) ++ List.replicate (4 - (lg_sl ([.ref b])).length) Slot.unset).toArray = ls at hl ⊢
  have hl : lv_has ls 4 [(0, .ref b)] := hl
  have h : Hs E A s.heap ([] : va_W) s.heap [] := ⟨fun k q h => by simp at h, ⟨fun i j p q h => by simp at h, fun k q h => by simp at h⟩, va_S.rf⟩
  refine ct_gen h (fun H locs h => ?_)
  refine ct_new (fs := [.null, .int 0, .int 0, .null, .null, .int 0, .null, .int 0, .null, .null, .null]) B h hAn kX0 q81 q82 q44 (by intro j9 hj9; rcases j9 with _ | _ | _ | _ | _ | _ | _ | _ | _ | _ | _ | j9 <;> first | rfl | omega) (by show _ ≤ 601024; omega) (by show _ ≤ 7293034; omega) dL_law_0 (fun q0_ H h hq0_ => ?_)
  have h : Hs E A s.heap ([(q0_, .inr (0, [.null, .int 0, .int 0, .null, .null, .int 0, .null, .int 0, .null, .null, .null]))] ++ ([])) H locs := ct_Hc h
  have h : Hs E A s.heap ([(q0_, .inr (0, [.null, .int 0, .int 0, .null, .null, .int 0, .null, .int 0, .null, .null, .null]))]) H locs := h
  refine lv_dup hx hb dL_law_3 rfl ?_
  have h : Hs E A s.heap ([(q0_, .inr (0, [.null, .int 0, .int 0, .null, .null, .int 0, .null, .int 0, .null, .null, .null]))] ++ ([])) H locs := h
  refine ct_callQ (ct_runI (b := q0_) (As := []) (rest := [.ref q0_]) B (met_X0_init l E q0_ H.size htr) q85 q44 q83 q84 rfl (n := 0) ⟨by decide, by decide, by decide +kernel⟩ rfl ⟨rfl, rfl, (Nat.le_of_ble_eq_true rfl), (Nat.le_of_ble_eq_true rfl), (by show _ ≤ 601024; omega), (by show _ ≤ 7293034; omega)⟩ h.2.2 hA ⟨(ct_Pl h.1), (ct_Dl (ct_D0 h hA))⟩ hl.1 (Nat.le_of_ble_eq_true rfl) dL_law_4) h.2.2 (ct_subL h hAn) (ct_subL h hAn) (fun v H locs hv hz hk hS => ?_)
  obtain ⟨q1_, q2_, q3_, q4_, q5_, q6_, q7_, q8_, q9_, q10_, q11_, q12_, q13_, q14_, q15_, q16_, q17_, q18_, q19_, q20_, fs_, rfl, hP1, hD1⟩ := hv
  have h : Hs E A s.heap ([(q0_, .inr (0, [.ref q1_, .int (nI 0), .int (nI 0), .ref q2_, .ref q3_, .int (-1), .ref q14_, .int (nI 0), .ref q15_, .ref q16_, .ref q18_])), (q1_, .inl (E.2.1 0, 16000, .inl (fun _ => 0))), (q2_, .inr (1, [.ref q20_, .int 0, .int 0])), (q3_, .inr (2, [.ref q2_, .ref q4_, .ref q6_, .int (nI 0), .null, .int (nI 0), .int (nI 0), .ref q7_, .int (nI 0), .ref q8_, .ref q9_, .int (nI 0), .int (nI 0), .ref q10_, .ref q13_])), (q4_, .inr (3, [.ref q5_, .int (nI 0)])), (q5_, .inl (E.2.1 0, 65536, .inl (fun _ => 0))), (q6_, .inl (E.2.1 3, 41, .inr (.inr (.inr (.inr (fun _ => none)))))), (q7_, .inl (E.2.1 0, 16000, .inl (fun _ => 0))), (q8_, .inl (E.2.1 1, 8000, .inl (fun _ => 0))), (q9_, .inl (E.2.1 0, 8000, .inl (fun _ => 0))), (q10_, .inr (4, [.ref q11_, .ref q12_, .null, .int 0, .int 0])), (q11_, .inl (E.2.1 1, 4096, .inl (fun _ => 0))), (q12_, .inl (E.2.1 1, 4096, .inl (fun _ => 0))), (q13_, .inl (E.2.1 2, 500, .inr (.inl (fun _ => 0)))), (q14_, .inl (E.2.1 2, 500, .inr (.inl (fun _ => 0)))), (q15_, .inl (E.2.1 2, 500, .inr (.inl (fun _ => 0)))), (q16_, .inr (5, [.ref q17_, .int (nI 0)])), (q17_, .inl (E.2.1 0, 30000, .inl (fun _ => 0))), (q18_, .inr (5, [.ref q19_, .int (nI 0)])), (q19_, .inl (E.2.1 0, 30000, .inl (fun _ => 0))), (q20_, .inr (16, fs_))] ++ ([])) H locs := ct_frL h hP1 hD1 hk hS hAn
  have h : Hs E A s.heap ([(q0_, .inr (0, [.ref q1_, .int (nI 0), .int (nI 0), .ref q2_, .ref q3_, .int (-1), .ref q14_, .int (nI 0), .ref q15_, .ref q16_, .ref q18_])), (q1_, .inl (E.2.1 0, 16000, .inl (fun _ => 0))), (q2_, .inr (1, [.ref q20_, .int 0, .int 0])), (q3_, .inr (2, [.ref q2_, .ref q4_, .ref q6_, .int (nI 0), .null, .int (nI 0), .int (nI 0), .ref q7_, .int (nI 0), .ref q8_, .ref q9_, .int (nI 0), .int (nI 0), .ref q10_, .ref q13_])), (q4_, .inr (3, [.ref q5_, .int (nI 0)])), (q5_, .inl (E.2.1 0, 65536, .inl (fun _ => 0))), (q6_, .inl (E.2.1 3, 41, .inr (.inr (.inr (.inr (fun _ => none)))))), (q7_, .inl (E.2.1 0, 16000, .inl (fun _ => 0))), (q8_, .inl (E.2.1 1, 8000, .inl (fun _ => 0))), (q9_, .inl (E.2.1 0, 8000, .inl (fun _ => 0))), (q10_, .inr (4, [.ref q11_, .ref q12_, .null, .int 0, .int 0])), (q11_, .inl (E.2.1 1, 4096, .inl (fun _ => 0))), (q12_, .inl (E.2.1 1, 4096, .inl (fun _ => 0))), (q13_, .inl (E.2.1 2, 500, .inr (.inl (fun _ => 0)))), (q14_, .inl (E.2.1 2, 500, .inr (.inl (fun _ => 0)))), (q15_, .inl (E.2.1 2, 500, .inr (.inl (fun _ => 0)))), (q16_, .inr (5, [.ref q17_, .int (nI 0)])), (q17_, .inl (E.2.1 0, 30000, .inl (fun _ => 0))), (q18_, .inr (5, [.ref q19_, .int (nI 0)])), (q19_, .inl (E.2.1 0, 30000, .inl (fun _ => 0))), (q20_, .inr (16, fs_))]) H locs := h
  clear hP1 hD1 hS hz hk
  refine W.eq (g2 := F0 m 7 ls [.ref q0_]) rfl ?_
  refine lv_astore_n (lv' := [(1, .ref q0_), (0, .ref b)]) hx hb dL_law_7 rfl hl (by decide) rfl (fun ls hl => ?_)
  refine ct_new (fs := [.null, .int 0, .int 0, .int 0, .null, .null, .int 0, .int 0, .null, .int 0, .null, .null]) B h hAn kX6 q693 q694 q54 (by intro j9 hj9; rcases j9 with _ | _ | _ | _ | _ | _ | _ | _ | _ | _ | _ | _ | j9 <;> first | rfl | omega) (by show _ ≤ 601024; omega) (by show _ ≤ 7293034; omega) dL_law_8 (fun b0 H h hb0 => ?_)
  have h : Hs E A s.heap ([(b0, .inr (6, [.null, .int 0, .int 0, .int 0, .null, .null, .int 0, .int 0, .null, .int 0, .null, .null]))] ++ ([(q0_, .inr (0, [.ref q1_, .int (nI 0), .int (nI 0), .ref q2_, .ref q3_, .int (-1), .ref q14_, .int (nI 0), .ref q15_, .ref q16_, .ref q18_])), (q1_, .inl (E.2.1 0, 16000, .inl (fun _ => 0))), (q2_, .inr (1, [.ref q20_, .int 0, .int 0])), (q3_, .inr (2, [.ref q2_, .ref q4_, .ref q6_, .int (nI 0), .null, .int (nI 0), .int (nI 0), .ref q7_, .int (nI 0), .ref q8_, .ref q9_, .int (nI 0), .int (nI 0), .ref q10_, .ref q13_])), (q4_, .inr (3, [.ref q5_, .int (nI 0)])), (q5_, .inl (E.2.1 0, 65536, .inl (fun _ => 0))), (q6_, .inl (E.2.1 3, 41, .inr (.inr (.inr (.inr (fun _ => none)))))), (q7_, .inl (E.2.1 0, 16000, .inl (fun _ => 0))), (q8_, .inl (E.2.1 1, 8000, .inl (fun _ => 0))), (q9_, .inl (E.2.1 0, 8000, .inl (fun _ => 0))), (q10_, .inr (4, [.ref q11_, .ref q12_, .null, .int 0, .int 0])), (q11_, .inl (E.2.1 1, 4096, .inl (fun _ => 0))), (q12_, .inl (E.2.1 1, 4096, .inl (fun _ => 0))), (q13_, .inl (E.2.1 2, 500, .inr (.inl (fun _ => 0)))), (q14_, .inl (E.2.1 2, 500, .inr (.inl (fun _ => 0)))), (q15_, .inl (E.2.1 2, 500, .inr (.inl (fun _ => 0)))), (q16_, .inr (5, [.ref q17_, .int (nI 0)])), (q17_, .inl (E.2.1 0, 30000, .inl (fun _ => 0))), (q18_, .inr (5, [.ref q19_, .int (nI 0)])), (q19_, .inl (E.2.1 0, 30000, .inl (fun _ => 0))), (q20_, .inr (16, fs_))])) H locs := ct_Hc h
  have h : Hs E A s.heap ([(b0, .inr (6, [.null, .int 0, .int 0, .int 0, .null, .null, .int 0, .int 0, .null, .int 0, .null, .null])), (q0_, .inr (0, [.ref q1_, .int (nI 0), .int (nI 0), .ref q2_, .ref q3_, .int (-1), .ref q14_, .int (nI 0), .ref q15_, .ref q16_, .ref q18_])), (q1_, .inl (E.2.1 0, 16000, .inl (fun _ => 0))), (q2_, .inr (1, [.ref q20_, .int 0, .int 0])), (q3_, .inr (2, [.ref q2_, .ref q4_, .ref q6_, .int (nI 0), .null, .int (nI 0), .int (nI 0), .ref q7_, .int (nI 0), .ref q8_, .ref q9_, .int (nI 0), .int (nI 0), .ref q10_, .ref q13_])), (q4_, .inr (3, [.ref q5_, .int (nI 0)])), (q5_, .inl (E.2.1 0, 65536, .inl (fun _ => 0))), (q6_, .inl (E.2.1 3, 41, .inr (.inr (.inr (.inr (fun _ => none)))))), (q7_, .inl (E.2.1 0, 16000, .inl (fun _ => 0))), (q8_, .inl (E.2.1 1, 8000, .inl (fun _ => 0))), (q9_, .inl (E.2.1 0, 8000, .inl (fun _ => 0))), (q10_, .inr (4, [.ref q11_, .ref q12_, .null, .int 0, .int 0])), (q11_, .inl (E.2.1 1, 4096, .inl (fun _ => 0))), (q12_, .inl (E.2.1 1, 4096, .inl (fun _ => 0))), (q13_, .inl (E.2.1 2, 500, .inr (.inl (fun _ => 0)))), (q14_, .inl (E.2.1 2, 500, .inr (.inl (fun _ => 0)))), (q15_, .inl (E.2.1 2, 500, .inr (.inl (fun _ => 0)))), (q16_, .inr (5, [.ref q17_, .int (nI 0)])), (q17_, .inl (E.2.1 0, 30000, .inl (fun _ => 0))), (q18_, .inr (5, [.ref q19_, .int (nI 0)])), (q19_, .inl (E.2.1 0, 30000, .inl (fun _ => 0))), (q20_, .inr (16, fs_))]) H locs := h
  refine lv_dup hx hb dL_law_11 rfl ?_
  have h : Hs E A s.heap ([(b0, .inr (6, [.null, .int 0, .int 0, .int 0, .null, .null, .int 0, .int 0, .null, .int 0, .null, .null]))] ++ ([(q0_, .inr (0, [.ref q1_, .int (nI 0), .int (nI 0), .ref q2_, .ref q3_, .int (-1), .ref q14_, .int (nI 0), .ref q15_, .ref q16_, .ref q18_])), (q1_, .inl (E.2.1 0, 16000, .inl (fun _ => 0))), (q2_, .inr (1, [.ref q20_, .int 0, .int 0])), (q3_, .inr (2, [.ref q2_, .ref q4_, .ref q6_, .int (nI 0), .null, .int (nI 0), .int (nI 0), .ref q7_, .int (nI 0), .ref q8_, .ref q9_, .int (nI 0), .int (nI 0), .ref q10_, .ref q13_])), (q4_, .inr (3, [.ref q5_, .int (nI 0)])), (q5_, .inl (E.2.1 0, 65536, .inl (fun _ => 0))), (q6_, .inl (E.2.1 3, 41, .inr (.inr (.inr (.inr (fun _ => none)))))), (q7_, .inl (E.2.1 0, 16000, .inl (fun _ => 0))), (q8_, .inl (E.2.1 1, 8000, .inl (fun _ => 0))), (q9_, .inl (E.2.1 0, 8000, .inl (fun _ => 0))), (q10_, .inr (4, [.ref q11_, .ref q12_, .null, .int 0, .int 0])), (q11_, .inl (E.2.1 1, 4096, .inl (fun _ => 0))), (q12_, .inl (E.2.1 1, 4096, .inl (fun _ => 0))), (q13_, .inl (E.2.1 2, 500, .inr (.inl (fun _ => 0)))), (q14_, .inl (E.2.1 2, 500, .inr (.inl (fun _ => 0)))), (q15_, .inl (E.2.1 2, 500, .inr (.inl (fun _ => 0)))), (q16_, .inr (5, [.ref q17_, .int (nI 0)])), (q17_, .inl (E.2.1 0, 30000, .inl (fun _ => 0))), (q18_, .inr (5, [.ref q19_, .int (nI 0)])), (q19_, .inl (E.2.1 0, 30000, .inl (fun _ => 0))), (q20_, .inr (16, fs_))])) H locs := h
  refine ct_callQ (ct_runI (b := b0) (As := []) (rest := [.ref b0]) B (met_X6_init l E b0 H.size) q697 q54 q695 q696 rfl (n := 0) ⟨by decide, by decide, by decide +kernel⟩ rfl ⟨rfl, rfl, (Nat.le_of_ble_eq_true rfl), (Nat.le_of_ble_eq_true rfl), (by show _ ≤ 601024; omega), (by show _ ≤ 7293034; omega)⟩ h.2.2 hA ⟨(ct_Pl h.1), (ct_Dl (ct_D0 h hA))⟩ hl.1 (Nat.le_of_ble_eq_true rfl) dL_law_12) h.2.2 (ct_subL h hAn) (ct_subL h hAn) (fun v H locs hv hz hk hS => ?_)
  obtain ⟨b1, b2, b3, b4, b5, b6, b7, b8, rfl, hP1, hD1⟩ := hv
  have h : Hs E A s.heap ([(b0, .inr (6, [.ref b1, .int (nI 0), .int (nI 0), .int (-1), .ref b2, .ref b3, .int (nI 0), .int (nI 0), .ref b4, .int (nI 0), .ref b5, .ref b7])), (b1, .inl (E.2.1 0, 16000, .inl (fun _ => 0))), (b2, .inr (7, [.int 0])), (b3, .inl (E.2.1 4, 41, .inr (.inr (.inr (.inr (fun _ => none)))))), (b4, .inl (E.2.1 1, 499, .inl (fun _ => 0))), (b5, .inr (8, [.ref b6, .int (nI 0)])), (b6, .inl (E.2.1 0, 30000, .inl (fun _ => 0))), (b7, .inr (8, [.ref b8, .int (nI 0)])), (b8, .inl (E.2.1 0, 30000, .inl (fun _ => 0)))] ++ ([(q0_, .inr (0, [.ref q1_, .int (nI 0), .int (nI 0), .ref q2_, .ref q3_, .int (-1), .ref q14_, .int (nI 0), .ref q15_, .ref q16_, .ref q18_])), (q1_, .inl (E.2.1 0, 16000, .inl (fun _ => 0))), (q2_, .inr (1, [.ref q20_, .int 0, .int 0])), (q3_, .inr (2, [.ref q2_, .ref q4_, .ref q6_, .int (nI 0), .null, .int (nI 0), .int (nI 0), .ref q7_, .int (nI 0), .ref q8_, .ref q9_, .int (nI 0), .int (nI 0), .ref q10_, .ref q13_])), (q4_, .inr (3, [.ref q5_, .int (nI 0)])), (q5_, .inl (E.2.1 0, 65536, .inl (fun _ => 0))), (q6_, .inl (E.2.1 3, 41, .inr (.inr (.inr (.inr (fun _ => none)))))), (q7_, .inl (E.2.1 0, 16000, .inl (fun _ => 0))), (q8_, .inl (E.2.1 1, 8000, .inl (fun _ => 0))), (q9_, .inl (E.2.1 0, 8000, .inl (fun _ => 0))), (q10_, .inr (4, [.ref q11_, .ref q12_, .null, .int 0, .int 0])), (q11_, .inl (E.2.1 1, 4096, .inl (fun _ => 0))), (q12_, .inl (E.2.1 1, 4096, .inl (fun _ => 0))), (q13_, .inl (E.2.1 2, 500, .inr (.inl (fun _ => 0)))), (q14_, .inl (E.2.1 2, 500, .inr (.inl (fun _ => 0)))), (q15_, .inl (E.2.1 2, 500, .inr (.inl (fun _ => 0)))), (q16_, .inr (5, [.ref q17_, .int (nI 0)])), (q17_, .inl (E.2.1 0, 30000, .inl (fun _ => 0))), (q18_, .inr (5, [.ref q19_, .int (nI 0)])), (q19_, .inl (E.2.1 0, 30000, .inl (fun _ => 0))), (q20_, .inr (16, fs_))])) H locs := ct_frL h hP1 hD1 hk hS hAn
  have h : Hs E A s.heap ([(b0, .inr (6, [.ref b1, .int (nI 0), .int (nI 0), .int (-1), .ref b2, .ref b3, .int (nI 0), .int (nI 0), .ref b4, .int (nI 0), .ref b5, .ref b7])), (b1, .inl (E.2.1 0, 16000, .inl (fun _ => 0))), (b2, .inr (7, [.int 0])), (b3, .inl (E.2.1 4, 41, .inr (.inr (.inr (.inr (fun _ => none)))))), (b4, .inl (E.2.1 1, 499, .inl (fun _ => 0))), (b5, .inr (8, [.ref b6, .int (nI 0)])), (b6, .inl (E.2.1 0, 30000, .inl (fun _ => 0))), (b7, .inr (8, [.ref b8, .int (nI 0)])), (b8, .inl (E.2.1 0, 30000, .inl (fun _ => 0))), (q0_, .inr (0, [.ref q1_, .int (nI 0), .int (nI 0), .ref q2_, .ref q3_, .int (-1), .ref q14_, .int (nI 0), .ref q15_, .ref q16_, .ref q18_])), (q1_, .inl (E.2.1 0, 16000, .inl (fun _ => 0))), (q2_, .inr (1, [.ref q20_, .int 0, .int 0])), (q3_, .inr (2, [.ref q2_, .ref q4_, .ref q6_, .int (nI 0), .null, .int (nI 0), .int (nI 0), .ref q7_, .int (nI 0), .ref q8_, .ref q9_, .int (nI 0), .int (nI 0), .ref q10_, .ref q13_])), (q4_, .inr (3, [.ref q5_, .int (nI 0)])), (q5_, .inl (E.2.1 0, 65536, .inl (fun _ => 0))), (q6_, .inl (E.2.1 3, 41, .inr (.inr (.inr (.inr (fun _ => none)))))), (q7_, .inl (E.2.1 0, 16000, .inl (fun _ => 0))), (q8_, .inl (E.2.1 1, 8000, .inl (fun _ => 0))), (q9_, .inl (E.2.1 0, 8000, .inl (fun _ => 0))), (q10_, .inr (4, [.ref q11_, .ref q12_, .null, .int 0, .int 0])), (q11_, .inl (E.2.1 1, 4096, .inl (fun _ => 0))), (q12_, .inl (E.2.1 1, 4096, .inl (fun _ => 0))), (q13_, .inl (E.2.1 2, 500, .inr (.inl (fun _ => 0)))), (q14_, .inl (E.2.1 2, 500, .inr (.inl (fun _ => 0)))), (q15_, .inl (E.2.1 2, 500, .inr (.inl (fun _ => 0)))), (q16_, .inr (5, [.ref q17_, .int (nI 0)])), (q17_, .inl (E.2.1 0, 30000, .inl (fun _ => 0))), (q18_, .inr (5, [.ref q19_, .int (nI 0)])), (q19_, .inl (E.2.1 0, 30000, .inl (fun _ => 0))), (q20_, .inr (16, fs_))]) H locs := h
  clear hP1 hD1 hS hz hk
  refine W.eq (g2 := F0 m 15 ls [.ref b0]) rfl ?_
  refine lv_astore_n (lv' := [(2, .ref b0), (1, .ref q0_), (0, .ref b)]) hx hb dL_law_15 rfl hl (by decide) rfl (fun ls hl => ?_)
  refine lv_iconst (v := nI 0) hx hb dL_law_16 (by decide) ?_
  refine lv_istore_n (lv' := [(3, .int (nI 0)), (2, .ref b0), (1, .ref q0_), (0, .ref b)]) hx hb dL_law_17 rfl hl (by decide) rfl (fun ls hl => ?_)
  have h : Hs E A s.heap ([(q0_, .inr (0, [.ref q1_, .int (nI 0), .int (nI 0), .ref q2_, .ref q3_, .int (-1), .ref q14_, .int (nI 0), .ref q15_, .ref q16_, .ref q18_])), (q1_, .inl (E.2.1 0, 16000, .inl (fun _ => 0))), (q2_, .inr (1, [.ref q20_, .int 0, .int 0])), (q3_, .inr (2, [.ref q2_, .ref q4_, .ref q6_, .int (nI 0), .null, .int (nI 0), .int (nI 0), .ref q7_, .int (nI 0), .ref q8_, .ref q9_, .int (nI 0), .int (nI 0), .ref q10_, .ref q13_])), (q4_, .inr (3, [.ref q5_, .int (nI 0)])), (q5_, .inl (E.2.1 0, 65536, .inl (fun _ => 0))), (q6_, .inl (E.2.1 3, 41, .inr (.inr (.inr (.inr (fun _ => none)))))), (q7_, .inl (E.2.1 0, 16000, .inl (fun _ => 0))), (q8_, .inl (E.2.1 1, 8000, .inl (fun _ => 0))), (q9_, .inl (E.2.1 0, 8000, .inl (fun _ => 0))), (q10_, .inr (4, [.ref q11_, .ref q12_, .null, .int 0, .int 0])), (q11_, .inl (E.2.1 1, 4096, .inl (fun _ => 0))), (q12_, .inl (E.2.1 1, 4096, .inl (fun _ => 0))), (q13_, .inl (E.2.1 2, 500, .inr (.inl (fun _ => 0)))), (q14_, .inl (E.2.1 2, 500, .inr (.inl (fun _ => 0)))), (q15_, .inl (E.2.1 2, 500, .inr (.inl (fun _ => 0)))), (q16_, .inr (5, [.ref q17_, .int (nI 0)])), (q17_, .inl (E.2.1 0, 30000, .inl (fun _ => 0))), (q18_, .inr (5, [.ref q19_, .int (nI 0)])), (q19_, .inl (E.2.1 0, 30000, .inl (fun _ => 0))), (q20_, .inr (16, fs_)), (b0, .inr (6, [.ref b1, .int (nI 0), .int (nI 0), .int (-1), .ref b2, .ref b3, .int (nI 0), .int (nI 0), .ref b4, .int (nI 0), .ref b5, .ref b7])), (b1, .inl (E.2.1 0, 16000, .inl (fun _ => 0))), (b2, .inr (7, [.int 0])), (b3, .inl (E.2.1 4, 41, .inr (.inr (.inr (.inr (fun _ => none)))))), (b4, .inl (E.2.1 1, 499, .inl (fun _ => 0))), (b5, .inr (8, [.ref b6, .int (nI 0)])), (b6, .inl (E.2.1 0, 30000, .inl (fun _ => 0))), (b7, .inr (8, [.ref b8, .int (nI 0)])), (b8, .inl (E.2.1 0, 30000, .inl (fun _ => 0)))]) H locs := ct_part0 h [9, 10, 11, 12, 13, 14, 15, 16, 17, 18, 19, 20, 21, 22, 23, 24, 25, 26, 27, 28, 29, 0, 1, 2, 3, 4, 5, 6, 7, 8] rfl rfl
  obtain ⟨ad, had⟩ : ∃ ad : Nat → Nat, ad = fun i => [q0_, q1_, q2_, q3_, q4_, q5_, q6_, q7_, q8_, q9_, q10_, q11_, q12_, q13_, q14_, q15_, q16_, q17_, q18_, q19_, q20_, b0, b1, b2, b3, b4, b5, b6, b7, b8].getD i q0_ := ⟨_, rfl⟩
  have hlt : ∀ a ∈ [q0_, q1_, q2_, q3_, q4_, q5_, q6_, q7_, q8_, q9_, q10_, q11_, q12_, q13_, q14_, q15_, q16_, q17_, q18_, q19_, q20_, b0, b1, b2, b3, b4, b5, b6, b7, b8], a < H.size := by
    intro a ha
    simp only [List.mem_cons, List.not_mem_nil, or_false] at ha
    rcases ha with q9 | q9 | q9 | q9 | q9 | q9 | q9 | q9 | q9 | q9 | q9 | q9 | q9 | q9 | q9 | q9 | q9 | q9 | q9 | q9 | q9 | q9 | q9 | q9 | q9 | q9 | q9 | q9 | q9 | q9
    · rw [q9]; exact (h.1 0 _ rfl).lt
    · rw [q9]; exact (h.1 1 _ rfl).lt
    · rw [q9]; exact (h.1 2 _ rfl).lt
    · rw [q9]; exact (h.1 3 _ rfl).lt
    · rw [q9]; exact (h.1 4 _ rfl).lt
    · rw [q9]; exact (h.1 5 _ rfl).lt
    · rw [q9]; exact (h.1 6 _ rfl).lt
    · rw [q9]; exact (h.1 7 _ rfl).lt
    · rw [q9]; exact (h.1 8 _ rfl).lt
    · rw [q9]; exact (h.1 9 _ rfl).lt
    · rw [q9]; exact (h.1 10 _ rfl).lt
    · rw [q9]; exact (h.1 11 _ rfl).lt
    · rw [q9]; exact (h.1 12 _ rfl).lt
    · rw [q9]; exact (h.1 13 _ rfl).lt
    · rw [q9]; exact (h.1 14 _ rfl).lt
    · rw [q9]; exact (h.1 15 _ rfl).lt
    · rw [q9]; exact (h.1 16 _ rfl).lt
    · rw [q9]; exact (h.1 17 _ rfl).lt
    · rw [q9]; exact (h.1 18 _ rfl).lt
    · rw [q9]; exact (h.1 19 _ rfl).lt
    · rw [q9]; exact (h.1 20 _ rfl).lt
    · rw [q9]; exact (h.1 21 _ rfl).lt
    · rw [q9]; exact (h.1 22 _ rfl).lt
    · rw [q9]; exact (h.1 23 _ rfl).lt
    · rw [q9]; exact (h.1 24 _ rfl).lt
    · rw [q9]; exact (h.1 25 _ rfl).lt
    · rw [q9]; exact (h.1 26 _ rfl).lt
    · rw [q9]; exact (h.1 27 _ rfl).lt
    · rw [q9]; exact (h.1 28 _ rfl).lt
    · rw [q9]; exact (h.1 29 _ rfl).lt
  have hO : ∀ i, 20 < i → (fun i => [q0_, q1_, q2_, q3_, q4_, q5_, q6_, q7_, q8_, q9_, q10_, q11_, q12_, q13_, q14_, q15_, q16_, q17_, q18_, q19_, q20_, b0, b1, b2, b3, b4, b5, b6, b7, b8].getD i q0_) i < H.size := by
    intro i _
    dsimp only
    rw [List.getD_eq_getElem?_getD]
    rcases Nat.lt_or_ge i [q0_, q1_, q2_, q3_, q4_, q5_, q6_, q7_, q8_, q9_, q10_, q11_, q12_, q13_, q14_, q15_, q16_, q17_, q18_, q19_, q20_, b0, b1, b2, b3, b4, b5, b6, b7, b8].length with q9 | q9
    · rw [List.getElem?_eq_getElem q9]; exact hlt _ (List.getElem_mem q9)
    · rw [List.getElem?_eq_none q9]; exact hlt _ List.mem_cons_self
  have hb9 : ∀ a ∈ [b0, b1, b2, b3, b4, b5, b6, b7, b8], adP (fun i => [q0_, q1_, q2_, q3_, q4_, q5_, q6_, q7_, q8_, q9_, q10_, q11_, q12_, q13_, q14_, q15_, q16_, q17_, q18_, q19_, q20_, b0, b1, b2, b3, b4, b5, b6, b7, b8].getD i q0_) a := by
    intro a ha
    simp only [List.mem_cons, List.not_mem_nil, or_false] at ha
    rcases ha with q9 | q9 | q9 | q9 | q9 | q9 | q9 | q9 | q9
    · exact ⟨21, by decide, by rw [q9]; rfl⟩
    · exact ⟨22, by decide, by rw [q9]; rfl⟩
    · exact ⟨23, by decide, by rw [q9]; rfl⟩
    · exact ⟨24, by decide, by rw [q9]; rfl⟩
    · exact ⟨25, by decide, by rw [q9]; rfl⟩
    · exact ⟨26, by decide, by rw [q9]; rfl⟩
    · exact ⟨27, by decide, by rw [q9]; rfl⟩
    · exact ⟨28, by decide, by rw [q9]; rfl⟩
    · exact ⟨29, by decide, by rw [q9]; rfl⟩
  exact law_loop B htr hX hbl hbA hA hz0 hAn hL 65 0 rfl H locs _ _ q0_ b0 ls (lv_sub hl [0, 1, 2, 3] rfl) ⟨(fun i => [q0_, q1_, q2_, q3_, q4_, q5_, q6_, q7_, q8_, q9_, q10_, q11_, q12_, q13_, q14_, q15_, q16_, q17_, q18_, q19_, q20_, b0, b1, b2, b3, b4, b5, b6, b7, b8].getD i q0_), (fun _ => 0), 0, 0, (-1), (fun _ => 0), 0, (fun _ => 0), (fun _ => 0), 0, (fun _ => 0), 0, 0, 0, 0, (fun _ => none), 0, (fun _ => 0), none, 0, 0, (fun _ => 0), 0, (fun _ => 0), (fun _ => 0), 0, 0, (fun _ => 0), (fun _ => 0), none, 0, 0, (fun _ => 0), fs_, b1, b2, b3, b4, b5, b6, b7, b8, 0, (fun _ => none), 0, 0, (fun _ => 0), 0, (fun _ => 0), 0, (fun _ => 0), 0, ([]), ([]), ([]), ([]), rfl, h, ⟨rfl, by decide, rfl, by decide, fun i hi => absurd hi (Nat.not_lt_zero i)⟩, ⟨rfl, by decide, fun j hj => absurd hj (Nat.not_lt_zero j), fun x hx => absurd hx List.not_mem_nil⟩, ⟨rfl, by decide, fun j hj => absurd hj (Nat.not_lt_zero j), fun x hx => absurd hx List.not_mem_nil⟩, ⟨rfl, by decide, fun j hj => absurd hj (Nat.not_lt_zero j), fun x hx => absurd hx List.not_mem_nil⟩, ⟨rfl, by decide, fun j hj => absurd hj (Nat.not_lt_zero j), fun x hx => absurd hx List.not_mem_nil⟩, ⟨rfl, by decide, rfl, by decide, fun i hi => absurd hi (Nat.not_lt_zero i)⟩, byt_0, ⟨by decide, by decide, by decide, by decide⟩, hb9, adL_n, hO, by omega, by omega⟩
