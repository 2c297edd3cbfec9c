/-! the plain side 23: words of numbers, and how many words come before -/
set_option maxRecDepth 100000
theorem dEnd_in {t : List Nat} : ∀ (d k j : Nat), j = k + d → j < dEnd t k → isD (t.getD j 0) := by
  intro d
  induction d with
  | zero =>
    intro k j hj h
    have hk : k < t.length := by
      rcases Nat.lt_or_ge k t.length with q | q
      · exact q
      · rw [dEnd_end q] at h; omega
    rw [hj, Nat.add_zero]
    refine Decidable.byContradiction (fun hn => ?_)
    rw [dEnd_stop hk hn] at h
    omega
  | succ d ih =>
    intro k j hj h
    have hk : k < t.length := by
      rcases Nat.lt_or_ge k t.length with q | q
      · exact q
      · rw [dEnd_end q] at h; omega
    by_cases hn : isD (t.getD k 0)
    · rw [dEnd_S hk hn] at h
      exact ih (k + 1) j (by omega) h
    · rw [dEnd_stop hk hn] at h; omega
theorem dEnd_d {t : List Nat} {k j : Nat} (h1 : k ≤ j) (h2 : j < dEnd t k) : isD (t.getD j 0) := dEnd_in (j - k) k j (by omega) h2
theorem wh_d {t : List Nat} {ln : Nat} (h : whW t ln) : frT t < t.length ∧ ∀ k, frT t ≤ k → k < t.length → isD (t.getD k 0) := ⟨h.1.1, fun k h1 h2 => dEnd_d h1 (by rw [h.1.2]; exact h2)⟩
def ndg (u : List Nat) : Nat := (u.filter (fun c => decide (c ≠ 46))).length
theorem ndg_46 (u : List Nat) : ndg (46 :: u) = ndg u := by
  unfold ndg
  rw [List.filter_cons_of_neg (by decide)]
theorem ndg_c {c : Nat} (u : List Nat) (h : c ≠ 46) : ndg (c :: u) = ndg u + 1 := by
  unfold ndg
  rw [List.filter_cons_of_pos (by simp [h]), List.length_cons]
theorem acc_b : ∀ (u : List Nat) (s : Nat × Nat × Bool), (∀ x ∈ u, isD x ∨ x = 46) → (u.foldl accS s).1 + 1 ≤ (s.1 + 1) * 10 ^ ndg u ∧ (u.foldl accS s).2.1 ≤ s.2.1 + ndg u := by
  intro u
  induction u with
  | nil => intro s h; exact ⟨by show s.1 + 1 ≤ (s.1 + 1) * 10 ^ 0; omega, Nat.le_refl _⟩
  | cons c u ih =>
    intro s h
    obtain ⟨i1, i2⟩ := ih (accS s c) (fun x hx => h x (List.mem_cons_of_mem _ hx))
    rw [List.foldl_cons]
    by_cases hc : c = 46
    · subst hc
      have e : accS s 46 = (s.1, s.2.1, true) := if_pos rfl
      rw [e] at i1 i2
      rw [e, ndg_46]
      exact ⟨i1, i2⟩
    · have hd : isD c := by rcases h c List.mem_cons_self with q | q; exact q; exact absurd q hc
      have e : accS s c = (10 * s.1 + (c - 48), if s.2.2 = true then s.2.1 + 1 else s.2.1, s.2.2) := if_neg hc
      rw [e] at i1 i2
      rw [e, ndg_c u hc]
      refine ⟨Nat.le_trans i1 ?_, Nat.le_trans i2 ?_⟩
      · rw [Nat.pow_succ, Nat.mul_comm (10 ^ ndg u) 10, ← Nat.mul_assoc]
        exact Nat.mul_le_mul_right _ (by dsimp only; omega)
      · dsimp only; split <;> omega
theorem getD_drop_mem {t : List Nat} {fr : Nat} {P : Nat → Prop} (h : ∀ k, fr ≤ k → k < t.length → P (t.getD k 0)) : ∀ x ∈ t.drop fr, P x := by
  intro x hx
  obtain ⟨i, hi, rfl⟩ := List.mem_iff_getElem.mp hx
  rw [List.length_drop] at hi
  have := h (fr + i) (by omega) (by omega)
  rw [List.getElem_drop]
  rw [List.getD_eq_getElem?_getD, List.getElem?_eq_getElem (by omega)] at this
  exact this
theorem real_b {t : List Nat} (hl : t.length < 65536) (h1 : 0 < dgV true t) (h2 : dgV true t ≤ nI 15) : frT t < t.length ∧ (∀ k, frT t ≤ k → k < t.length → isD (t.getD k 0) ∨ t.getD k 0 = 46) ∧ (accD (t.drop (frT t))).1 < 9007199254740992 ∧ (accD (t.drop (frT t))).2.1 < 15 := by
  have hfb := frT_le t
  have pos : ∀ n, n < 65536 → nI n ≤ nI 15 → n ≤ 15 := fun n hn h => (nI_leI (by omega) (by omega)).mp h
  have hb := dEnd_le hfb.1
  have key : frT t < t.length ∧ isD (t.getD (frT t) 0) ∧ (∀ k, frT t ≤ k → k < t.length → isD (t.getD k 0) ∨ t.getD k 0 = 46) ∧ ndg (t.drop (frT t + 1)) ≤ 14 := by
    unfold dgV at h1 h2
    by_cases c1 : frT t < dEnd t (frT t)
    · rw [if_pos c1] at h1 h2
      have hd0 := dEnd_d (t := t) (Nat.le_refl _) c1
      have hln : (t.drop (frT t + 1)).length = t.length - (frT t + 1) := List.length_drop
      by_cases c2 : dEnd t (frT t) = t.length
      · rw [if_pos c2] at h1 h2
        have h3 := pos _ (by omega) h2
        refine ⟨by omega, hd0, fun k a b => Or.inl (dEnd_d a (by omega)), ?_⟩
        have : ndg (t.drop (frT t + 1)) ≤ (t.drop (frT t + 1)).length := List.length_filter_le _ _
        omega
      · rw [if_neg c2] at h1 h2
        by_cases c3 : true = true ∧ t.getD (dEnd t (frT t)) 0 = 46 ∧ dEnd t (dEnd t (frT t) + 1) = t.length ∧ dEnd t (frT t) + 1 < t.length
        · rw [if_pos c3] at h1 h2
          have h3 := pos _ (by omega) h2
          obtain ⟨-, c4, c5, c6⟩ := c3
          refine ⟨by omega, hd0, fun k a b => ?_, ?_⟩
          · rcases Nat.lt_trichotomy k (dEnd t (frT t)) with q | q | q
            · exact Or.inl (dEnd_d a q)
            · exact Or.inr (by rw [q]; exact c4)
            · exact Or.inl (dEnd_d (k := dEnd t (frT t) + 1) (by omega) (by omega))
          · have : ndg (t.drop (frT t + 1)) < (t.drop (frT t + 1)).length := by
              unfold ndg
              rw [List.length_filter_lt_length_iff_exists]
              refine ⟨46, ?_, by decide⟩
              refine List.mem_iff_getElem.mpr ⟨dEnd t (frT t) - (frT t + 1), by omega, ?_⟩
              rw [List.getElem_drop]
              rw [List.getD_eq_getElem?_getD, List.getElem?_eq_getElem (by omega)] at c4
              have c4 : t[dEnd t (frT t)] = 46 := c4
              rw [← c4]
              congr 1
              omega
            omega
        · rw [if_neg c3] at h1
          exact absurd h1 (by decide)
    · rw [if_neg c1] at h1
      exact absurd h1 (by decide)
  obtain ⟨k1, k2, k3, k4⟩ := key
  refine ⟨k1, k3, ?_⟩
  have hm := getD_drop_mem (fr := frT t + 1) (P := fun x => isD x ∨ x = 46) (fun k a b => k3 k (by omega) b)
  obtain ⟨i1, i2⟩ := acc_b (t.drop (frT t + 1)) (accS (0, 0, false) (t.getD (frT t) 0)) hm
  have e0 : accS (0, 0, false) (t.getD (frT t) 0) = (10 * 0 + (t.getD (frT t) 0 - 48), 0, false) := by
    unfold accS
    rw [if_neg (by omega)]
    rfl
  have e1 : accD (t.drop (frT t)) = (t.drop (frT t + 1)).foldl accS (accS (0, 0, false) (t.getD (frT t) 0)) := by
    unfold accD
    rw [drop_cons k1, List.foldl_cons]
  rw [e1]
  rw [e0] at i1 i2
  rw [e0]
  dsimp only at i1 i2
  have e2 : 10 ^ ndg (t.drop (frT t + 1)) ≤ 10 ^ 14 := Nat.pow_le_pow_right (by decide) k4
  have e3 : (10 * 0 + (t.getD (frT t) 0 - 48) + 1) * 10 ^ ndg (t.drop (frT t + 1)) ≤ 10 * 10 ^ 14 := Nat.mul_le_mul (by omega) e2
  have e4 : (10 : Nat) * 10 ^ 14 = 1000000000000000 := by decide
  exact ⟨by omega, by omega⟩
theorem lane_tk {cols rows : Nat} {cw : Nat → Wd} {c r : Nat} (h : laneT cols rows cw c ≠ 8) (hr : r < rows) : (laneT cols rows cw c = 0 ∨ laneT cols rows cw c = 4 ∨ laneT cols rows cw c = 5 ∨ laneT cols rows cw c = 7) ∧ (missW (cw (cols * r + c)) ∨ takesW (laneT cols rows cw c) (cw (cols * r + c))) := by
  unfold laneT at h ⊢
  by_cases a : colAny cols rows cw c
  · rw [if_pos a] at h ⊢
    by_cases a0 : colAll 0 cols rows cw c
    · rw [if_pos a0]; exact ⟨Or.inl rfl, a0 r hr⟩
    rw [if_neg a0] at h ⊢
    by_cases a4 : colAll 4 cols rows cw c
    · rw [if_pos a4]; exact ⟨Or.inr (Or.inl rfl), a4 r hr⟩
    rw [if_neg a4] at h ⊢
    by_cases a5 : colAll 5 cols rows cw c
    · rw [if_pos a5]; exact ⟨Or.inr (Or.inr (Or.inl rfl)), a5 r hr⟩
    rw [if_neg a5] at h ⊢
    by_cases a7 : colAll 7 cols rows cw c
    · rw [if_pos a7]; exact ⟨Or.inr (Or.inr (Or.inr rfl)), a7 r hr⟩
    rw [if_neg a7] at h
    exact absurd rfl h
  · rw [if_neg a] at h; exact absurd rfl h
theorem tk_nq {w : Wd} {ln : Nat} (h : takesW ln w) (hl : ln < 8) : w.2 = false := by
  cases e : w.2 with
  | false => rfl
  | true => exact absurd h (tk_q e hl)
theorem val_ok {ln : Nat} {w : Wd} (h : missW w ∨ takesW ln w) (hln : ln = 0 ∨ ln = 4 ∨ ln = 5 ∨ ln = 7) (hl : w.1.length ≤ 40) : valOK ln w := by
  intro hm h0
  have ht : takesW ln w := by rcases h with q | q; exact absurd q hm; exact q
  have hq := tk_nq ht (by omega)
  refine ⟨hq, ?_⟩
  rcases (show (ln = 4 ∨ ln = 5) ∨ ln = 7 by omega) with e | e
  · have hd := wh_d ((tk_w hq e).mp ht)
    exact ⟨fun k h1 h2 => Or.inl (hd.2 k h1 h2), fun h7 => by omega⟩
  · subst e
    have hr := (tk_7 (by omega) hq).mp ht
    obtain ⟨b1, b2, b3, b4⟩ := real_b (by omega) hr.1 hr.2
    exact ⟨b2, fun _ => ⟨by have := b4; show (accD (w.1.drop (frT w.1))).2.1 ≤ 14; omega, quo_nn b3 b4⟩⟩
/-! the order of words -/
theorem cmp_r (x : List Nat) : cmpI x x = 0 := by
  induction x with
  | nil => rfl
  | cons a x ih => show (if a = a then cmpI x x else _) = 0; rw [if_pos rfl]; exact ih
theorem cmp_0 : ∀ {x y : List Nat}, cmpI x y = 0 → x = y
  | [], [], _ => rfl
  | [], _ :: _, h => absurd h (by show ¬ ((-1 : Int32) = 0); decide)
  | _ :: _, [], h => absurd h (by show ¬ ((1 : Int32) = 0); decide)
  | a :: x, b :: y, h => by
    have h : (if a = b then cmpI x y else if a < b then -1 else 1) = 0 := h
    by_cases e : a = b
    · rw [if_pos e] at h; rw [e, cmp_0 h]
    · rw [if_neg e] at h
      split at h <;> exact absurd h (by decide)
theorem cmp_lt_c {a b : Nat} {x y : List Nat} : cmpI (a :: x) (b :: y) < 0 ↔ (a < b ∨ (a = b ∧ cmpI x y < 0)) := by
  show (if a = b then cmpI x y else if a < b then -1 else 1) < 0 ↔ _
  by_cases e : a = b
  · rw [if_pos e]; exact ⟨fun h => Or.inr ⟨e, h⟩, fun h => by rcases h with h | h; omega; exact h.2⟩
  · rw [if_neg e]
    by_cases f : a < b
    · rw [if_pos f]; exact ⟨fun _ => Or.inl f, fun _ => by decide⟩
    · rw [if_neg f]; exact ⟨fun h => absurd h (by decide), fun h => by omega⟩
theorem cmp_tr : ∀ {x y z : List Nat}, cmpI x y < 0 → cmpI y z < 0 → cmpI x z < 0
  | [], [], _, h, _ => absurd h (by decide)
  | [], _ :: _, [], _, h => absurd h (by show ¬ ((1 : Int32) < 0); decide)
  | [], _ :: _, _ :: _, _, _ => by show (-1 : Int32) < 0; decide
  | _ :: _, [], _, h, _ => absurd h (by show ¬ ((1 : Int32) < 0); decide)
  | _ :: _, _ :: _, [], _, h => absurd h (by show ¬ ((1 : Int32) < 0); decide)
  | a :: x, b :: y, c :: z, h1, h2 => by
    rw [cmp_lt_c] at h1 h2 ⊢
    rcases h1 with h1 | ⟨e1, h1⟩ <;> rcases h2 with h2 | ⟨e2, h2⟩
    · exact Or.inl (by omega)
    · exact Or.inl (by omega)
    · exact Or.inl (by omega)
    · exact Or.inr ⟨by omega, cmp_tr h1 h2⟩
theorem cmp_to : ∀ {x y : List Nat}, ¬ cmpI x y < 0 → x ≠ y → cmpI y x < 0
  | [], [], _, h => absurd rfl h
  | [], _ :: _, h, _ => absurd (by show (-1 : Int32) < 0; decide) h
  | _ :: _, [], _, _ => by show (-1 : Int32) < 0; decide
  | a :: x, b :: y, h1, h2 => by
    rw [cmp_lt_c] at h1 ⊢
    rcases Nat.lt_trichotomy a b with q | q | q
    · exact absurd (Or.inl q) h1
    · exact Or.inr ⟨q.symm, cmp_to (fun h => h1 (Or.inr ⟨q, h⟩)) (fun h => h2 (by rw [q, h]))⟩
    · exact Or.inl q
theorem sumN_lt {f g : Nat → Nat} : ∀ n, (∀ k, k < n → f k ≤ g k) → (∃ k, k < n ∧ f k < g k) → sumN f n < sumN g n := by
  intro n
  induction n with
  | zero => rintro _ ⟨k, hk, _⟩; omega
  | succ n ih =>
    rintro h ⟨k, hk, hl⟩
    rw [sumN_S, sumN_S]
    have hn := h n (by omega)
    rcases Nat.lt_succ_iff_lt_or_eq.mp hk with q | q
    · have := ih (fun k hk => h k (by omega)) ⟨k, q, hl⟩; omega
    · subst q
      have : sumN f k ≤ sumN g k := by
        clear ih hn hl hk
        have h2 : ∀ j, j < k → f j ≤ g j := fun j hj => h j (by omega)
        clear h
        induction k with
        | zero => exact Nat.le_refl _
        | succ k ik => rw [sumN_S, sumN_S]; have := ik (fun j hj => h2 j (by omega)); have := h2 k (by omega); omega
      omega
theorem sumN_pt {f : Nat → Nat} (a : Nat) : ∀ n, sumN (fun v => f v + if v = a then 1 else 0) n = sumN f n + if a < n then 1 else 0 := by
  intro n
  induction n with
  | zero => rfl
  | succ n ih =>
    rw [sumN_S, sumN_S, ih]
    by_cases e : n = a
    · rw [if_pos e, if_neg (by omega), if_pos (by omega)]; omega
    · rw [if_neg e]
      by_cases f9 : a < n
      · rw [if_pos f9, if_pos (by omega)]; omega
      · rw [if_neg f9, if_neg (by omega)]; omega
theorem sumN_z {f : Nat → Nat} : ∀ n, (∀ k, k < n → f k = 0) → sumN f n = 0 := by
  intro n
  induction n with
  | zero => intro _; rfl
  | succ n ih => intro h; rw [sumN_S, ih (fun k hk => h k (by omega)), h n (by omega)]
abbrev fst9 (M : Nat → Prop) (g : Nat → Nat) (r : Nat) : Prop := ∀ q, q < r → M q ∨ g q ≠ g r
theorem cnt_ind {M : Nat → Prop} [DecidablePred M] {g : Nat → Nat} {G : Nat} : ∀ n, cntV M g n G = sumN (fun r => if ¬ M r ∧ g r < G ∧ fst9 M g r then 1 else 0) n := by
  intro n
  unfold cntV
  induction n with
  | zero => rw [sumN_0]; exact sumN_z G (fun k _ => if_neg (by rintro ⟨j, hj, _⟩; omega))
  | succ n ih =>
    rw [sumN_S, ← ih]
    by_cases hM : M n
    · rw [if_neg (fun h => h.1 hM), Nat.add_zero]
      refine sumN_ext G (fun v _ => ?_)
      by_cases e : ∃ k, k < n ∧ ¬ M k ∧ g k = v
      · rw [if_pos e, if_pos]
        obtain ⟨k, a1, a2, a3⟩ := e
        exact ⟨k, by omega, a2, a3⟩
      · rw [if_neg e, if_neg]
        rintro ⟨k, a1, a2, a3⟩
        rcases Nat.lt_succ_iff_lt_or_eq.mp a1 with q | q
        · exact e ⟨k, q, a2, a3⟩
        · subst q; exact a2 hM
    · by_cases hf : fst9 M g n
      · have e1 : sumN (fun v => if ∃ k, k < n + 1 ∧ ¬ M k ∧ g k = v then 1 else 0) G = sumN (fun v => (if ∃ k, k < n ∧ ¬ M k ∧ g k = v then 1 else 0) + if v = g n then 1 else 0) G := by
          refine sumN_ext G (fun v _ => ?_)
          by_cases e : v = g n
          · subst e
            rw [if_pos ⟨n, by omega, hM, rfl⟩, if_neg, if_pos rfl]
            rintro ⟨k, a1, a2, a3⟩
            rcases hf k a1 with q | q
            · exact a2 q
            · exact q a3
          · rw [if_neg e, Nat.add_zero]
            by_cases e2 : ∃ k, k < n ∧ ¬ M k ∧ g k = v
            · rw [if_pos e2, if_pos]
              obtain ⟨k, a1, a2, a3⟩ := e2
              exact ⟨k, by omega, a2, a3⟩
            · rw [if_neg e2, if_neg]
              rintro ⟨k, a1, a2, a3⟩
              rcases Nat.lt_succ_iff_lt_or_eq.mp a1 with q | q
              · exact e2 ⟨k, q, a2, a3⟩
              · subst q; exact e a3.symm
        rw [e1, sumN_pt]
        congr 1
        by_cases e : g n < G
        · rw [if_pos e, if_pos ⟨hM, e, hf⟩]
        · rw [if_neg e, if_neg (fun h => e h.2.1)]
      · rw [if_neg (fun h => hf h.2.2), Nat.add_zero]
        refine sumN_ext G (fun v _ => ?_)
        by_cases e : ∃ k, k < n ∧ ¬ M k ∧ g k = v
        · rw [if_pos e, if_pos]
          obtain ⟨k, a1, a2, a3⟩ := e
          exact ⟨k, by omega, a2, a3⟩
        · rw [if_neg e, if_neg]
          rintro ⟨k, a1, a2, a3⟩
          rcases Nat.lt_succ_iff_lt_or_eq.mp a1 with q | q
          · exact e ⟨k, q, a2, a3⟩
          · subst q
            refine hf (fun q hq => Decidable.byContradiction (fun hn => ?_))
            have hn1 : ¬ M q := fun z => hn (Or.inl z)
            have hn2 : g q = g k := Decidable.byContradiction (fun z => hn (Or.inr z))
            exact e ⟨q, hq, hn1, hn2.trans a3⟩
/-- the words of a column that stand first and come before u -/
abbrev fstW (cols : Nat) (cw : Nat → Wd) (co r : Nat) : Prop := ∀ q, q < r → missW (cw (cols * q + co)) ∨ (cw (cols * q + co)).1 ≠ (cw (cols * r + co)).1
def cntB (cols : Nat) (cw : Nat → Wd) (co : Nat) (u : List Nat) (r : Nat) : Nat := if ¬ missW (cw (cols * r + co)) ∧ cmpI (cw (cols * r + co)).1 u < 0 ∧ fstW cols cw co r then 1 else 0
theorem colG_lt {cols rows : Nat} {cw : Nat → Wd} {co a b : Nat} (ha : a < rows) (hm : ¬ colM cols cw co a) (h : cmpI (cw (cols * a + co)).1 (cw (cols * b + co)).1 < 0) : colG cols rows cw co a < colG cols rows cw co b := by
  unfold colG
  refine sumN_lt rows (fun k _ => ?_) ⟨a, ha, ?_⟩
  · unfold bfF
    by_cases c : ¬ missW (cw (cols * k + co)) ∧ cmpI (cw (cols * k + co)).1 (cw (cols * a + co)).1 < 0
    · rw [if_pos c, if_pos ⟨c.1, cmp_tr c.2 h⟩]; exact Nat.le_refl _
    · rw [if_neg c]; exact Nat.zero_le _
  · unfold bfF
    rw [if_neg (fun z => absurd z.2 (by rw [cmp_r]; decide)), if_pos ⟨hm, h⟩]
    decide
theorem colG_eq {cols rows : Nat} {cw : Nat → Wd} {co a b : Nat} (h : (cw (cols * a + co)).1 = (cw (cols * b + co)).1) : colG cols rows cw co a = colG cols rows cw co b := by
  unfold colG
  rw [h]
theorem colG_lti {cols rows : Nat} {cw : Nat → Wd} {co a b : Nat} (ha : a < rows) (hb : b < rows) (hma : ¬ colM cols cw co a) (hmb : ¬ colM cols cw co b) : cmpI (cw (cols * a + co)).1 (cw (cols * b + co)).1 < 0 ↔ colG cols rows cw co a < colG cols rows cw co b := by
  refine ⟨colG_lt ha hma, fun h => Decidable.byContradiction (fun hn => ?_)⟩
  by_cases e : (cw (cols * a + co)).1 = (cw (cols * b + co)).1
  · rw [colG_eq e] at h; omega
  · have := colG_lt (rows := rows) hb hmb (cmp_to hn e); omega
theorem colG_eqi {cols rows : Nat} {cw : Nat → Wd} {co a b : Nat} (ha : a < rows) (hb : b < rows) (hma : ¬ colM cols cw co a) (hmb : ¬ colM cols cw co b) : (cw (cols * a + co)).1 = (cw (cols * b + co)).1 ↔ colG cols rows cw co a = colG cols rows cw co b := by
  refine ⟨colG_eq, fun h => Decidable.byContradiction (fun hn => ?_)⟩
  by_cases e : cmpI (cw (cols * a + co)).1 (cw (cols * b + co)).1 < 0
  · have := colG_lt (rows := rows) ha hma e; omega
  · have := colG_lt (rows := rows) hb hmb (cmp_to e hn); omega
theorem bef_cnt {cols rows : Nat} {cw : Nat → Wd} {co r : Nat} (hr : r < rows) (hm : ¬ colM cols cw co r) : sumN (cntB cols cw co (cw (cols * r + co)).1) rows = cntV (colM cols cw co) (colG cols rows cw co) rows (colG cols rows cw co r) := by
  rw [cnt_ind]
  refine sumN_ext rows (fun k hk => ?_)
  unfold cntB
  by_cases hmk : colM cols cw co k
  · rw [if_neg (fun h => h.1 hmk), if_neg (fun h => h.1 hmk)]
  · have e1 := colG_lti hk hr hmk hm
    have e2 : fstW cols cw co k ↔ fst9 (colM cols cw co) (colG cols rows cw co) k := by
      refine ⟨fun h q hq => ?_, fun h q hq => ?_⟩
      · by_cases hmq : colM cols cw co q
        · exact Or.inl hmq
        · rcases h q hq with z | z
          · exact Or.inl z
          · exact Or.inr (fun y => z ((colG_eqi (by omega) hk hmq hmk).mpr y))
      · by_cases hmq : colM cols cw co q
        · exact Or.inl hmq
        · rcases h q hq with z | z
          · exact Or.inl z
          · exact Or.inr (fun y => z ((colG_eqi (by omega) hk hmq hmk).mp y))
    by_cases c : ¬ missW (cw (cols * k + co)) ∧ cmpI (cw (cols * k + co)).1 (cw (cols * r + co)).1 < 0 ∧ fstW cols cw co k
    · rw [if_pos c, if_pos ⟨hmk, e1.mp c.2.1, e2.mp c.2.2⟩]
    · rw [if_neg c, if_neg (fun h => c ⟨hmk, e1.mpr h.2.1, e2.mpr h.2.2⟩)]
theorem cntB_le (cols : Nat) (cw : Nat → Wd) (co : Nat) (u : List Nat) (r : Nat) : cntB cols cw co u r ≤ 1 := by
  unfold cntB
  split <;> omega
