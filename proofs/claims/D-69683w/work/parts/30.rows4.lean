/-! BASE 7: what look() tells; roads that come together -/
set_option maxRecDepth 100000
def lkI (t : List Nat) (i : Nat) : Int32 := if i < t.length then nI (t.getD i 0) else -1
theorem lk_in {t : List Nat} {i : Nat} (h : i < t.length) : lkI t i = nI (t.getD i 0) := if_pos h
theorem lk_out {t : List Nat} {i : Nat} (h : ¬ i < t.length) : lkI t i = -1 := if_neg h
theorem lk_eq {t : List Nat} (htb : ∀ j, t.getD j 0 < 256) {i n : Nat} (hn : n < 256) : lkI t i = nI n ↔ i < t.length ∧ t.getD i 0 = n := by
  by_cases h : i < t.length
  · rw [lk_in h]
    have := htb i
    exact ⟨fun q => ⟨h, (nI_eq (by omega) (by omega)).mp q⟩, fun q => by rw [q.2]⟩
  · rw [lk_out h]
    refine ⟨fun q => ?_, fun q => absurd q.1 h⟩
    exfalso
    have h1 : ¬ nI n < 0 := nI_pos (by omega)
    rw [← q] at h1
    exact h1 (by decide)
theorem lk_lt {t : List Nat} (htb : ∀ j, t.getD j 0 < 256) {i n : Nat} (hn : n < 256) : lkI t i < nI n ↔ (i < t.length → t.getD i 0 < n) := by
  by_cases h : i < t.length
  · rw [lk_in h]
    have := htb i
    exact ⟨fun q _ => (nI_ltI (by omega) (by omega)).mp q, fun q => (nI_ltI (by omega) (by omega)).mpr (q h)⟩
  · rw [lk_out h]
    refine ⟨fun _ q => absurd q h, fun _ => ?_⟩
    have h1 : (0 : Int32) ≤ nI n := nI_pos' (by omega)
    exact Int32.lt_of_lt_of_le (by decide) h1
section
variable {p : Program} {l : Launch} {e : Env} {R : Room} {s : State} {m : MethodId} {args : Array Value} {below : List Frame} {meth : Method} {c : Code} {H : Heap} {locs : List Loc} {cells slots : Nat} {Q : State → Prop}
variable {cc : ByteArray} {pc : Nat} {ls : Array Slot} {rest : List Value}
theorem ct_joinL {σ : Type} {P : σ → Array Slot → Prop} {g : σ → Array Slot → JFrame} {g0 : JFrame} (K : ∀ x ls, P x ls → W p l e R s m args below meth c H locs cells slots Q (g x ls)) (k : (∀ x ls, P x ls → W p l e R s m args below meth c H locs cells slots Q (g x ls)) → W p l e R s m args below meth c H locs cells slots Q g0) : W p l e R s m args below meth c H locs cells slots Q g0 := k K
variable {t : List Nat} {i n : Nat} {off : Int} {tgt : Nat}
theorem k_icmp_eq (hx : p.tables.exec = Jvm.exec) (hb : c.code = cc) (hdg : decode cc pc = .ok (.if_icmp .eq off, 3)) (ht : (pc : Int) + off = (tgt : Int)) (htb : ∀ j, t.getD j 0 < 256) (hn : n < 256)
    (kt : i < t.length ∧ t.getD i 0 = n → W p l e R s m args below meth c H locs cells slots Q (F0 m tgt ls rest)) (kf : ¬ (i < t.length ∧ t.getD i 0 = n) → W p l e R s m args below meth c H locs cells slots Q (F0 m (pc + 3) ls rest)) : W p l e R s m args below meth c H locs cells slots Q (F0 m pc ls (.int (nI n) :: .int (lkI t i) :: rest)) :=
  lv_icmp_eq hx hb hdg ht (fun h => kt ((lk_eq htb hn).mp h)) (fun h => kf (fun q => h ((lk_eq htb hn).mpr q)))
theorem k_icmp_ne (hx : p.tables.exec = Jvm.exec) (hb : c.code = cc) (hdg : decode cc pc = .ok (.if_icmp .ne off, 3)) (ht : (pc : Int) + off = (tgt : Int)) (htb : ∀ j, t.getD j 0 < 256) (hn : n < 256)
    (kt : ¬ (i < t.length ∧ t.getD i 0 = n) → W p l e R s m args below meth c H locs cells slots Q (F0 m tgt ls rest)) (kf : i < t.length ∧ t.getD i 0 = n → W p l e R s m args below meth c H locs cells slots Q (F0 m (pc + 3) ls rest)) : W p l e R s m args below meth c H locs cells slots Q (F0 m pc ls (.int (nI n) :: .int (lkI t i) :: rest)) :=
  lv_icmp_ne hx hb hdg ht (fun h => kt (fun q => h ((lk_eq htb hn).mpr q))) (fun h => kf ((lk_eq htb hn).mp h))
theorem k_icmp_lt (hx : p.tables.exec = Jvm.exec) (hb : c.code = cc) (hdg : decode cc pc = .ok (.if_icmp .lt off, 3)) (ht : (pc : Int) + off = (tgt : Int)) (htb : ∀ j, t.getD j 0 < 256) (hn : n < 256)
    (kt : (i < t.length → t.getD i 0 < n) → W p l e R s m args below meth c H locs cells slots Q (F0 m tgt ls rest)) (kf : i < t.length ∧ n ≤ t.getD i 0 → W p l e R s m args below meth c H locs cells slots Q (F0 m (pc + 3) ls rest)) : W p l e R s m args below meth c H locs cells slots Q (F0 m pc ls (.int (nI n) :: .int (lkI t i) :: rest)) :=
  lv_icmp_lt hx hb hdg ht (fun h => kt ((lk_lt htb hn).mp h)) (fun h => kf (by
    have h2 : ¬ (i < t.length → t.getD i 0 < n) := fun q => h ((lk_lt htb hn).mpr q)
    by_cases q : i < t.length
    · exact ⟨q, Nat.not_lt.mp (fun q2 => h2 (fun _ => q2))⟩
    · exact absurd (fun q2 => absurd q2 q) h2))
theorem k_le {t : List Nat} (htb : ∀ j, t.getD j 0 < 256) {i n : Nat} (hn : n < 255) : lkI t i ≤ nI n ↔ (i < t.length → t.getD i 0 ≤ n) := by
  have h := lk_lt htb (i := i) (n := n + 1) (by omega)
  have h2 : lkI t i ≤ nI n ↔ lkI t i < nI (n + 1) := by
    rw [Int32.le_iff_toInt_le, Int32.lt_iff_toInt_lt, nI_toInt (by omega), nI_toInt (by omega)]
    omega
  rw [h2, h]
  exact ⟨fun q z => by have := q z; omega, fun q z => by have := q z; omega⟩
theorem k_icmp_le (hx : p.tables.exec = Jvm.exec) (hb : c.code = cc) (hdg : decode cc pc = .ok (.if_icmp .le off, 3)) (ht : (pc : Int) + off = (tgt : Int)) (htb : ∀ j, t.getD j 0 < 256) (hn : n < 255)
    (kt : (i < t.length → t.getD i 0 ≤ n) → W p l e R s m args below meth c H locs cells slots Q (F0 m tgt ls rest)) (kf : i < t.length ∧ n < t.getD i 0 → W p l e R s m args below meth c H locs cells slots Q (F0 m (pc + 3) ls rest)) : W p l e R s m args below meth c H locs cells slots Q (F0 m pc ls (.int (nI n) :: .int (lkI t i) :: rest)) :=
  lv_icmp_le hx hb hdg ht (fun h => kt ((k_le htb hn).mp h)) (fun h => kf (by
    have h2 : ¬ (i < t.length → t.getD i 0 ≤ n) := fun q => h ((k_le htb hn).mpr q)
    by_cases q : i < t.length
    · exact ⟨q, Nat.not_le.mp (fun q2 => h2 (fun _ => q2))⟩
    · exact absurd (fun q2 => absurd q2 q) h2))
theorem k_icmp_gt (hx : p.tables.exec = Jvm.exec) (hb : c.code = cc) (hdg : decode cc pc = .ok (.if_icmp .gt off, 3)) (ht : (pc : Int) + off = (tgt : Int)) (htb : ∀ j, t.getD j 0 < 256) (hn : n < 255)
    (kt : i < t.length ∧ n < t.getD i 0 → W p l e R s m args below meth c H locs cells slots Q (F0 m tgt ls rest)) (kf : (i < t.length → t.getD i 0 ≤ n) → W p l e R s m args below meth c H locs cells slots Q (F0 m (pc + 3) ls rest)) : W p l e R s m args below meth c H locs cells slots Q (F0 m pc ls (.int (nI n) :: .int (lkI t i) :: rest)) :=
  lv_icmp_gt hx hb hdg ht (fun h => kt (by
    have h1 : ¬ lkI t i ≤ nI n := Int32.not_le.mpr h
    have h2 : ¬ (i < t.length → t.getD i 0 ≤ n) := fun q => h1 ((k_le htb hn).mpr q)
    by_cases q : i < t.length
    · exact ⟨q, Nat.not_le.mp (fun q2 => h2 (fun _ => q2))⟩
    · exact absurd (fun q2 => absurd q2 q) h2)) (fun h => kf ((k_le htb hn).mp (Int32.not_lt.mp h)))
end
/-- how long words are in all -/
def tot (l : List Wd) : Nat := (l.map (fun w => w.1.length)).sum
theorem tot_nil : tot [] = 0 := rfl
theorem tot_app (a b : List Wd) : tot (a ++ b) = tot a + tot b := by
  unfold tot; rw [List.map_append, List.sum_append]
theorem tot_snoc (a : List Wd) (w : Wd) : tot (a ++ [w]) = tot a + w.1.length := by rw [tot_app]; rfl
theorem take_Sw {l : List Wd} {k : Nat} (h : k < l.length) : l.take (k + 1) = l.take k ++ [l.getD k ([], false)] := by
  rw [List.take_succ_eq_append_getElem h, List.getD_eq_getElem?_getD, List.getElem?_eq_getElem h]; rfl
theorem tot_take_S {l : List Wd} {k : Nat} (h : k < l.length) : tot (l.take (k + 1)) = tot (l.take k) + (l.getD k ([], false)).1.length := by rw [take_Sw h, tot_snoc]
theorem tot_take_le (l : List Wd) (k : Nat) : tot (l.take k) ≤ tot l := by
  have := tot_app (l.take k) (l.drop k)
  rw [List.take_append_drop] at this
  omega
/-- the words of the text that is read, in their three rows -/
def pWs (means starts lens : Nat → Int32) (acc : List Wd) : Prop := ∀ k, k < acc.length → pAt means starts lens k (tot (acc.take k)) (acc.getD k ([], false))
theorem pWs_0 {means starts lens : Nat → Int32} : pWs means starts lens [] := fun k h => absurd h (Nat.not_lt_zero k)
theorem pWs_snoc {me0 st0 le0 me st le : Nat → Int32} {acc : List Wd} {w : Wd} (h : pWs me0 st0 le0 acc) (hm : ∀ j, j < tot acc → me j = me0 j) (hs : ∀ k, k < acc.length → st k = st0 k ∧ le k = le0 k) (hw : pAt me st le acc.length (tot acc) w) : pWs me st le (acc ++ [w]) := by
  intro k hk
  rw [List.length_append, List.length_singleton] at hk
  by_cases e : k = acc.length
  · subst e
    rw [List.take_left' rfl, gD_r (Nat.le_refl _), Nat.sub_self]
    exact hw
  · have hk' : k < acc.length := by omega
    rw [List.take_append_of_le_length (by omega), gD_l hk']
    obtain ⟨h1, h2, h3, h4, h5, h6⟩ := h k hk'
    have hb := tot_take_le acc (k + 1)
    rw [tot_take_S hk'] at hb
    refine ⟨(hs k hk').1.trans h1, (hs k hk').2.trans h2, fun j hj => ?_, h4, h5, h6⟩
    rw [hm _ (by omega)]
    exact h3 j hj
theorem enc_i8 {w : Wd} (h : w.1.length ≤ 40) : (encL w).toInt8.toInt32 = encL w := by
  unfold encL
  split
  · decide
  · split
    · exact i8_small _ (by omega)
    · exact i8_small _ (by omega)
theorem enc_b {w : Wd} (h : w.1.length ≤ 40) : vp_nar .byte (encL w) = encL w := by rw [vp_nar_byte]; exact enc_i8 h
theorem enc_m1 {w : Wd} (h1 : w.1.length = 0) (h2 : w.2 = false) : encL w = -1 := if_pos ⟨List.length_eq_zero_iff.mp h1, h2⟩
theorem enc_q {w : Wd} (h2 : w.2 = true) : encL w = nI (w.1.length + 64) := by
  unfold encL
  rw [if_neg (by rw [h2]; simp), if_pos h2]
theorem enc_u {w : Wd} (h1 : w.1.length ≠ 0) (h2 : w.2 = false) : encL w = nI w.1.length := by
  unfold encL
  rw [if_neg (by intro q; rw [q.1] at h1; exact h1 rfl), if_neg (by rw [h2]; decide)]
