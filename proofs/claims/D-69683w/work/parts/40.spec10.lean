/-! the plain side 10: sums, rows that are picked -/
set_option maxRecDepth 100000
def sumN (f : Nat → Nat) : Nat → Nat
  | 0 => 0
  | n + 1 => sumN f n + f n
theorem sumN_0 (f : Nat → Nat) : sumN f 0 = 0 := rfl
theorem sumN_S (f : Nat → Nat) (n : Nat) : sumN f (n + 1) = sumN f n + f n := rfl
theorem sumN_mono {f : Nat → Nat} {a b : Nat} (h : a ≤ b) : sumN f a ≤ sumN f b := by
  obtain ⟨d, rfl⟩ : ∃ d, b = a + d := ⟨b - a, by omega⟩
  induction d with
  | zero => exact Nat.le_refl _
  | succ d ih => rw [← Nat.add_assoc, sumN_S]; have := ih (by omega); omega
theorem sumN_le {f : Nat → Nat} {B : Nat} : ∀ n, (∀ k, k < n → f k ≤ B) → sumN f n ≤ B * n := by
  intro n
  induction n with
  | zero => intro _; exact Nat.le_refl _
  | succ n ih => intro h; rw [sumN_S, Nat.mul_succ]; have := ih (fun k hk => h k (by omega)); have := h n (by omega); omega
theorem sumN_ext {f g : Nat → Nat} : ∀ n, (∀ k, k < n → f k = g k) → sumN f n = sumN g n := by
  intro n
  induction n with
  | zero => intro _; rfl
  | succ n ih => intro h; rw [sumN_S, sumN_S, ih (fun k hk => h k (by omega)), h n (by omega)]
def lenW (w : Nat → Wd) (k : Nat) : Nat := (w k).1.length
/-- the cells of picked rows, in their order -/
def pickW (sc : Nat) (pk : Nat → Nat) (cw : Nat → Wd) (k : Nat) : Wd := cw (sc * pk (k / sc) + k % sc)
theorem pick_at {sc r c : Nat} (hc : c < sc) (pk : Nat → Nat) (cw : Nat → Wd) : pickW sc pk cw (sc * r + c) = cw (sc * pk r + c) := by
  unfold pickW
  rw [Nat.mul_add_div (by omega), Nat.div_eq_of_lt hc, Nat.add_zero, Nat.mul_add_mod, Nat.mod_eq_of_lt hc]
theorem pick_in {sc n k : Nat} (hk : k < sc * n) : 0 < sc ∧ k / sc < n ∧ k % sc < sc ∧ k = sc * (k / sc) + k % sc := by
  have hs : 0 < sc := by rcases Nat.eq_zero_or_pos sc with q | q; rw [q, Nat.zero_mul] at hk; omega; exact q
  exact ⟨hs, Nat.div_lt_of_lt_mul hk, Nat.mod_lt _ hs, (Nat.div_add_mod k sc).symm⟩
theorem tAt_nar {wb : Nat → Int32} {a : Nat} {t : List Nat} (h : tAt wb a t) : ∀ j, j < t.length → vp_nar .byte (wb (a + j)) = wb (a + j) := by
  intro j hj
  rw [h.1 j hj]
  exact nI_b (tAt_rg h hj).2
theorem cpy_new {wb : Nat → Int32} {a wv : Nat} {t : List Nat} (h : tAt wb a t) (hf : wv + t.length ≤ 65536) : tAt (va_cpy wb wb a wv t.length) wv t := by
  refine ⟨fun j hj => ?_, h.2.1, hf⟩
  rw [pk_cpy_in (by omega) (by omega), show a + (wv + j - wv) = a + j by omega]
  exact h.1 j hj
theorem TD_old {wb f g : Nat → Int32} {wv n a m : Nat} {cw : Nat → Wd} (h : TD wb wv n f g cw) : TD (va_cpy wb wb a wv m) (wv + m) n f g cw := by
  intro k hk
  obtain ⟨h1, h2, b, h3, h4, h5⟩ := h k hk
  exact ⟨h1, h2, b, h3, tAt_old h4 h5, by omega⟩
theorem TD_put {wb f g : Nat → Int32} {wv k a : Nat} {cw : Nat → Wd} (h : TD wb wv k f g cw) (ht : tAt wb a (cw k).1) (hl : (cw k).1.length ≤ 40) (hf : wv + (cw k).1.length ≤ 65536) : TD (va_cpy wb wb a wv (cw k).1.length) (wv + (cw k).1.length) (k + 1) (upd f k (nI wv)) (upd g k (encL (cw k))) cw := by
  intro j hj
  by_cases e : j = k
  · subst e
    exact ⟨upd_s, hl, wv, upd_s, cpy_new ht hf, Nat.le_refl _⟩
  · obtain ⟨h1, h2, b, h3, h4, h5⟩ := h j (by omega)
    exact ⟨(upd_n e).trans h1, h2, b, (upd_n e).trans h3, tAt_old h4 h5, by omega⟩
theorem TD_0 {wb f g : Nat → Int32} {wv : Nat} {cw : Nat → Wd} : TD wb wv 0 f g cw := fun k hk => absurd hk (Nat.not_lt_zero k)
/-- what stood stays -/
def keepT (wb : Nat → Int32) (wn : Nat) (W : Nat → Int32) : Prop := ∀ a t, tAt wb a t → a + t.length ≤ wn → tAt W a t
theorem keepT_rf {wb : Nat → Int32} {wn : Nat} : keepT wb wn wb := fun _ _ h _ => h
theorem keepT_put {wb W : Nat → Int32} {wn wv a m : Nat} (h : keepT wb wn W) (hw : wn ≤ wv) : keepT wb wn (va_cpy W W a wv m) := fun b t h1 h2 => tAt_old (h b t h1 h2) (by omega)
theorem TD_keep {wb W f g : Nat → Int32} {wn wv n : Nat} {cw : Nat → Wd} (h : TD wb wn n f g cw) (hk : keepT wb wn W) (hw : wn ≤ wv) : TD W wv n f g cw := by
  intro k hk2
  obtain ⟨h1, h2, b, h3, h4, h5⟩ := h k hk2
  exact ⟨h1, h2, b, h3, hk b _ h4 h5, by omega⟩
theorem enc_63 {w : Wd} (hl : w.1.length ≤ 40) (hm : ¬ missW w) : encL w &&& nI 63 = nI w.1.length := encL_len hl (fun q => hm ((encL_neg hl).mp q))
theorem ix_S {sc r : Nat} : sc * (r + 1) + 0 = sc * r + sc := by rw [Nat.mul_succ, Nat.add_zero]
