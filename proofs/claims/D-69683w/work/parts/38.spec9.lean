/-! the plain side 9: a table out of what was read -/
set_option maxRecDepth 100000
theorem mul_pred {c r : Nat} (h : 1 ≤ r) : c * (r - 1) + c = c * r := by
  obtain ⟨n, rfl⟩ : ∃ n, r = n + 1 := ⟨r - 1, by omega⟩
  rw [Nat.add_sub_cancel, Nat.mul_succ]
theorem tNum_of {ns cs : List Wd} {c r wn : Nat} {wb : Nat → Int32} {f : Nat → Nat → Int32} (hc : c = ns.length) (h1 : 1 ≤ c) (hl : cs.length = c * r) (h0 : TD wb wn c (f 0) (f 1) (fun k => (ns ++ cs).getD (0 + k) ([], false))) (h2 : TD wb wn (c * r) (f 2) (f 3) (fun k => (ns ++ cs).getD (c + k) ([], false))) (h4 : ∀ j, j < c → f 4 j = nI (laneT c r (fun k => (ns ++ cs).getD (c + k) ([], false)) j)) : tCols (ns, cs) = c ∧ tRows (ns, cs) = r ∧ tNum (ns, cs) wb wn f := by
  have e1 : tCols (ns, cs) = c := hc.symm
  have e2 : tRows (ns, cs) = r := by
    show cs.length / ns.length = r
    rw [hl, ← hc, Nat.mul_comm, Nat.mul_div_cancel _ (by omega)]
  refine ⟨e1, e2, ?_⟩
  have e3 : ∀ k, (ns ++ cs).getD (c + k) ([], false) = cellW (ns, cs) k := fun k => by rw [hc, gD_app]; rfl
  unfold tNum
  rw [e1, e2]
  refine ⟨TD_ext h0 (fun k hk => ?_), TD_ext h2 (fun k _ => e3 k), fun k hk => ?_⟩
  · show (ns ++ cs).getD (0 + k) _ = ns.getD k _
    rw [Nat.zero_add, gD_l (by omega)]
  · rw [h4 k hk, laneT_ext hk (fun k _ => e3 k)]
