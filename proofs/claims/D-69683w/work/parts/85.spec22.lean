/-! the plain side 22: doubles of whole numbers, their quotients -/
set_option maxRecDepth 100000
def sigV (V : Nat) : Nat := V * 2 ^ (52 - V.log2)
def bitsV (V : Nat) : Nat := (V.log2 + 1022) * 4503599627370496 + sigV V
theorem pw52 : (2 : Nat) ^ 52 = 4503599627370496 := by decide
theorem lg_le {V : Nat} (h0 : 0 < V) : 2 ^ V.log2 ≤ V := Nat.log2_self_le (by omega)
theorem lg_lt {V : Nat} (_ : 0 < V) : V < 2 ^ (V.log2 + 1) := Nat.lt_log2_self
theorem lg_53 {V : Nat} (h0 : 0 < V) (h : V < 9007199254740992) : V.log2 ≤ 52 := by
  have := (Nat.log2_lt (n := V) (k := 53) (by omega)).mpr (by rw [show (2 : Nat) ^ 53 = 9007199254740992 by decide]; exact h)
  omega
theorem sig_b {V : Nat} (h0 : 0 < V) (h : V < 9007199254740992) : 4503599627370496 ≤ sigV V ∧ sigV V < 9007199254740992 := by
  have h1 := lg_53 h0 h
  unfold sigV
  constructor
  · have := Nat.mul_le_mul_right (2 ^ (52 - V.log2)) (lg_le h0)
    rw [← Nat.pow_add, show V.log2 + (52 - V.log2) = 52 by omega, pw52] at this
    exact this
  · have := (Nat.mul_lt_mul_right (a := 2 ^ (52 - V.log2)) (Nat.two_pow_pos _)).mpr (lg_lt h0)
    rw [← Nat.pow_add, show V.log2 + 1 + (52 - V.log2) = 53 by omega, show (2 : Nat) ^ 53 = 9007199254740992 by decide] at this
    exact this
theorem fm : FP.Core.b64.qmin = -1074 ∧ FP.Core.b64.qmax = 971 ∧ FP.Core.b64.tails = 4503599627370496 ∧ FP.Core.b64.exps = 2048 ∧ FP.Core.b64.p = 53 := by decide
theorem near1 (n : Nat) : FP.Core.nearest n 1 = n := by
  unfold FP.Core.nearest
  rw [Nat.mod_one, Nat.div_one, if_pos (by omega)]
/-- what is settled in the range of the normal ones -/
theorem enc_settle {c : Nat} {q : Int} (h1 : 4503599627370496 ≤ c) (h2 : c ≤ 9007199254740992) (h3 : -1074 ≤ q) (h4 : q + 1 ≤ 971) : FP.Core.encode FP.Core.b64 (FP.Core.settle FP.Core.b64 false c q) = (q + 1074).toNat * 4503599627370496 + c := by
  obtain ⟨f1, f2, f3, f4, f5⟩ := fm
  unfold FP.Core.settle FP.Core.bound
  rw [f5, f2, f3, show (2 : Nat) ^ 53 = 9007199254740992 by decide]
  by_cases h : c < 9007199254740992
  · rw [if_pos h, if_pos (by omega)]
    unfold FP.Core.encode FP.Core.assemble
    dsimp only
    rw [f1, f3, f4, if_neg (by omega)]
    show (0 * 2048 + ((q - -1074).toNat + 1)) * 4503599627370496 + (c - 4503599627370496) = _
    rw [show q - -1074 = q + 1074 by omega]
    omega
  · rw [if_neg h, if_pos (by omega)]
    unfold FP.Core.encode FP.Core.assemble
    dsimp only
    rw [f1, f3, f4, if_neg (by omega)]
    show (0 * 2048 + ((q + 1 - -1074).toNat + 1)) * 4503599627370496 + (4503599627370496 - 4503599627370496) = _
    rw [show (q + 1 - -1074).toNat = (q + 1074).toNat + 1 by omega]
    omega
theorem lead1 {V : Nat} (h0 : 0 < V) : FP.Core.leading V 1 = V.log2 := by
  unfold FP.Core.leading
  have e : (1 : Nat).log2 = 0 := by decide
  rw [e]
  dsimp only
  rw [show ((V.log2 : Int) - ((0 : Nat) : Int)) = (V.log2 : Int) by omega, Int.toNat_natCast, show (-(V.log2 : Int)).toNat = 0 by omega, if_pos (by have := lg_le h0; omega)]
theorem fp_of {V : Nat} (h0 : 0 < V) (h : V < 9007199254740992) : FP.Core.fromInt FP.Core.b64 (V : Int) = bitsV V := by
  obtain ⟨f1, f2, f3, f4, f5⟩ := fm
  have h1 := lg_53 h0 h
  have h2 := sig_b h0 h
  unfold FP.Core.fromInt FP.Core.ofInt FP.Core.round
  rw [decide_eq_false (by omega), Int.natAbs_natCast]
  dsimp only
  unfold FP.Core.roundRatio FP.Core.roundAt FP.Core.quantum
  rw [if_neg (by omega), lead1 h0, f1, f5, show max (-1074 : Int) ((V.log2 : Int) + 0 - (((53 : Nat) : Int) - 1)) = (V.log2 : Int) - 52 by omega]
  unfold FP.Core.unitsNum FP.Core.unitsDen
  rw [show ((0 : Int) - ((V.log2 : Int) - 52)).toNat = 52 - V.log2 by omega, show ((V.log2 : Int) - 52 - 0).toNat = 0 by omega, Nat.pow_zero, Nat.mul_one, near1]
  show FP.Core.encode FP.Core.b64 (FP.Core.settle FP.Core.b64 false (sigV V) _) = _
  rw [enc_settle h2.1 (by omega) (by omega) (by omega), show ((V.log2 : Int) - 52 + 1074).toNat = V.log2 + 1022 by omega]
  rfl
theorem fp_dec {V : Nat} (h0 : 0 < V) (h : V < 9007199254740992) : FP.Core.decode FP.Core.b64 (bitsV V) = .fin false (sigV V) ((V.log2 : Int) - 52) := by
  obtain ⟨f1, f2, f3, f4, f5⟩ := fm
  have h1 := lg_53 h0 h
  have h2 := sig_b h0 h
  have eB : bitsV V = (V.log2 + 1023) * 4503599627370496 + (sigV V - 4503599627370496) := by unfold bitsV; omega
  have d1 : bitsV V / 4503599627370496 = V.log2 + 1023 := by omega
  have eT : FP.Core.fieldT FP.Core.b64 (bitsV V) = sigV V - 4503599627370496 := by unfold FP.Core.fieldT; rw [f3]; omega
  have eE : FP.Core.fieldE FP.Core.b64 (bitsV V) = V.log2 + 1023 := by unfold FP.Core.fieldE; rw [f3, f4, d1]; omega
  have eS : FP.Core.fieldS FP.Core.b64 (bitsV V) = false := by unfold FP.Core.fieldS; rw [f3, f4, d1, show (V.log2 + 1023) / 2048 = 0 by omega]; rfl
  unfold FP.Core.decode
  rw [eE, eS, eT, f3, f4, f1, if_neg (by omega), if_neg (by omega), show 4503599627370496 + (sigV V - 4503599627370496) = sigV V by omega, show (-1074 : Int) + (((V.log2 + 1023 : Nat) : Int) - 1) = (V.log2 : Int) - 52 by omega]
/-- Soft.rounded in the range of the normal ones -/
def nx (m : Nat) : Nat := m * 2 ^ (61 - m.log2)
def rq (m more : Nat) : Nat := if 256 < nx m % 512 ∨ (nx m % 512 = 256 ∧ (more = 1 ∨ nx m / 512 % 2 = 1)) then nx m / 512 + 1 else nx m / 512
def rB (m : Nat) (e : Int) (more : Nat) : Nat := (e + (m.log2 : Int) + 1022).toNat * 4503599627370496 + rq m more
def dvQ (V W : Nat) : Nat := sigV V * 72057594037927936 / sigV W
def dvR (V W : Nat) : Nat := if sigV V * 72057594037927936 % sigV W = 0 then 0 else 1
def divB (V W : Nat) : Nat := rB (dvQ V W) ((V.log2 : Int) - (W.log2 : Int) - 56) (dvR V W)
theorem rB_of {V : Nat} (h0 : 0 < V) (h : V < 9007199254740992) : rB V 0 0 = bitsV V := by
  have h1 := lg_53 h0 h
  have e : nx V = sigV V * 512 := by
    unfold nx sigV
    rw [Nat.mul_assoc, show (512 : Nat) = 2 ^ 9 by decide, ← Nat.pow_add, show 52 - V.log2 + 9 = 61 - V.log2 by omega]
  unfold rB rq bitsV
  rw [e, Nat.mul_mod_left, Nat.mul_div_cancel _ (by decide), if_neg (by omega), show ((0 : Int) + (V.log2 : Int) + 1022).toNat = V.log2 + 1022 by omega]
theorem near_q {N d k h : Nat} (hd : 0 < d) (hk : k = 2 * h) (hh : 0 < h) : FP.Core.nearest N d = if h < k * N / d % k ∨ (k * N / d % k = h ∧ (k * N % d ≠ 0 ∨ k * N / d / k % 2 = 1)) then k * N / d / k + 1 else k * N / d / k := by
  have e0 : k * N / d / k = N / d := by
    rw [Nat.div_div_eq_div_mul, Nat.mul_comm d k, Nat.mul_div_mul_left _ _ (by omega)]
  have e1 := Nat.div_add_mod (k * N) d
  have e2 := Nat.div_add_mod (k * N / d) k
  have e3 := Nat.div_add_mod N d
  have l1 := Nat.mod_lt (k * N) hd
  have l2 := Nat.mod_lt N hd
  generalize hq : k * N / d = q at *
  generalize hR : k * N % d = R at *
  generalize hm : q % k = m at *
  generalize hr : N % d = r at *
  have e4 : k * r = d * m + R := by
    have a1 : k * N = k * (d * (N / d)) + k * r := by rw [← Nat.mul_add, e3]
    have a2 : d * q = d * (k * (q / k)) + d * m := by rw [← Nat.mul_add, e2]
    have a3 : d * (k * (q / k)) = k * (d * (N / d)) := by rw [e0, Nat.mul_left_comm]
    omega
  have e5 : 2 * (h * r) = d * m + R := by rw [← e4, hk, Nat.mul_assoc]
  unfold FP.Core.nearest
  rw [hr, e0]
  rcases Nat.lt_trichotomy m h with c | c | c
  · have b1 : d * m + d ≤ d * h := by rw [← Nat.mul_succ]; exact Nat.mul_le_mul_left d c
    have b2 : h * (2 * r) < h * d := by rw [Nat.mul_left_comm, Nat.mul_comm h d]; omega
    rw [if_pos (Nat.lt_of_mul_lt_mul_left b2), if_neg (by omega)]
  · subst c
    have b0 : m * (2 * r) = m * d + R := by rw [Nat.mul_left_comm, Nat.mul_comm m d]; omega
    have b2 : d ≤ 2 * r := Nat.le_of_mul_le_mul_left (by omega : m * d ≤ m * (2 * r)) hh
    by_cases z : R = 0
    · have b3 : 2 * r = d := Nat.eq_of_mul_eq_mul_left hh (by omega)
      rw [if_neg (by omega), if_neg (by omega)]
      rcases Nat.mod_two_eq_zero_or_one (N / d) with y | y
      · rw [if_neg (by omega)]; omega
      · rw [if_pos (by omega)]; omega
    · have b3 : d < 2 * r := Nat.lt_of_mul_lt_mul_left (a := m) (by omega)
      rw [if_neg (by omega), if_pos b3, if_pos (by omega)]
  · have b1 : d * h + d ≤ d * m := by rw [← Nat.mul_succ]; exact Nat.mul_le_mul_left d c
    have b2 : h * d < h * (2 * r) := by rw [Nat.mul_left_comm h 2 r, Nat.mul_comm h d]; omega
    have b3 : d < 2 * r := Nat.lt_of_mul_lt_mul_left b2
    rw [if_neg (by omega), if_pos b3, if_pos (by omega)]
theorem lg_is {n k : Nat} (h1 : 2 ^ k ≤ n) (h2 : n < 2 ^ (k + 1)) : n.log2 = k := by
  have h0 : n ≠ 0 := by have := Nat.two_pow_pos k; omega
  have a := (Nat.log2_lt h0).mpr h2
  have b := (Nat.le_log2 h0).mpr h1
  omega
theorem lg52 {c : Nat} (h1 : 4503599627370496 ≤ c) (h2 : c < 9007199254740992) : c.log2 = 52 := lg_is (by rw [pw52]; exact h1) (by rw [show (2 : Nat) ^ (52 + 1) = 9007199254740992 by decide]; exact h2)
theorem lead_g {c d : Nat} (h1 : 4503599627370496 ≤ c ∧ c < 9007199254740992) (h2 : 4503599627370496 ≤ d ∧ d < 9007199254740992) : FP.Core.leading c d = if d ≤ c then 0 else -1 := by
  unfold FP.Core.leading
  rw [lg52 h1.1 h1.2, lg52 h2.1 h2.2]
  dsimp only
  rw [show ((52 : Nat) : Int) - ((52 : Nat) : Int) = 0 by omega, show (0 : Int).toNat = 0 from rfl, show (-(0 : Int)).toNat = 0 from rfl, Nat.pow_zero, Nat.mul_one, Nat.mul_one]
  rfl
theorem div_b {c d k : Nat} (h1 : 4503599627370496 ≤ c ∧ c < 9007199254740992) (h2 : 4503599627370496 ≤ d ∧ d < 9007199254740992) : (d ≤ c → k ≤ c * k / d ∧ c * k / d < 2 * k + (if k = 0 then 1 else 0)) ∧ (c < d → k ≤ 2 * (c * k / d) + 1 ∧ c * k / d ≤ k) := by
  refine ⟨fun h => ⟨(Nat.le_div_iff_mul_le (by omega)).mpr (by rw [Nat.mul_comm k d]; exact Nat.mul_le_mul_right k h), ?_⟩, fun h => ⟨?_, ?_⟩⟩
  · by_cases z : k = 0
    · subst z; rw [if_pos rfl, Nat.mul_zero, Nat.zero_div]; omega
    · rw [if_neg z]
      refine (Nat.div_lt_iff_lt_mul (by omega)).mpr ?_
      have : c * k < (2 * d) * k := (Nat.mul_lt_mul_right (by omega)).mpr (by omega)
      rw [Nat.mul_right_comm] at this
      rw [Nat.add_zero]
      exact this
  · have a1 := Nat.div_add_mod (c * k) d
    have a2 := Nat.mod_lt (c * k) (show 0 < d by omega)
    refine Nat.le_of_lt_succ (Nat.lt_of_mul_lt_mul_left (a := d) ?_)
    have a3 : d * k ≤ (2 * c) * k := Nat.mul_le_mul_right k (by omega)
    rw [Nat.mul_assoc] at a3
    have a4 : d * (2 * (c * k / d) + 1).succ = 2 * (d * (c * k / d)) + 2 * d := by
      rw [show (2 * (c * k / d) + 1).succ = 2 * (c * k / d) + 2 by omega, Nat.mul_add, Nat.mul_left_comm, Nat.mul_comm d 2]
    omega
  · refine Nat.div_le_of_le_mul ?_
    rw [Nat.mul_comm d k, Nat.mul_comm c k]
    exact Nat.mul_le_mul_left k (by omega)
theorem div_lt1 {c d k : Nat} (hk : 0 < k) (h : c < d) : c * k / d < k := by
  refine (Nat.div_lt_iff_lt_mul (by omega)).mpr ?_
  rw [Nat.mul_comm k d]
  exact (Nat.mul_lt_mul_right hk).mpr h
theorem rB_q {c d j h k t : Nat} {e : Int} (hd : 0 < d) (hk : k = 2 * h) (hh : 0 < h) (hj : 72057594037927936 = k * j) (hc : 256 = t * h) (hl : (c * 72057594037927936 / d).log2 + t.log2 = 61) (ht : 2 ^ t.log2 = t) (ht0 : 0 < t) (ho : 512 = t * k) : rB (c * 72057594037927936 / d) e (if c * 72057594037927936 % d = 0 then 0 else 1) = (e + ((c * 72057594037927936 / d).log2 : Int) + 1022).toNat * 4503599627370496 + FP.Core.nearest (c * j) d := by
  have e1 : c * 72057594037927936 = k * (c * j) := by rw [hj, Nat.mul_left_comm]
  unfold rB
  congr 1
  rw [near_q hd hk hh, ← e1]
  unfold rq
  have e2 : nx (c * 72057594037927936 / d) = t * (c * 72057594037927936 / d) := by
    unfold nx
    rw [show 61 - (c * 72057594037927936 / d).log2 = t.log2 by omega, ht, Nat.mul_comm]
  rw [e2]
  generalize c * 72057594037927936 / d = q
  generalize c * 72057594037927936 % d = R
  have e3 : t * q / 512 = q / k := by rw [ho, Nat.mul_div_mul_left _ _ ht0]
  have e4 : t * q % 512 = t * (q % k) := by rw [ho, Nat.mul_mod_mul_left]
  rw [e3, e4]
  have c1 : 256 < t * (q % k) ↔ h < q % k := by rw [hc]; exact Nat.mul_lt_mul_left ht0
  have c2 : t * (q % k) = 256 ↔ q % k = h := by rw [hc]; exact ⟨fun z => Nat.eq_of_mul_eq_mul_left ht0 z, fun z => by rw [z]⟩
  have c3 : (if R = 0 then 0 else 1) = 1 ↔ R ≠ 0 := by
    by_cases z : R = 0
    · rw [if_pos z]; exact ⟨fun y => absurd y (by decide), fun y => absurd z y⟩
    · rw [if_neg z]; exact ⟨fun _ => z, fun _ => rfl⟩
  simp only [c1, c2, c3]
theorem fp_div {V W : Nat} (hV0 : 0 < V) (hV : V < 9007199254740992) (hW0 : 0 < W) (hW : W < 9007199254740992) : FP.Core.div FP.Core.b64 (bitsV V) (bitsV W) = divB V W := by
  obtain ⟨f1, f2, f3, f4, f5⟩ := fm
  have l1 := lg_53 hV0 hV
  have l2 := lg_53 hW0 hW
  have s1 := sig_b hV0 hV
  have s2 := sig_b hW0 hW
  unfold FP.Core.div
  rw [fp_dec hV0 hV, fp_dec hW0 hW]
  unfold FP.Core.quotient
  dsimp only
  rw [if_neg (by omega)]
  unfold FP.Core.roundRatio FP.Core.roundAt FP.Core.quantum
  rw [if_neg (by omega), lead_g s1 s2, f1, f5]
  unfold divB dvQ dvR
  generalize sigV V = c at *
  generalize sigV W = d at *
  have hb := div_b (k := 72057594037927936) s1 s2
  have hb0 := div_b (k := 4503599627370496) s1 s2
  have hb1 := div_b (k := 9007199254740992) s1 s2
  have en : ∀ n : Nat, FP.Core.nearest n d = n / d ∨ FP.Core.nearest n d = n / d + 1 := by
    intro n
    unfold FP.Core.nearest
    split
    · exact Or.inl rfl
    · split
      · exact Or.inr rfl
      · rcases Nat.mod_two_eq_zero_or_one (n / d) with y | y
        · rw [y]; exact Or.inl rfl
        · rw [y]; exact Or.inr rfl
  show FP.Core.encode FP.Core.b64 (FP.Core.settle FP.Core.b64 false _ _) = _
  by_cases h : d ≤ c
  · have hb := hb.1 h
    have hb0 := hb0.1 h
    rw [if_neg (by decide)] at hb hb0
    have lq : (c * 72057594037927936 / d).log2 = 56 := lg_is (by rw [show (2 : Nat) ^ 56 = 72057594037927936 by decide]; omega) (by rw [show (2 : Nat) ^ (56 + 1) = 144115188075855872 by decide]; omega)
    rw [rB_q (k := 16) (h := 8) (j := 4503599627370496) (t := 32) (by omega) (by decide) (by decide) (by decide) (by decide) (by rw [lq, show (32 : Nat).log2 = 5 by decide]) (by decide) (by decide) (by decide), lq]
    rw [if_pos h, show max (-1074 : Int) (0 + ((V.log2 : Int) - 52 - ((W.log2 : Int) - 52)) - (((53 : Nat) : Int) - 1)) = (V.log2 : Int) - (W.log2 : Int) - 52 by omega]
    unfold FP.Core.unitsNum FP.Core.unitsDen
    rw [show ((V.log2 : Int) - 52 - ((W.log2 : Int) - 52) - ((V.log2 : Int) - (W.log2 : Int) - 52)).toNat = 52 by omega, show ((V.log2 : Int) - (W.log2 : Int) - 52 - ((V.log2 : Int) - 52 - ((W.log2 : Int) - 52))).toNat = 0 by omega, Nat.pow_zero, Nat.mul_one, pw52]
    have := en (c * 4503599627370496)
    rw [enc_settle (by omega) (by omega) (by omega) (by omega), show ((V.log2 : Int) - (W.log2 : Int) - 52 + 1074).toNat = ((V.log2 : Int) - (W.log2 : Int) - 56 + ((56 : Nat) : Int) + 1022).toNat by omega]
  · have hb := hb.2 (by omega)
    have hl := div_lt1 (c := c) (d := d) (k := 72057594037927936) (by decide) (by omega)
    have hl1 := div_lt1 (c := c) (d := d) (k := 9007199254740992) (by decide) (by omega)
    have hb1 := hb1.2 (by omega)
    have lq : (c * 72057594037927936 / d).log2 = 55 := lg_is (by rw [show (2 : Nat) ^ 55 = 36028797018963968 by decide]; omega) (by rw [show (2 : Nat) ^ (55 + 1) = 72057594037927936 by decide]; exact hl)
    rw [rB_q (k := 8) (h := 4) (j := 9007199254740992) (t := 64) (by omega) (by decide) (by decide) (by decide) (by decide) (by rw [lq, show (64 : Nat).log2 = 6 by decide]) (by decide) (by decide) (by decide), lq]
    rw [if_neg h, show max (-1074 : Int) (-1 + ((V.log2 : Int) - 52 - ((W.log2 : Int) - 52)) - (((53 : Nat) : Int) - 1)) = (V.log2 : Int) - (W.log2 : Int) - 53 by omega]
    unfold FP.Core.unitsNum FP.Core.unitsDen
    rw [show ((V.log2 : Int) - 52 - ((W.log2 : Int) - 52) - ((V.log2 : Int) - (W.log2 : Int) - 53)).toNat = 53 by omega, show ((V.log2 : Int) - (W.log2 : Int) - 53 - ((V.log2 : Int) - 52 - ((W.log2 : Int) - 52))).toNat = 0 by omega, Nat.pow_zero, Nat.mul_one, show (2 : Nat) ^ 53 = 9007199254740992 by decide]
    have := en (c * 9007199254740992)
    rw [enc_settle (by omega) (by omega) (by omega) (by omega), show ((V.log2 : Int) - (W.log2 : Int) - 53 + 1074).toNat = ((V.log2 : Int) - (W.log2 : Int) - 56 + ((55 : Nat) : Int) + 1022).toNat by omega]
/-- bounds -/
theorem divB_b {V W : Nat} (hV0 : 0 < V) (hV : V < 9007199254740992) (hW0 : 0 < W) (hW : W < 9007199254740992) : 4503599627370496 ≤ divB V W ∧ divB V W < 9214364837600034816 := by
  have l1 := lg_53 hV0 hV
  have l2 := lg_53 hW0 hW
  have s1 := sig_b hV0 hV
  have s2 := sig_b hW0 hW
  have hb := div_b (k := 72057594037927936) s1 s2
  unfold divB rB dvQ
  have lq : (sigV V * 72057594037927936 / sigV W).log2 = 55 ∨ (sigV V * 72057594037927936 / sigV W).log2 = 56 := by
    by_cases h : sigV W ≤ sigV V
    · have hb := hb.1 h
      rw [if_neg (by decide)] at hb
      exact Or.inr (lg_is (by rw [show (2 : Nat) ^ 56 = 72057594037927936 by decide]; omega) (by rw [show (2 : Nat) ^ (56 + 1) = 144115188075855872 by decide]; omega))
    · have hb := hb.2 (by omega)
      have hl := div_lt1 (c := sigV V) (d := sigV W) (k := 72057594037927936) (by decide) (by omega)
      exact Or.inl (lg_is (by rw [show (2 : Nat) ^ 55 = 36028797018963968 by decide]; omega) (by rw [show (2 : Nat) ^ (55 + 1) = 72057594037927936 by decide]; exact hl))
  generalize hq : sigV V * 72057594037927936 / sigV W = q at *
  have hq0 : 0 < q := by rcases Nat.eq_zero_or_pos q with z | z; subst z; rcases lq with y | y <;> exact absurd y (by decide); exact z
  have hnx : 2305843009213693952 ≤ nx q ∧ nx q < 4611686018427387904 := by
    unfold nx
    constructor
    · have := Nat.mul_le_mul_right (2 ^ (61 - q.log2)) (lg_le hq0)
      rw [← Nat.pow_add, show q.log2 + (61 - q.log2) = 61 by omega, show (2 : Nat) ^ 61 = 2305843009213693952 by decide] at this
      exact this
    · have := (Nat.mul_lt_mul_right (a := 2 ^ (61 - q.log2)) (Nat.two_pow_pos _)).mpr (lg_lt hq0)
      rw [← Nat.pow_add, show q.log2 + 1 + (61 - q.log2) = 62 by omega, show (2 : Nat) ^ 62 = 4611686018427387904 by decide] at this
      exact this
  have hrq : 4503599627370496 ≤ rq q (dvR V W) ∧ rq q (dvR V W) ≤ 9007199254740992 := by
    unfold rq
    split <;> omega
  constructor
  · omega
  · have : ((V.log2 : Int) - (W.log2 : Int) - 56 + (q.log2 : Int) + 1022).toNat ≤ 1074 := by omega
    omega
theorem bits_b {V : Nat} (h0 : 0 < V) (h : V < 9007199254740992) : 0 < bitsV V ∧ bitsV V < 9214364837600034816 ∧ bitsV V / 4503599627370496 = V.log2 + 1023 ∧ bitsV V % 4503599627370496 + 4503599627370496 = sigV V := by
  have h1 := lg_53 h0 h
  have h2 := sig_b h0 h
  unfold bitsV
  refine ⟨by omega, by omega, by omega, by omega⟩
theorem u64_tn {n : Nat} (h : n < 9223372036854775808) : (UInt64.ofNat n).toNat = n := Nat.mod_eq_of_lt (by omega)
theorem ten_bits : ∀ b, b < 15 → tenD b = UInt64.ofNat (bitsV (10 ^ b)) := by decide +kernel
theorem ten_b : ∀ b, b < 15 → 0 < 10 ^ b ∧ 10 ^ b < 9007199254740992 := by decide +kernel
theorem quo_0 : ∀ b, b < 15 → quoD 0 b = 0 := by decide +kernel
theorem quo_is {V b : Nat} (h0 : 0 < V) (h : V < 9007199254740992) (hb : b < 15) : quoD V b = UInt64.ofNat (divB V (10 ^ b)) := by
  have ht := ten_b b hb
  have e1 : FP.l2d (lN V) = UInt64.ofNat (bitsV V) := by
    show UInt64.ofNat (FP.Core.fromInt FP.Core.b64 (lN V).toInt) = _
    rw [pk_lT (by omega), fp_of h0 h]
  have b1 := bits_b h0 h
  have b2 := bits_b ht.1 ht.2
  unfold quoD
  rw [e1, ten_bits b hb]
  show UInt64.ofNat (FP.Core.div FP.Core.b64 (UInt64.ofNat (bitsV V)).toNat (UInt64.ofNat (bitsV (10 ^ b))).toNat) = _
  rw [u64_tn (by omega), u64_tn (by omega), fp_div h0 h ht.1 ht.2]
/-- the bits that the reference tells -/
def decB (V b : Nat) : Nat := if V = 0 then 0 else divB V (10 ^ b)
theorem decB_lt {V b : Nat} (h : V < 9007199254740992) (hb : b < 15) : decB V b < 9214364837600034816 := by
  unfold decB
  split
  · decide
  · exact (divB_b (by omega) h (ten_b b hb).1 (ten_b b hb).2).2
theorem quo_b {V b : Nat} (h : V < 9007199254740992) (hb : b < 15) : quoD V b = UInt64.ofNat (decB V b) := by
  unfold decB
  by_cases z : V = 0
  · rw [if_pos z, z]; exact quo_0 b hb
  · rw [if_neg z]; exact quo_is (by omega) h hb
theorem quo_l {V b : Nat} (h : V < 9007199254740992) (hb : b < 15) : (quoD V b).toInt64 = lN (decB V b) := by rw [quo_b h hb]; rfl
theorem quo_m {V b : Nat} (h : V < 9007199254740992) (hb : b < 15) : (FP.dneg (quoD V b)).toInt64 = lN (decB V b) ^^^ (-9223372036854775808) := by
  rw [← quo_l h hb]
  apply Int64.toBitVec_inj.mp
  rw [Int64.toBitVec_xor]
  rfl
theorem quo_nn {V b : Nat} (h : V < 9007199254740992) (hb : b < 15) : vf_n64 (quoD V b) := by
  unfold vf_n64
  have hl := decB_lt h hb
  rw [quo_b h hb, UInt64.le_iff_toNat_le, UInt64.toNat_and, u64_tn (by omega)]
  have : decB V b &&& (0x7fffffffffffffff : UInt64).toNat ≤ decB V b := Nat.and_le_left
  have e : (0x7ff0000000000000 : UInt64).toNat = 9218868437227405312 := by decide
  omega
/-! longs of the soft numbers -/
theorem bw_shl1 (x : Nat) : lN x <<< ((nI 1).toInt64 &&& 63) = lN (x * 2) := by rw [wb_shl x (by decide), Nat.pow_one]
theorem bw_shl52 (x : Nat) : lN x <<< ((nI 52).toInt64 &&& 63) = lN (x * 4503599627370496) := by rw [wb_shl x (by decide), pw52]
theorem bw_shl9 : lN 1 <<< ((nI 9).toInt64 &&& 63) = lN 512 := by decide +kernel
theorem bw_shl8 : lN 1 <<< ((nI 8).toInt64 &&& 63) = lN 256 := by decide +kernel
theorem bw_ush9 {x : Nat} (h : x < 9223372036854775808) : ((lN x).toUInt64 >>> ((nI 9).toInt64.toUInt64 &&& Int64.toUInt64 63)).toInt64 = lN (x / 512) := by rw [wb_shr (by omega) (by decide)]
theorem bw_shr52 {a : Nat} (h : a < 9223372036854775808) : lN a >>> ((nI 52).toInt64 &&& 63) = lN (a / 4503599627370496) := by
  have hD : (((nI 52).toInt64 &&& 63).toBitVec.smod 64).toNat = 52 := by decide +kernel
  have hd : a / 2 ^ 52 ≤ a := Nat.div_le_self _ _
  rw [← pw52]
  apply Int64.toInt_inj.mp
  have e : (lN a >>> ((nI 52).toInt64 &&& 63)).toInt = (lN a).toInt >>> 52 := by
    rw [← hD]
    exact BitVec.toInt_sshiftRight ..
  rw [e, Int.shiftRight_eq_div_pow, pk_lT (by omega), pk_lT (by omega)]
  rfl
theorem bw_m52 {x : Nat} (h : x < 9223372036854775808) : lN x &&& lN 4503599627370495 = lN (x % 4503599627370496) := wb_mask (k := 52) (by omega) (by decide)
theorem bw_m11 {x : Nat} (h : x < 9223372036854775808) : lN x &&& lN 2047 = lN (x % 2048) := wb_mask (k := 11) (by omega) (by decide)
theorem bw_m9 {x : Nat} (h : x < 9223372036854775808) : lN x &&& lN 511 = lN (x % 512) := wb_mask (k := 9) (by omega) (by decide)
theorem bw_m1 {x : Nat} (h : x < 9223372036854775808) : lN x &&& lN 1 = lN (x % 2) := wb_mask (k := 1) (by omega) (by decide)
theorem bw_m63 {x : Nat} (h : x < 9223372036854775808) : lN x &&& lN 9223372036854775807 = lN x := by
  have := wb_mask (n := x) (k := 63) (by omega) (by decide)
  rw [Nat.mod_eq_of_lt (by omega)] at this
  exact this
theorem bw_or1 {q : Nat} (h : q < 4611686018427387904) : lN (q * 2) ||| lN 1 = lN (q * 2 + 1) := g_or (k := 1) (p := 2) (by decide) (by decide) (by omega)
theorem bw_orH {x : Nat} (h : x < 4503599627370496) : lN x ||| lN 4503599627370496 = lN (x + 4503599627370496) := by
  have := g_or' (k := 52) (p := 4503599627370496) (a := x) (b := 1) (by decide) h (by omega)
  rw [Nat.one_mul] at this
  exact this
theorem bw_sgn {a b : Nat} (ha : a < 9223372036854775808) (hb : b < 9223372036854775808) : (lN a ^^^ lN b) &&& (-9223372036854775808) = lN 0 := by
  have e : lN a ^^^ lN b = lN (a ^^^ b) := by
    apply wb_inj
    rw [Int64.toBitVec_xor, wb_tb, wb_tb, wb_tb]
    apply BitVec.eq_of_toNat_eq
    have := Nat.xor_lt_two_pow (n := 63) (x := a) (y := b) (by omega) (by omega)
    rw [BitVec.toNat_xor, BitVec.toNat_ofNat, BitVec.toNat_ofNat, BitVec.toNat_ofNat, Nat.mod_eq_of_lt (by omega), Nat.mod_eq_of_lt (by omega), Nat.mod_eq_of_lt (by omega)]
  have hx := Nat.xor_lt_two_pow (n := 63) (x := a) (y := b) (by omega) (by omega)
  rw [e, show (-9223372036854775808 : Int64) = lN (2 ^ 63) from by decide +kernel, wb_and (by omega) (by decide)]
  congr 1
  apply Nat.eq_of_testBit_eq
  intro i
  rw [Nat.testBit_and, Nat.testBit_two_pow, Nat.zero_testBit]
  by_cases q : 63 = i
  · subst q; rw [Nat.testBit_lt_two_pow hx]; rfl
  · simp [q]
def iZ (z : Int) : Int32 := Int32.ofInt z
theorem iZ_n (n : Nat) : nI n = iZ n := by
  apply Int32.toBitVec_inj.mp
  rfl
theorem iZ_add (a b : Int) : iZ a + iZ b = iZ (a + b) := (Int32.ofInt_add a b).symm
theorem iZ_sub (a b : Int) : iZ a - iZ b = iZ (a - b) := (Int32.ofInt_sub a b).symm
theorem iZ_dec (a : Int) : iZ a + (-1) = iZ (a - 1) := by rw [show (-1 : Int32) = iZ (-1) from by decide, iZ_add]; rfl
theorem iZ_addn (a : Int) (n : Nat) : iZ a + nI n = iZ (a + n) := by rw [iZ_n, iZ_add]
theorem iZ_subn (a : Int) (n : Nat) : iZ a - nI n = iZ (a - n) := by rw [iZ_n, iZ_sub]
theorem iZ_nn {z : Int} {n : Nat} (h : z = n) : iZ z = nI n := by rw [h, iZ_n]
theorem iZ_e (f : Nat) : nI f - nI 1075 = iZ ((f : Int) - 1075) := by rw [iZ_n, iZ_n, iZ_sub]; rfl
/-- the digits come to -/
theorem nx_b {m k x : Nat} (h0 : 0 < m) (hx : x = m * 2 ^ k) (hk : m.log2 + k ≤ 61) : (x < 2305843009213693952 → m.log2 + k < 61) ∧ (2305843009213693952 ≤ x → m.log2 + k = 61) ∧ x < 4611686018427387904 := by
  have a1 := Nat.mul_le_mul_right (2 ^ k) (lg_le h0)
  have a2 := (Nat.mul_lt_mul_right (a := 2 ^ k) (Nat.two_pow_pos _)).mpr (lg_lt h0)
  rw [← Nat.pow_add, ← hx] at a1 a2
  have e61 : (2 : Nat) ^ 61 = 2305843009213693952 := by decide
  have e62 : (2 : Nat) ^ 62 = 4611686018427387904 := by decide
  refine ⟨fun h => ?_, fun h => ?_, ?_⟩
  · rcases Nat.lt_or_eq_of_le hk with q | q
    · exact q
    · rw [q, e61] at a1; omega
  · rcases Nat.lt_or_eq_of_le hk with q | q
    · have := Nat.pow_le_pow_right (show 0 < 2 by decide) (show m.log2 + 1 + k ≤ 61 by omega)
      rw [e61] at this; omega
    · exact q
  · have := Nat.pow_le_pow_right (show 0 < 2 by decide) (show m.log2 + 1 + k ≤ 62 by omega)
    rw [e62] at this; omega
theorem nx_x {m k x : Nat} (hx : x = m * 2 ^ k) (hk : m.log2 + k = 61) : x = nx m := by
  unfold nx
  rw [hx, show 61 - m.log2 = k by omega]
/-- the division's turns -/
theorem dv_exit {c d q r : Nat} (hd : 0 < d) (h : c * 144115188075855872 = 2 * (d * q) + r) (hr : r < 2 * d) : q = c * 72057594037927936 / d ∧ (r = 0 ↔ c * 72057594037927936 % d = 0) := by
  have h2 : c * 144115188075855872 = 2 * (c * 72057594037927936) := by omega
  have h3 : (c * 72057594037927936 - d * q) + d * q = c * 72057594037927936 ∧ c * 72057594037927936 - d * q < d := by omega
  have := (Nat.div_mod_unique hd).mpr h3
  exact ⟨this.1.symm, by rw [this.2]; omega⟩
theorem lgq {V W : Nat} (hV0 : 0 < V) (hV : V < 9007199254740992) (hW0 : 0 < W) (hW : W < 9007199254740992) : 0 < dvQ V W ∧ dvQ V W < 4611686018427387904 ∧ ((dvQ V W).log2 = 55 ∨ (dvQ V W).log2 = 56) := by
  have s1 := sig_b hV0 hV
  have s2 := sig_b hW0 hW
  have hb := div_b (k := 72057594037927936) s1 s2
  unfold dvQ
  by_cases h : sigV W ≤ sigV V
  · have hb := hb.1 h
    rw [if_neg (by decide)] at hb
    exact ⟨by omega, by omega, Or.inr (lg_is (by rw [show (2 : Nat) ^ 56 = 72057594037927936 by decide]; omega) (by rw [show (2 : Nat) ^ (56 + 1) = 144115188075855872 by decide]; omega))⟩
  · have hb := hb.2 (by omega)
    have hl := div_lt1 (c := sigV V) (d := sigV W) (k := 72057594037927936) (by decide) (by omega)
    exact ⟨by omega, by omega, Or.inl (lg_is (by rw [show (2 : Nat) ^ 55 = 36028797018963968 by decide]; omega) (by rw [show (2 : Nat) ^ (55 + 1) = 72057594037927936 by decide]; omega))⟩
theorem dv_S {c d q r k : Nat} (h : c * 2 ^ k = 2 * (d * q) + r) : (d ≤ r → c * 2 ^ (k + 1) = 2 * (d * (q * 2 + 1)) + (r - d) * 2) ∧ c * 2 ^ (k + 1) = 2 * (d * (q * 2)) + r * 2 := by
  have e : c * 2 ^ (k + 1) = 2 * (c * 2 ^ k) := by rw [Nat.pow_succ, ← Nat.mul_assoc, Nat.mul_comm]
  have e2 : d * (q * 2) = 2 * (d * q) := by rw [← Nat.mul_assoc, Nat.mul_comm]
  rw [e, Nat.mul_add, e2, Nat.mul_one]
  constructor
  · intro hd; omega
  · omega
