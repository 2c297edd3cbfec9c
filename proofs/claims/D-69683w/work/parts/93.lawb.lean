/-! THE LAW, base: what both worlds hold -/
set_option maxRecDepth 100000
def adP (ad : Nat → Nat) (a : Nat) : Prop := ∃ i, 20 < i ∧ ad i = a
def adL (ad : Nat → Nat) (ws : va_W) : Prop := ∀ x ∈ ws, adP ad x.1
theorem adL_c {ad : Nat → Nat} {a : Nat} {e : va_E} {ws : va_W} (h : adP ad a) (h2 : adL ad ws) : adL ad ((a, e) :: ws) := by
  intro x hx
  rcases List.mem_cons.mp hx with q | q
  · rw [q]; exact h
  · exact h2 x q
theorem adL_n {ad : Nat → Nat} : adL ad [] := fun x hx => absurd hx List.not_mem_nil
theorem tw_get {E : CE} {q : Nat → Nat} {cols rows : Nat} {f : Nat → Nat → Int32} {j : Nat} (hj : j < 6) : ∃ e, (tw E q cols rows f)[j]? = some (q j, e) := by
  rcases j with _ | _ | _ | _ | _ | _ | j
  · exact ⟨_, rfl⟩
  · exact ⟨_, rfl⟩
  · exact ⟨_, rfl⟩
  · exact ⟨_, rfl⟩
  · exact ⟨_, rfl⟩
  · exact ⟨_, rfl⟩
  · omega
theorem xw_get {E : CE} {ad : Nat → Nat} {F : XF} {O : XO} {S : XS} {T : XT} {P : XP} {R : XR} {i : Nat} (hi : i < 20) : ∃ e, (xw E ad F O S T P R)[i]? = some (ad i, e) := by
  rcases i with _ | _ | _ | _ | _ | _ | _ | _ | _ | _ | _ | _ | _ | _ | _ | _ | _ | _ | _ | _ | i
  all_goals first | exact ⟨_, rfl⟩ | omega
theorem xTab_k {E : CE} {ad : Nat → Nat} {wn : Nat} {r : Option Nat} {wb : Nat → Int32} {tb : Tab} {H H1 : Heap} {ws : va_W} (h : xTab E ad wn wb r tb H) (hL : adL ad ws) (hk : ∀ q : Nat, q < H.size → ¬ va_A ws H.size q → H1[q]? = H[q]?) : xTab E ad wn wb r tb H1 := by
  obtain ⟨q, f, a1, a2, a3, a4⟩ := h
  refine ⟨q, f, a1, a2, a3.kept (fun k x hx => hk x.1 ((a3 k x hx).lt) (fun hA => ?_)), a4⟩
  rcases hA with ⟨k', e, hk'⟩ | hA
  · obtain ⟨j, hj, ej⟩ := tw_adr hx
    obtain ⟨i, hi, ei⟩ := hL _ (List.mem_of_getElem? hk')
    exact a2 i (by omega) j hj (ei.trans ej)
  · have := (a3 k x hx).lt
    omega
theorem xTabs_k {E : CE} {ad : Nat → Nat} {made wn : Nat} {all : Nat → Option Nat} {wb : Nat → Int32} {ts : List Tab} {H H1 : Heap} {ws : va_W} (h : xTabs E ad made all wn wb ts H) (hL : adL ad ws) (hk : ∀ q : Nat, q < H.size → ¬ va_A ws H.size q → H1[q]? = H[q]?) : xTabs E ad made all wn wb ts H1 :=
  ⟨h.1, h.2.1, h.2.2.1, h.2.2.2.1, fun i hi => xTab_k (h.2.2.2.2 i hi) hL hk⟩
/-- other places are listed, which lie apart from the tables -/
theorem xTabs_re {E : CE} {ad ad' : Nat → Nat} {made wn : Nat} {all : Nat → Option Nat} {wb : Nat → Int32} {ts : List Tab} {H H1 : Heap} {ws : va_W} (h : xTabs E ad made all wn wb ts H) (hL : adL ad ws) (hk : ∀ q : Nat, q < H.size → ¬ va_A ws H.size q → H1[q]? = H[q]?) (ha : ∀ i, i ≠ 20 → (∃ j, j ≠ 20 ∧ ad' i = ad j) ∨ H.size ≤ ad' i) : xTabs E ad' made all wn wb ts H1 := by
  refine ⟨h.1, h.2.1, h.2.2.1, h.2.2.2.1, fun i hi => ?_⟩
  obtain ⟨q, f, a1, a2, a3, a4⟩ := h.2.2.2.2 i hi
  refine ⟨q, f, a1, fun i hi j hj e9 => ?_, a3.kept (fun k x hx => hk x.1 ((a3 k x hx).lt) (fun hA => ?_)), a4⟩
  · rcases ha i hi with ⟨j', h1, h2⟩ | h1
    · exact a2 j' h1 j hj (h2.symm.trans e9)
    · obtain ⟨e8, h8⟩ := tw_get (E := E) (q := q) (cols := tCols (ts.getD _ ([], []))) (rows := tRows (ts.getD _ ([], []))) (f := f) hj
      have h9 : q j < H.size := (a3 j _ h8).lt
      omega
  · rcases hA with ⟨k', e, hk'⟩ | hA
    · obtain ⟨j, hj, ej⟩ := tw_adr hx
      obtain ⟨i, hi, ei⟩ := hL _ (List.mem_of_getElem? hk')
      exact a2 i (by omega) j hj (ei.trans ej)
    · have := (a3 k x hx).lt
      omega
theorem law_re {E : CE} {ad : Nat → Nat} {made wn : Nat} {all : Nat → Option Nat} {wb : Nat → Int32} {ts : List Tab} {H H1 : Heap} {ws ws2 : va_W} (bs : List Nat) (h : xTabs E ad made all wn wb ts H) (hw : adL ad ws) (hb : ∀ a ∈ bs, adP ad a) (hk : ∀ q : Nat, q < H.size → ¬ va_A ws H.size q → H1[q]? = H[q]?) (hD : va_D (va_A ws H.size) ws2) (hP : va_P E.1 ct_cl ws2 H1) (hO : ∀ i, 20 < i → ad i < H.size) (hz : H.size ≤ H1.size) :
    ∃ ad' : Nat → Nat, (∀ i, i ≤ 20 → ad' i = ad i) ∧ (∀ a ∈ bs, adP ad' a) ∧ adL ad' ws2 ∧ (∀ i, 20 < i → ad' i < H1.size) ∧ xTabs E ad' made all wn wb ts H1 := by
  have h1 := xTabs_k h hw hk
  obtain ⟨L, hL⟩ : ∃ L, L = bs ++ ws2.map Prod.fst := ⟨_, rfl⟩
  have hin : ∀ a ∈ L, adP (fun i => if i ≤ 20 then ad i else L.getD (i - 21) (ad 21)) a := by
    intro a ha
    obtain ⟨n, hn, e⟩ := List.mem_iff_getElem.mp ha
    refine ⟨21 + n, by omega, ?_⟩
    dsimp only
    rw [if_neg (by omega), Nat.add_sub_cancel_left, List.getD_eq_getElem?_getD, List.getElem?_eq_getElem hn]
    exact e
  have hcl : ∀ i, 20 < i → L.getD (i - 21) (ad 21) ∈ L ∨ L.getD (i - 21) (ad 21) = ad 21 := by
    intro i hi
    rcases Nat.lt_or_ge (i - 21) L.length with q | q
    · rw [List.getD_eq_getElem?_getD, List.getElem?_eq_getElem q]
      exact Or.inl (List.getElem_mem q)
    · rw [List.getD_eq_getElem?_getD, List.getElem?_eq_none q]
      exact Or.inr rfl
  have hmem : ∀ a ∈ L, (∃ j, j ≠ 20 ∧ a = ad j ∧ a < H.size) ∨ (H.size ≤ a ∧ a < H1.size) := by
    intro a ha
    rw [hL] at ha
    rcases List.mem_append.mp ha with q | q
    · obtain ⟨j, hj, e⟩ := hb a q
      exact Or.inl ⟨j, by omega, e.symm, by rw [← e]; exact hO j hj⟩
    · obtain ⟨x, hx, rfl⟩ := List.mem_map.mp q
      obtain ⟨n, hn, e⟩ := List.mem_iff_getElem.mp hx
      have hg : ws2[n]? = some x := by rw [List.getElem?_eq_getElem hn, e]
      have hlt := (hP n x hg).lt
      rcases hD.2 n x hg with ⟨k, e2, hk2⟩ | q2
      · obtain ⟨j, hj, e3⟩ := hw _ (List.mem_of_getElem? hk2)
        have e3 : ad j = x.1 := e3
        exact Or.inl ⟨j, by omega, e3.symm, by rw [← e3]; exact hO j hj⟩
      · exact Or.inr ⟨q2, hlt⟩
  refine ⟨fun i => if i ≤ 20 then ad i else L.getD (i - 21) (ad 21), fun i hi => if_pos hi, fun a ha => hin a (by rw [hL]; exact List.mem_append_left _ ha), fun x hx => hin x.1 (by rw [hL]; exact List.mem_append_right _ (List.mem_map.mpr ⟨x, hx, rfl⟩)), fun i hi => ?_, ?_⟩
  · dsimp only
    rw [if_neg (by omega)]
    rcases hcl i hi with q | q
    · rcases hmem _ q with ⟨j, _, _, h9⟩ | h9
      · omega
      · exact h9.2
    · rw [q]; have := hO 21 (by omega); omega
  · refine xTabs_re h hw hk (fun i hi => ?_)
    by_cases q : i ≤ 20
    · rw [if_pos q]; exact Or.inl ⟨i, hi, rfl⟩
    · rw [if_neg q]
      rcases hcl i (by omega) with q2 | q2
      · rcases hmem _ q2 with ⟨j, h8, h9, _⟩ | h9
        · exact Or.inl ⟨j, h8, h9⟩
        · exact Or.inr h9.1
      · exact Or.inl ⟨21, by omega, q2⟩
theorem xw_ext {E : CE} {ad ad' : Nat → Nat} {F : XF} {O : XO} {S : XS} {T : XT} {P : XP} {R : XR} (h : ∀ i, i ≤ 20 → ad' i = ad i) : xw E ad' F O S T P R = xw E ad F O S T P R := by
  unfold xw
  rw [h 0 (by omega), h 1 (by omega), h 2 (by omega), h 3 (by omega), h 4 (by omega), h 5 (by omega), h 6 (by omega), h 7 (by omega), h 8 (by omega), h 9 (by omega), h 10 (by omega), h 11 (by omega), h 12 (by omega), h 13 (by omega), h 14 (by omega), h 15 (by omega), h 16 (by omega), h 17 (by omega), h 18 (by omega), h 19 (by omega), h 20 (by omega)]
theorem xTabs_swp {E : CE} {ad : Nat → Nat} {made wn : Nat} {all : Nat → Option Nat} {wb : Nat → Int32} {ts : List Tab} {H : Heap} (h : xTabs E ad made all wn wb ts H) : xTabs E (swp ad) made all wn wb ts H := by
  refine ⟨h.1, h.2.1, h.2.2.1, h.2.2.2.1, fun i hi => ?_⟩
  obtain ⟨q, f, a1, a2, a3, a4⟩ := h.2.2.2.2 i hi
  refine ⟨q, f, a1, fun i hi j hj => ?_, a3, a4⟩
  unfold swp
  repeat' split
  · exact a2 18 (by omega) j hj
  · exact a2 19 (by omega) j hj
  · exact a2 16 (by omega) j hj
  · exact a2 17 (by omega) j hj
  · exact a2 i hi j hj
theorem swp_hi {ad : Nat → Nat} {i : Nat} (h : 20 ≤ i ∨ i = 0) : swp ad i = ad i := by
  unfold swp
  rw [if_neg (by omega), if_neg (by omega), if_neg (by omega), if_neg (by omega)]
theorem law_ok {E : CE} {ad : Nat → Nat} {made wn : Nat} {all : Nat → Option Nat} {wb : Nat → Int32} {ts : List Tab} {H : Heap} (h : xTabs E ad made all wn wb ts H) {t : Int32} : ∀ tb, tabOf ts t = some tb → ∀ j, j < tCols tb → (laneT (tCols tb) (tRows tb) (cellW tb) j) ≠ 8 → ∀ r, r < tRows tb → valOK (laneT (tCols tb) (tRows tb) (cellW tb) j) (cellW tb (tCols tb * r + j)) := by
  intro tb htb j hj hl r hr
  have hok : tabOK tb := by
    unfold tabOf at htb
    split at htb
    · rename_i hc
      cases htb
      obtain ⟨q, f, a1, a2, a3, a4, a5⟩ := h.2.2.2.2 (t.toInt.toNat - 1) (by have := h.1; omega)
      exact a5
    · cases htb
  obtain ⟨h1, h2, h3, h4, h5⟩ := hok
  have hk := lane_tk hl hr
  exact val_ok hk.2 hk.1 (h5 _ (cellW_mem (by rw [h3]; exact ix_lt hj hr))).1
/-- the tray holds bytes -/
def bytT (tray : Nat → Int32) : Prop := ∀ j, ∃ n, n < 256 ∧ tray j = (nI n).toInt8.toInt32
theorem byt_0 : bytT (fun _ => 0) := fun _ => ⟨0, by decide, rfl⟩
theorem byt_n (x : Int32) : ∃ n, n < 256 ∧ vp_nar .byte x.toInt8.toInt32 = (nI n).toInt8.toInt32 := by
  have e : x.toInt8 = (nI (x.toBitVec.toNat % 256)).toInt8 := by
    apply Int8.toBitVec_inj.mp
    apply BitVec.eq_of_toNat_eq
    show (x.toBitVec.signExtend 8).toNat = ((BitVec.ofNat 32 (x.toBitVec.toNat % 256)).signExtend 8).toNat
    rw [BitVec.signExtend_eq_setWidth_of_le _ (by decide), BitVec.signExtend_eq_setWidth_of_le _ (by decide), BitVec.toNat_setWidth, BitVec.toNat_setWidth, BitVec.toNat_ofNat]
    have := x.toBitVec.isLt
    omega
  refine ⟨x.toBitVec.toNat % 256, Nat.mod_lt _ (by decide), ?_⟩
  show x.toInt8.toInt32.toInt8.toInt32 = _
  rw [Int8.toInt8_toInt32, e]
theorem byt_u {tray : Nat → Int32} (h : bytT tray) (n k : Nat) (x : Int32) : bytT (upd tray n (byT x k)) := by
  intro j
  by_cases e : j = n
  · rw [e, upd_s]; exact byt_n _
  · rw [upd_n e]; exact h j
theorem byt_4 {tray : Nat → Int32} (h : bytT tray) (n : Nat) (x : Int32) : bytT (fourT tray n x) := byt_u (byt_u (byt_u (byt_u h _ _ _) _ _ _) _ _ _) _ _ _
theorem byt_f {tray : Nat → Int32} (h : bytT tray) (n : Nat) (a b c d e : Int32) : bytT (feedT tray n a b c d e) := byt_4 (byt_4 (byt_4 (byt_4 (byt_4 h _ _) _ _) _ _) _ _) _ _
theorem tx_of {tray : Nat → Int32} (h : bytT tray) (n : Nat) : ∃ tx, txR tray n tx := by
  obtain ⟨f, hf⟩ := Classical.axiomOfChoice h
  refine ⟨(List.range n).map f, by rw [List.length_map, List.length_range], fun j hj => ?_⟩
  rw [List.getD_eq_getElem?_getD, List.getElem?_map, List.getElem?_range hj]
  exact hf j
theorem law_ex {E : CE} {H : Heap} {x : Nat} {fs : List Value} {ws : va_W} (h : va_P E.1 ct_cl ((x, .inr (16, fs)) :: ws) H) : exC E H x := by
  obtain ⟨r, h1, cell, h2, h3, h4, -⟩ := h 0 _ rfl
  exact ⟨cell, h2, by rw [h4]; rfl, h3⟩
theorem law_20 {E : CE} {A : Nat → Prop} {ad : Nat → Nat} {F : XF} {O : XO} {S : XS} {T : XT} {P : XP} {R : XR} {e : va_E} {Y : va_W} (h : va_D A (xw E ad F O S T P R ++ ((ad 20, e) :: Y))) : ∀ i, i < 20 → ad i ≠ ad 20 := by
  intro i hi e9
  obtain ⟨e1, h1⟩ := xw_get (E := E) (ad := ad) (F := F) (O := O) (S := S) (T := T) (P := P) (R := R) hi
  have h2 : (xw E ad F O S T P R ++ ((ad 20, e) :: Y))[i]? = some (ad i, e1) := by rw [List.getElem?_append_left (show i < (xw E ad F O S T P R).length from hi)]; exact h1
  have := h.1 i 20 _ _ h2 rfl e9
  omega
/-- where the script ends -/
theorem law_gt {L i : Nat} (hL : L < 65536) (hi : i < 65536) : nI L - nI 6 < nI i ↔ L < i + 6 := by
  rw [iZ_n, iZ_n, iZ_sub, Int32.lt_iff_toInt_lt, nI_toInt (by omega)]
  have : (iZ ((L : Int) - (6 : Nat))).toInt = (L : Int) - 6 := by
    unfold iZ
    exact Int32.toInt_ofInt_of_le (by omega) (by omega)
  rw [this]
  omega
theorem law_15 (x : Int32) : ∃ n, n < 16 ∧ x &&& nI 15 = nI n := by
  refine ⟨x.toBitVec.toNat % 16, Nat.mod_lt _ (by decide), ?_⟩
  apply Int32.toBitVec_inj.mp
  apply BitVec.eq_of_toNat_eq
  show (x.toBitVec &&& 15#32).toNat = (BitVec.ofNat 32 (x.toBitVec.toNat % 16)).toNat
  rw [BitVec.toNat_and, show (15#32).toNat = 2 ^ 4 - 1 from rfl, Nat.and_two_pow_sub_one_eq_mod, BitVec.toNat_ofNat]
  omega
