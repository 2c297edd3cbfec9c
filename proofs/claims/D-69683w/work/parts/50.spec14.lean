/-! the plain side 14: the calls of the class, plainly; its tables in the heap -/
set_option maxRecDepth 100000
def tabOf (ts : List Tab) (t : Int32) : Option Tab := if 1 ≤ t.toInt ∧ t.toInt ≤ ts.length then some (ts.getD (t.toInt.toNat - 1) ([], [])) else none
def idx (x : Int32) (n : Nat) : Option Nat := if 0 ≤ x.toInt ∧ x.toInt < n then some x.toInt.toNat else none
theorem idx_neg {x : Int32} {n : Nat} (h : x < 0) : idx x n = none := by
  unfold idx
  rw [if_neg (by have := Int32.lt_iff_toInt_lt.mp h; rw [show (0 : Int32).toInt = 0 from rfl] at this; omega)]
theorem idx_big {x : Int32} {n : Nat} (hn : n < 2 ^ 31) (h : nI n ≤ x) : idx x n = none := by
  unfold idx
  rw [if_neg (by have := Int32.le_iff_toInt_le.mp h; rw [nI_toInt hn] at this; omega)]
theorem idx_in {n j : Nat} (hn : n < 2 ^ 31) (h : j < n) : idx (nI j) n = some j := by
  unfold idx
  rw [nI_toInt (by omega), if_pos ⟨by omega, by omega⟩]; rfl
theorem idx_of {x : Int32} {n : Nat} (hn : n < 2 ^ 31) (h1 : ¬ x < 0) (h2 : ¬ nI n ≤ x) : ∃ j, j < n ∧ x = nI j := by
  rcases pk_ix x hn with q | q | q
  · exact absurd q h1
  · exact absurd q h2
  · exact q
def tabOK (tb : Tab) : Prop := (1 ≤ tCols tb ∧ tCols tb ≤ 16) ∧ tRows tb ≤ 499 ∧ tb.2.length = tCols tb * tRows tb ∧ (∀ w ∈ tb.1, 0 < w.1.length ∧ w.1.length ≤ 20) ∧ (∀ w ∈ tb.2, w.1.length ≤ 40 ∧ (w.2 = false → ∀ x ∈ w.1, x ≠ 34 ∧ x ≠ 44))
def totT (ts : List Tab) : Nat := (ts.map (fun tb => tot tb.1 + tot tb.2)).sum
theorem totT_snoc (ts : List Tab) (tb : Tab) : totT (ts ++ [tb]) = totT ts + (tot tb.1 + tot tb.2) := by
  unfold totT; rw [List.map_append, List.sum_append]; simp
/-- the class's tables -/
def xTab (E : CE) (ad : Nat → Nat) (wn : Nat) (wb : Nat → Int32) (r : Option Nat) (tb : Tab) (H : Heap) : Prop := ∃ (q : Nat → Nat) (f : Nat → Nat → Int32), r = some (q 0) ∧ apT ad q ∧ va_P E.1 ct_cl (tw E q (tCols tb) (tRows tb) f) H ∧ tNum tb wb wn f ∧ tabOK tb
def xTabs (E : CE) (ad : Nat → Nat) (made : Nat) (all : Nat → Option Nat) (wn : Nat) (wb : Nat → Int32) (ts : List Tab) (H : Heap) : Prop := made = ts.length ∧ made ≤ 40 ∧ wn = totT ts ∧ wn ≤ 65536 ∧ ∀ i, i < made → xTab E ad wn wb (all (i + 1)) (ts.getD i ([], [])) H
theorem xTabs_get {E : CE} {ad : Nat → Nat} {made wn x : Nat} {all : Nat → Option Nat} {wb : Nat → Int32} {ts : List Tab} {H : Heap} {t : Int32} (h : xTabs E ad made all wn wb ts H) (hx : fndV made all t = some x) : ∃ (tb : Tab) (q : Nat → Nat) (f : Nat → Nat → Int32), x = q 0 ∧ tabOf ts t = some tb ∧ apT ad q ∧ va_P E.1 ct_cl (tw E q (tCols tb) (tRows tb) f) H ∧ tNum tb wb wn f ∧ tabOK tb := by
  obtain ⟨h1, h2, h3, h4, h5⟩ := h
  unfold fndV at hx
  split at hx
  · rename_i hr
    obtain ⟨q, f, a1, a2, a3, a4, a5⟩ := h5 (t.toInt.toNat - 1) (by omega)
    rw [show t.toInt.toNat - 1 + 1 = t.toInt.toNat by omega, hx] at a1
    exact ⟨_, q, f, Option.some.inj a1, by unfold tabOf; rw [if_pos (by omega)], a2, a3, a4, a5⟩
  · cases hx
theorem xTabs_none {E : CE} {ad : Nat → Nat} {made wn : Nat} {all : Nat → Option Nat} {wb : Nat → Int32} {ts : List Tab} {H : Heap} {t : Int32} (h : xTabs E ad made all wn wb ts H) (hx : fndV made all t = none) : tabOf ts t = none := by
  obtain ⟨h1, h2, h3, h4, h5⟩ := h
  unfold fndV at hx
  split at hx
  · rename_i hr
    obtain ⟨q, f, a1, a2⟩ := h5 (t.toInt.toNat - 1) (by omega)
    rw [show t.toInt.toNat - 1 + 1 = t.toInt.toNat by omega, hx] at a1
    cases a1
  · rename_i hr
    unfold tabOf
    rw [if_neg (by omega)]
theorem xTab_kept {E : CE} {ad : Nat → Nat} {wn : Nat} {r : Option Nat} {wb : Nat → Int32} {tb : Tab} {H H1 : Heap} {F : XF} {O : XO} {S : XS} {T : XT} {P : XP} {R : XR} {sz : Nat} (h : xTab E ad wn wb r tb H) (hsz : H.size = sz) (hk : ∀ q : Nat, q < H.size → ¬ va_A (xw E ad F O S T P R) sz q → H1[q]? = H[q]?) : xTab E ad wn wb r tb H1 := by
  obtain ⟨q, f, a1, a2, a3, a4⟩ := h
  refine ⟨q, f, a1, a2, a3.kept (fun k x hx => hk x.1 ((a3 k x hx).lt) (fun hA => ?_)), a4⟩
  rcases hA with ⟨k', e, hk'⟩ | hA
  · obtain ⟨j, hj, ej⟩ := tw_adr hx
    obtain ⟨i, hi, ei⟩ := xw_adr hk'
    exact a2 i (by omega) j hj (ei.symm.trans ej)
  · have := (a3 k x hx).lt
    omega
theorem xTabs_kept {E : CE} {ad : Nat → Nat} {made wn : Nat} {all : Nat → Option Nat} {wb : Nat → Int32} {ts : List Tab} {H H1 : Heap} {F : XF} {O : XO} {S : XS} {T : XT} {P : XP} {R : XR} {sz : Nat} (h : xTabs E ad made all wn wb ts H) (hsz : H.size = sz) (hk : ∀ q : Nat, q < H.size → ¬ va_A (xw E ad F O S T P R) sz q → H1[q]? = H[q]?) : xTabs E ad made all wn wb ts H1 :=
  ⟨h.1, h.2.1, h.2.2.1, h.2.2.2.1, fun i hi => xTab_kept (h.2.2.2.2 i hi) hsz hk⟩
theorem tNum_keep {tb : Tab} {wb wb2 : Nat → Int32} {wn wn2 : Nat} {f : Nat → Nat → Int32} (h : tNum tb wb wn f) (hk : keepT wb wn wb2) (hw : wn ≤ wn2) : tNum tb wb2 wn2 f := ⟨TD_keep h.1 hk hw, TD_keep h.2.1 hk hw, h.2.2⟩
theorem gD_lt {ts : List Tab} {tb : Tab} {i : Nat} (h : i < ts.length) : (ts ++ [tb]).getD i ([], []) = ts.getD i ([], []) := gD_l h
/-- a table more -/
theorem xTabs_add {E : CE} {ad : Nat → Nat} {made wn : Nat} {all : Nat → Option Nat} {wb wb2 : Nat → Int32} {ts : List Tab} {tb : Tab} {H : Heap} {q : Nat → Nat} {f : Nat → Nat → Int32} (h : xTabs E ad made all wn wb ts H) (hm : made < 40) (hw : wn + (tot tb.1 + tot tb.2) ≤ 65536) (hk : keepT wb wn wb2) (hq : apT ad q) (hP : va_P E.1 ct_cl (tw E q (tCols tb) (tRows tb) f) H) (hn : tNum tb wb2 (wn + (tot tb.1 + tot tb.2)) f) (ho : tabOK tb) : xTabs E ad (made + 1) (va_up all (made + 1) (some (q 0))) (wn + (tot tb.1 + tot tb.2)) wb2 (ts ++ [tb]) H := by
  obtain ⟨h1, h2, h3, h4, h5⟩ := h
  refine ⟨by rw [List.length_append, h1]; rfl, by omega, by rw [totT_snoc, h3], hw, fun i hi => ?_⟩
  by_cases e : i = made
  · rw [e, show va_up all (made + 1) (some (q 0)) (made + 1) = some (q 0) from if_pos rfl, show (ts ++ [tb]).getD made ([], []) = tb from by rw [gD_r (by omega), h1, Nat.sub_self]; rfl]
    exact ⟨q, f, rfl, hq, hP, hn, ho⟩
  · rw [show va_up all (made + 1) (some (q 0)) (i + 1) = all (i + 1) from if_neg (by omega), gD_lt (by omega)]
    obtain ⟨q', f', a1, a2, a3, a4, a5⟩ := h5 i (by omega)
    exact ⟨q', f', a1, a2, a3, tNum_keep a4 hk (by omega), a5⟩
/-! the answers -/
def rowsS (ts : List Tab) (t : Int32) : Int32 := match tabOf ts t with | none => -14 | some tb => nI (tRows tb)
def colsS (ts : List Tab) (t : Int32) : Int32 := match tabOf ts t with | none => -14 | some tb => nI (tCols tb)
def laneS (ts : List Tab) (t c : Int32) : Int32 := match tabOf ts t with
  | none => -14
  | some tb => match idx c (tCols tb) with | none => -2 | some j => nI (laneT (tCols tb) (tRows tb) (cellW tb) j)
def ixO (cols rows : Nat) (c r : Int32) : Option Nat := match idx c cols with
  | none => none
  | some j => match idx r rows with | none => none | some k => some (cols * k + j)
def ixI (o : Option Nat) : Int32 := match o with | none => -1 | some k => nI k
def cellS (ts : List Tab) (t c r : Int32) : Option (Tab × Nat × Nat) := match tabOf ts t with
  | none => none
  | some tb => match idx c (tCols tb) with
    | none => none
    | some j => match idx r (tRows tb) with | none => none | some k => some (tb, j, k)
def wordS (x : Tab × Nat × Nat) : Wd := cellW x.1 (tCols x.1 * x.2.2 + x.2.1)
def lengthS (ts : List Tab) (t c r : Int32) : Int32 := match tabOf ts t with
  | none => -14
  | some _ => match cellS ts t c r with | none => -2 | some x => nI (wordS x).1.length
def missS (ts : List Tab) (t c r : Int32) : Int32 := match cellS ts t c r with | none => 0 | some x => if missW (wordS x) then 1 else 0
def atS (ts : List Tab) (t c r i : Int32) : Int32 := match cellS ts t c r with
  | none => -1
  | some x => match idx i (wordS x).1.length with | none => -1 | some j => nI ((wordS x).1.getD j 0)
def valueS (ts : List Tab) (t c r : Int32) : Int64 := match cellS ts t c r with
  | none => 0
  | some x => colV (laneT (tCols x.1) (tRows x.1) (cellW x.1) x.2.1) (tCols x.1) (tRows x.1) (cellW x.1) x.2.1 x.2.2
def namedS (ts : List Tab) (t : Int32) (tx : List Nat) : Int32 := match tabOf ts t with
  | none => -14
  | some tb => if nmF (nameW tb) tx (tCols tb) 0 < 0 then -2 else nmF (nameW tb) tx (tCols tb) 0
def byT (v : Int32) (k : Nat) : Int32 := vp_nar .byte (v >>> (nI k &&& 31)).toInt8.toInt32
def fourT (tray : Nat → Int32) (n : Nat) (v : Int32) : Nat → Int32 := upd (upd (upd (upd tray n (byT v 24)) (n + 1) (byT v 16)) (n + 2) (byT v 8)) (n + 3) (byT v 0)
def feedT (tray : Nat → Int32) (n : Nat) (a b c d e : Int32) : Nat → Int32 := fourT (fourT (fourT (fourT (fourT tray n a) (n + 4) b) (n + 8) c) (n + 12) d) (n + 16) e
abbrev feedOK (n fed : Nat) : Prop := n + 20 ≤ 16000 ∧ fed + 20 ≤ 65536
def endS (n : Nat) (x : Int32) : Nat × Int32 := if 0 ≤ x.toInt ∧ x.toInt ≤ n then (x.toInt.toNat, x) else (n, -1)
def pkR (picked : Nat → Int64) (pcnt : Nat) (pk : List Nat) : Prop := pcnt = pk.length ∧ pk.length ≤ 499 ∧ (∀ j, j < pk.length → picked j = lN (pk.getD j 0)) ∧ ∀ x ∈ pk, x < 2147483648
def rowS (pk : List Nat) (r : Int32) : List Nat × Int32 := if 0 ≤ r.toInt ∧ pk.length ≠ 499 then (pk ++ [r.toInt.toNat], nI (pk.length + 1)) else (pk, -1)
def outS (o : List Nat) (i : Int32) : Int32 := match idx i o.length with | none => -1 | some j => nI (o.getD j 0)
def outX (ob : Nat → Int32) (on : Nat) (o : List Nat) : Prop := on = o.length ∧ o.length ≤ 30000 ∧ (∀ j, j < on → ob j = nI (o.getD j 0)) ∧ ∀ x ∈ o, x < 128
theorem ex_keep {E : CE} {s : State} {A : Nat → Prop} {H : Heap} {locs : List Loc} {x : Nat} (h : exC E s.heap x) (hN : ¬ A x) (hS : va_S A s.heap H locs) : exC E H x := by
  obtain ⟨cell, h1, h2⟩ := h
  exact exC.kept ⟨cell, h1, h2⟩ (hS.2.1 x (Array.getElem?_eq_some_iff.mp h1).1 hN)
theorem ap20 {E : CE} {s : State} {sz : Nat} {A : Nat → Prop} {ad : Nat → Nat} {F : XF} {O : XO} {S : XS} {T : XT} {P : XP} {R : XR} (hex : exC E s.heap (ad 20)) (hsz : s.heap.size = sz) (h20 : ∀ i, i < 20 → ad i ≠ ad 20) (hAe : va_A (xw E ad F O S T P R) sz = A) : ¬ A (ad 20) := by
  intro hA
  rw [← hAe] at hA
  rcases hA with ⟨k', e, hk'⟩ | hA
  · obtain ⟨i, hi, ei⟩ := xw_adr hk'
    exact h20 i hi ei.symm
  · obtain ⟨cell, h1, -⟩ := hex
    have := (Array.getElem?_eq_some_iff.mp h1).1
    omega
section
variable {p : Program} {l : Launch} {e : Env} {R : Room} {s : State} {m : MethodId} {args : Array Value} {below : List Frame} {meth : Method} {c : Code} {H : Heap} {locs : List Loc} {cells slots : Nat} {Q : State → Prop}
variable {cc : ByteArray} {pc : Nat} {ls : Array Slot} {rest : List Value}
theorem q_astore (hx : p.tables.exec = Jvm.exec) (hb : c.code = cc) {i nL : Nat} {r : Option Nat} {lv lv' : List (Nat × Value)} (hdg : decode cc pc = .ok (.astore i, 2)) (h : lv_has ls nL lv) (hn : i < nL) (hl : (i, va_rf r) :: lv.filter (fun q => !(q.1 == i) && !(q.1 + 1 == i && q.2.category == 2)) = lv')
    (kk : ∀ ls : Array Slot, lv_has ls nL lv' → W p l e R s m args below meth c H locs cells slots Q (F0 m (pc + 2) ls rest)) : W p l e R s m args below meth c H locs cells slots Q (F0 m pc ls (va_rf r :: rest)) := by
  cases r with
  | none => exact lv_astoreN hx hb hdg h hn hl kk
  | some x => exact lv_astore hx hb hdg h hn hl kk
end
