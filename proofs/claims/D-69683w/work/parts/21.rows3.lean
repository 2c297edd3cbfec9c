/-! BASE 4: longs that are numbers -/
set_option maxRecDepth 100000
section
variable {p : Program} {l : Launch} {e : Env} {R : Room} {s : State} {m : MethodId} {args : Array Value} {below : List Frame} {meth : Method} {c : Code} {H : Heap} {locs : List Loc} {cells slots : Nat} {Q : State → Prop}
variable {cc : ByteArray} {pc : Nat} {ls : Array Slot} {rest : List Value}
theorem m_ladd (hx : p.tables.exec = Jvm.exec) (hb : c.code = cc) {i j : Nat} (hdg : decode cc pc = .ok (.ladd, 1))
    (k : W p l e R s m args below meth c H locs cells slots Q (F0 m (pc + 1) ls (.long (lN (i + j)) :: rest))) : W p l e R s m args below meth c H locs cells slots Q (F0 m pc ls (.long (lN j) :: .long (lN i) :: rest)) :=
  lv_ladd hx hb hdg (by rw [lN_add]; exact k)
theorem m_lmul (hx : p.tables.exec = Jvm.exec) (hb : c.code = cc) {i j : Nat} (hdg : decode cc pc = .ok (.lmul, 1))
    (k : W p l e R s m args below meth c H locs cells slots Q (F0 m (pc + 1) ls (.long (lN (i * j)) :: rest))) : W p l e R s m args below meth c H locs cells slots Q (F0 m pc ls (.long (lN j) :: .long (lN i) :: rest)) :=
  lv_lmul hx hb hdg (by rw [lN_mul]; exact k)
theorem m_lsub (hx : p.tables.exec = Jvm.exec) (hb : c.code = cc) {i j : Nat} (hle : j ≤ i) (hdg : decode cc pc = .ok (.lsub, 1))
    (k : W p l e R s m args below meth c H locs cells slots Q (F0 m (pc + 1) ls (.long (lN (i - j)) :: rest))) : W p l e R s m args below meth c H locs cells slots Q (F0 m pc ls (.long (lN j) :: .long (lN i) :: rest)) :=
  lv_lsub hx hb hdg (by rw [lN_sub hle]; exact k)
theorem m_ldiv (hx : p.tables.exec = Jvm.exec) (hb : c.code = cc) {i j : Nat} (hi : i < 9223372036854775808) (h0 : 0 < j) (hj : j < 9223372036854775808) (hdg : decode cc pc = .ok (.ldiv, 1))
    (k : W p l e R s m args below meth c H locs cells slots Q (F0 m (pc + 1) ls (.long (lN (i / j)) :: rest))) : W p l e R s m args below meth c H locs cells slots Q (F0 m pc ls (.long (lN j) :: .long (lN i) :: rest)) :=
  lv_ldiv hx hb hdg (fun q => by have := (pk_lEQ (a := j) (b := 0) (by omega) (by omega)).mp q; omega) (by rw [pk_lDiv (by omega) h0 (by omega)]; exact k)
theorem m_if_lt (hx : p.tables.exec = Jvm.exec) (hb : c.code = cc) {i j : Nat} {off : Int} {tgt : Nat} (hd1 : decode cc pc = .ok (.lcmp, 1)) (hd2 : decode cc (pc + 1) = .ok (.ifCond .lt off, 3)) (ht : ((pc + 1 : Nat) : Int) + off = (tgt : Int)) (hi : i < 9223372036854775808) (hj : j < 9223372036854775808)
    (kt : i < j → W p l e R s m args below meth c H locs cells slots Q (F0 m tgt ls rest)) (kf : j ≤ i → W p l e R s m args below meth c H locs cells slots Q (F0 m (pc + 4) ls rest)) : W p l e R s m args below meth c H locs cells slots Q (F0 m pc ls (.long (lN j) :: .long (lN i) :: rest)) :=
  l_if_lt hx hb hd1 hd2 ht (fun h => kt ((pk_lLT hi hj).mp h)) (fun h => kf ((pk_lLE hj hi).mp h))
theorem m_if_ge (hx : p.tables.exec = Jvm.exec) (hb : c.code = cc) {i j : Nat} {off : Int} {tgt : Nat} (hd1 : decode cc pc = .ok (.lcmp, 1)) (hd2 : decode cc (pc + 1) = .ok (.ifCond .ge off, 3)) (ht : ((pc + 1 : Nat) : Int) + off = (tgt : Int)) (hi : i < 9223372036854775808) (hj : j < 9223372036854775808)
    (kt : j ≤ i → W p l e R s m args below meth c H locs cells slots Q (F0 m tgt ls rest)) (kf : i < j → W p l e R s m args below meth c H locs cells slots Q (F0 m (pc + 4) ls rest)) : W p l e R s m args below meth c H locs cells slots Q (F0 m pc ls (.long (lN j) :: .long (lN i) :: rest)) :=
  l_if_ge hx hb hd1 hd2 ht (fun h => kt ((pk_lLE hj hi).mp h)) (fun h => kf ((pk_lLT hi hj).mp h))
theorem m_if_gt (hx : p.tables.exec = Jvm.exec) (hb : c.code = cc) {i j : Nat} {off : Int} {tgt : Nat} (hd1 : decode cc pc = .ok (.lcmp, 1)) (hd2 : decode cc (pc + 1) = .ok (.ifCond .gt off, 3)) (ht : ((pc + 1 : Nat) : Int) + off = (tgt : Int)) (hi : i < 9223372036854775808) (hj : j < 9223372036854775808)
    (kt : j < i → W p l e R s m args below meth c H locs cells slots Q (F0 m tgt ls rest)) (kf : i ≤ j → W p l e R s m args below meth c H locs cells slots Q (F0 m (pc + 4) ls rest)) : W p l e R s m args below meth c H locs cells slots Q (F0 m pc ls (.long (lN j) :: .long (lN i) :: rest)) :=
  l_if_gt hx hb hd1 hd2 ht (fun h => kt ((pk_lLT hj hi).mp h)) (fun h => kf ((pk_lLE hi hj).mp h))
theorem m_if_le (hx : p.tables.exec = Jvm.exec) (hb : c.code = cc) {i j : Nat} {off : Int} {tgt : Nat} (hd1 : decode cc pc = .ok (.lcmp, 1)) (hd2 : decode cc (pc + 1) = .ok (.ifCond .le off, 3)) (ht : ((pc + 1 : Nat) : Int) + off = (tgt : Int)) (hi : i < 9223372036854775808) (hj : j < 9223372036854775808)
    (kt : i ≤ j → W p l e R s m args below meth c H locs cells slots Q (F0 m tgt ls rest)) (kf : j < i → W p l e R s m args below meth c H locs cells slots Q (F0 m (pc + 4) ls rest)) : W p l e R s m args below meth c H locs cells slots Q (F0 m pc ls (.long (lN j) :: .long (lN i) :: rest)) :=
  l_if_le hx hb hd1 hd2 ht (fun h => kt ((pk_lLE hi hj).mp h)) (fun h => kf ((pk_lLT hj hi).mp h))
theorem m_if_eq (hx : p.tables.exec = Jvm.exec) (hb : c.code = cc) {i j : Nat} {off : Int} {tgt : Nat} (hd1 : decode cc pc = .ok (.lcmp, 1)) (hd2 : decode cc (pc + 1) = .ok (.ifCond .eq off, 3)) (ht : ((pc + 1 : Nat) : Int) + off = (tgt : Int)) (hi : i < 9223372036854775808) (hj : j < 9223372036854775808)
    (kt : i = j → W p l e R s m args below meth c H locs cells slots Q (F0 m tgt ls rest)) (kf : i ≠ j → W p l e R s m args below meth c H locs cells slots Q (F0 m (pc + 4) ls rest)) : W p l e R s m args below meth c H locs cells slots Q (F0 m pc ls (.long (lN j) :: .long (lN i) :: rest)) :=
  l_if_eq hx hb hd1 hd2 ht (fun h => kt ((pk_lEQ hi hj).mp h)) (fun h => kf (fun q => h ((pk_lEQ hi hj).mpr q)))
theorem m_if_ne (hx : p.tables.exec = Jvm.exec) (hb : c.code = cc) {i j : Nat} {off : Int} {tgt : Nat} (hd1 : decode cc pc = .ok (.lcmp, 1)) (hd2 : decode cc (pc + 1) = .ok (.ifCond .ne off, 3)) (ht : ((pc + 1 : Nat) : Int) + off = (tgt : Int)) (hi : i < 9223372036854775808) (hj : j < 9223372036854775808)
    (kt : i ≠ j → W p l e R s m args below meth c H locs cells slots Q (F0 m tgt ls rest)) (kf : i = j → W p l e R s m args below meth c H locs cells slots Q (F0 m (pc + 4) ls rest)) : W p l e R s m args below meth c H locs cells slots Q (F0 m pc ls (.long (lN j) :: .long (lN i) :: rest)) :=
  l_if_ne hx hb hd1 hd2 ht (fun h => kt (fun q => h ((pk_lEQ hi hj).mpr q))) (fun h => kf ((pk_lEQ hi hj).mp h))
end
