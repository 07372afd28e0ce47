/-! ROWS OF THE LAW'S OWN: comparing two longs that are the same, the script, the array of one long. -/
set_option maxRecDepth 100000
section LR
variable {p : Program} {l : Launch} {e : Env} {R : Room} {s : State} {m : MethodId} {args : Array Value} {below : List Frame} {meth : Method} {c : Code} {H H0 : Heap} {locs : List Loc} {cells slots : Nat} {Q : State → Prop}
variable {cc : ByteArray} {pc : Nat} {ls : Array Slot} {rest : List Value} {g : GT} {a : Nat} {A : Nat → Prop}
theorem gg_lcmp (hexec : p.tables.exec = Jvm.exec) (hb : c.code = cc) {x : Int64} (hdg : decode cc pc = .ok (.lcmp, 1))
    (k : W p l e R s m args below meth c H locs cells slots Q (F0 m (pc + 1) ls (.int 0 :: rest))) : W p l e R s m args below meth c H locs cells slots Q (F0 m pc ls (.long x :: .long x :: rest)) := by
  intro T hT X
  obtain ⟨t, a, b⟩ := k T hT X
  refine ⟨t, ?_, b⟩
  have h1 : ¬ x > x := Int64.lt_irrefl
  jvm_step X.here [X.here.top, hexec, hb, hdg, h1, if_false, beq_self_eq_true, if_true]
  exact a
theorem gg_lald (hx : p.tables.exec = Jvm.exec) (hb : c.code = cc) (hG : GG g s) {f : Nat → Int64} (h : va_at (gD g) bbCl (a, ouA g f) H) (hdg : decode cc pc = .ok (.laload, 1))
    (kk : W p l e R s m args below meth c H locs cells slots Q (F0 m (pc + 1) ls (.long (f 0) :: rest))) : W p l e R s m args below meth c H locs cells slots Q (F0 m pc ls (.int 0 :: .ref a :: rest)) :=
  va_lald hx hb hG.k (P1 h) 0 2 rfl rfl (vp_in_nI (show 0 < 1 by decide) (by decide)) hdg kk
theorem gg_sld (hx : p.tables.exec = Jvm.exec) (hb : c.code = cc) {b L : Nat} {xs : Nat → Int32} (hX : va_X b L xs s s.heap) (hbl : b < s.heap.size) (hbA : ¬ A b) (hS : va_S A s.heap H locs) {i : Int32} (j : Nat) (hj : j < L) (hL : L ≤ 192) (hi : i = nI j) (hdg : decode cc pc = .ok (.iaload, 1))
    (kk : W p l e R s m args below meth c H locs cells slots Q (F0 m (pc + 1) ls (.int (xs j) :: rest))) : W p l e R s m args below meth c H locs cells slots Q (F0 m pc ls (.int i :: .ref b :: rest)) := by
  subst hi
  refine va_sld hx hb hX hbl hbA hS (vp_in_nI hj (by omega)) hdg ?_
  rw [nI_clamp (by omega)]
  exact kk
theorem gg_slen (hx : p.tables.exec = Jvm.exec) (hb : c.code = cc) {b L : Nat} {xs : Nat → Int32} (hX : va_X b L xs s s.heap) (hbl : b < s.heap.size) (hbA : ¬ A b) (hS : va_S A s.heap H locs) (hdg : decode cc pc = .ok (.arraylength, 1))
    (kk : W p l e R s m args below meth c H locs cells slots Q (F0 m (pc + 1) ls (.int (nI L) :: rest))) : W p l e R s m args below meth c H locs cells slots Q (F0 m pc ls (.ref b :: rest)) :=
  va_slen hx hb hX hbl hbA hS hdg kk
end LR
theorem sub3 {L i : Nat} (hL : L ≤ 192) (hi : i ≤ 192) : nI L - 3 < nI i ↔ L < i + 3 := by
  have e := pk_sub_toInt (a := L) (b := 3) (by omega) (by omega)
  rw [i_lt, show (3 : Int32) = nI 3 from rfl, e, nI_toInt (by omega)]
  omega
